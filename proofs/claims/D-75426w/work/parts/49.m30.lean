/-! ===== the reference: format ===== -/
set_option maxRecDepth 100000
/-- tx' is tx with L laid from n on -/
def ext (tx : Nat → Int32) (n : Nat) (L : List Int32) (tx' : Nat → Int32) (n' : Nat) : Prop := n' = n + L.length ∧ (∀ k, k < n → tx' k = tx k) ∧ ∀ (k : Nat) (c : Int32), L[k]? = some c → tx' (n + k) = c
theorem ext_nil {tx : Nat → Int32} {n : Nat} : ext tx n [] tx n := ⟨rfl, fun _ _ => rfl, fun k c h => by simp at h⟩
theorem ext.trans {tx tx1 tx2 : Nat → Int32} {n n1 n2 : Nat} {L L2 : List Int32} (h : ext tx n L tx1 n1) (h2 : ext tx1 n1 L2 tx2 n2) : ext tx n (L ++ L2) tx2 n2 := by
  obtain ⟨a1, a2, a3⟩ := h
  obtain ⟨b1, b2, b3⟩ := h2
  refine ⟨by rw [List.length_append]; omega, fun k hk => (b2 k (by omega)).trans (a2 k hk), fun k c hc => ?_⟩
  by_cases hk : k < L.length
  · rw [List.getElem?_append_left hk] at hc
    exact (b2 _ (by omega)).trans (a3 k c hc)
  · rw [List.getElem?_append_right (by omega)] at hc
    have := b3 _ c hc
    rw [← this]
    congr 1
    omega
theorem ext_one {tx : Nat → Int32} {n : Nat} {c d : Int32} (hd : c.toInt8.toInt32.toInt8.toInt32 = d) : ext tx n [d] (va_up tx n c.toInt8.toInt32.toInt8.toInt32) (n + 1) := by
  refine ⟨rfl, fun k hk => up_ne (by omega), fun k x hx => ?_⟩
  have hk : k < 1 := (List.getElem?_eq_some_iff.mp hx).1
  obtain rfl : k = 0 := by omega
  rw [Nat.add_zero, up_same, hd]
  simpa using hx
/-- how many figures, but one; the figures -/
def dgc : Nat → Nat → Nat
  | 0, _ => 0
  | f + 1, m => if m ≤ 9 then 0 else dgc f (m / 10) + 1
def dgs (m : Nat) : Nat → List Int32
  | 0 => [nI (48 + m % 10)]
  | d + 1 => nI (48 + m / 10 ^ (d + 1) % 10) :: dgs m d
theorem dgs_len {m : Nat} : ∀ {d : Nat}, (dgs m d).length = d + 1 := by
  intro d
  induction d with
  | zero => rfl
  | succ d ih => rw [dgs, List.length_cons, ih]
theorem byL_dgc {m : Nat} : ∀ {f p : Nat}, 0 < p → byL m f p = p * 10 ^ dgc f (m / p) := by
  intro f
  induction f with
  | zero => intro p _; rw [byL, dgc, Nat.pow_zero, Nat.mul_one]
  | succ f ih =>
    intro p hp
    rw [byL, dgc]
    by_cases h : m / p ≤ 9
    · rw [if_pos h, if_pos h, Nat.pow_zero, Nat.mul_one]
    · rw [if_neg h, if_neg h, ih (by omega), ← Nat.div_div_eq_div_mul, Nat.pow_succ, Nat.mul_assoc, Nat.mul_comm 10]
theorem figB : ∀ x : Nat, x < 10 → ((lN (48 + x)).toInt32).toInt8.toInt32.toInt8.toInt32 = nI (48 + x) := by decide
theorem digL_ext {m : Nat} : ∀ {d f n : Nat} {tx : Nat → Int32}, d < f → ext tx n (dgs m d) (digL m f (10 ^ d) n tx).2 (digL m f (10 ^ d) n tx).1 := by
  intro d
  induction d with
  | zero =>
    intro f n tx hf
    obtain ⟨f, rfl⟩ : ∃ g, f = g + 1 := ⟨f - 1, by omega⟩
    rw [digL, if_neg (by decide), Nat.pow_zero, Nat.div_one, show (1 : Nat) / 10 = 0 from rfl]
    have e : digL m f 0 (n + 1) (sayB tx n (lN (48 + m % 10)).toInt32) = (n + 1, sayB tx n (lN (48 + m % 10)).toInt32) := by
      cases f with
      | zero => rw [digL]
      | succ f => rw [digL, if_pos rfl]
    rw [e]
    exact ext_one (figB _ (Nat.mod_lt _ (by decide)))
  | succ d ih =>
    intro f n tx hf
    obtain ⟨f, rfl⟩ : ∃ g, f = g + 1 := ⟨f - 1, by omega⟩
    have hp : ¬ 10 ^ (d + 1) = 0 := Nat.pos_iff_ne_zero.mp (Nat.pow_pos (by decide))
    have h10 : 10 ^ (d + 1) / 10 = 10 ^ d := by rw [Nat.pow_succ, Nat.mul_div_cancel _ (by decide)]
    rw [digL, if_neg hp, h10, dgs]
    exact (ext_one (figB _ (Nat.mod_lt _ (by decide)))).trans (ih (by omega))
def numB (v : Int64) (m : Nat) : List Int32 := if 0 ≤ v then dgs m (dgc 10 m) else 45 :: dgs m (dgc 10 m)
theorem dgc_lt {m d : Nat} : ∀ {f : Nat}, m < 10 ^ (d + 1) → dgc f m ≤ d := by
  intro f
  induction f generalizing m d with
  | zero => intro _; exact Nat.zero_le _
  | succ f ih =>
    intro h
    rw [dgc]
    split
    · exact Nat.zero_le _
    · cases d with
      | zero => omega
      | succ d =>
        have := @ih (m / 10) d (by rw [Nat.pow_succ] at h; omega)
        omega
theorem sayN_ext {f1 f2 : Nat} {v : Int64} {m n : Nat} {tx : Nat → Int32} (h1 : f1 = 10) (h2 : f2 = 11) (hm : m < 10 ^ 10) : ext tx n (numB v m) (sayN f1 f2 v m n tx).2 (sayN f1 f2 v m n tx).1 := by
  have hd : dgc 10 m < 11 := by have := dgc_lt (f := 10) (d := 9) hm; omega
  have hb : byL m f1 1 = 10 ^ dgc 10 m := by rw [byL_dgc (by decide), Nat.div_one, Nat.one_mul, h1]
  unfold numB
  by_cases h : 0 ≤ v
  · rw [sayN_p h, if_pos h, hb]
    exact digL_ext (by omega)
  · rw [sayN_m h, if_neg h, hb]
    exact (ext_one (c := 45) (d := 45) (by decide)).trans (digL_ext (by omega))
theorem numB_len {v : Int64} {m : Nat} (hm : m < 10 ^ 10) : (numB v m).length ≤ 11 := by
  have hd := dgc_lt (f := 10) (d := 9) hm
  unfold numB
  split
  · rw [dgs_len]; omega
  · rw [List.length_cons, dgs_len]; omega
def absN (v : Int64) : Nat := v.toInt.natAbs
theorem absN_size {v : Int64} (h1 : -1000000000 ≤ v.toInt) (h2 : v.toInt ≤ 1000000000) : m_size v = lN (absN v) ∧ absN v ≤ 1000000000 := by
  have hb : absN v ≤ 1000000000 := by unfold absN; omega
  refine ⟨Int64.toInt_inj.mp ?_, hb⟩
  rw [lN_toInt (by omega)]
  unfold m_size absN
  split
  · rename_i h
    have := Int64.le_iff_toInt_le.mp h
    have e : (0 : Int64).toInt = 0 := rfl
    omega
  · rename_i h
    have h3 : ¬ 0 ≤ v.toInt := fun q => h (Int64.le_iff_toInt_le.mpr q)
    rw [Int64.toInt_neg, Int.bmod_eq_of_le (by omega) (by omega)]
    omega
def numT (v : Int64) : List Int32 := numB v (absN v)
theorem metX6_saysNumberE (l : Launch) (G : xG) (hG : xGood G) (b : Nat → Nat) (i : Nat → Int32) (j : Nat → Int64) (tx : Nat → Int32) (n : Nat) (v : Int64) (h1 : -1000000000 ≤ v.toInt) (h2 : v.toInt ≤ 1000000000) (hn : n + 12 ≤ 80) : xWm l G yX6_saysNumber (Cond.code yX6_saysNumber cX6_saysNumber 7 none) { frames := 1, locals := 21, cells := 0, slots := 0 } [.ref (b 0), .long v] [(b 0, .inr (5, mF b (va_up i 32 (nI n)) j)), (b 31, .inl (2, 80, .inl tx))] (fun v' w' => v' = none ∧ ∃ (tx' : Nat → Int32) (n' : Nat), w' = [(b 0, .inr (5, mF b (va_up i 32 (nI n')) j)), (b 31, .inl (2, 80, .inl tx'))] ∧ ext tx n (numT v) tx' n') (fun _ _ => False) := by
  obtain ⟨a1, a2⟩ := absN_size h1 h2
  obtain ⟨f1, hf1⟩ : ∃ f, f = 10 := ⟨10, rfl⟩
  obtain ⟨f2, hf2⟩ : ∃ f, f = 11 := ⟨11, rfl⟩
  have hx := sayN_ext (v := v) (n := n) (tx := tx) hf1 hf2 (m := absN v) (by omega)
  by_cases h : 0 ≤ v
  · exact (metX6_saysNumberP l G hG b i j tx f1 f2 n (absN v) hf1 hf2 v (by omega) a1 hn h).imp fun v' w' ⟨e1, e2⟩ => ⟨e1, _, _, e2, hx⟩
  · exact (metX6_saysNumberM l G hG b i j tx f1 f2 n (absN v) hf1 hf2 v (by omega) a1 hn h).imp fun v' w' ⟨e1, e2⟩ => ⟨e1, _, _, e2, hx⟩
def fmtL (r : Nat → Int64) (p : Nat) : List Int32 := [98] ++ numT ((nI p).toInt64) ++ [32] ++ [109] ++ numT (r (6 + 5 * p + 0)) ++ [32] ++ [40] ++ numT (r (6 + 5 * p + 1)) ++ [32] ++ numT (r (6 + 5 * p + 2)) ++ [41] ++ [32] ++ [91] ++ numT (r (6 + 5 * p + 3)) ++ [32] ++ numT (r (6 + 5 * p + 4)) ++ [93]
theorem inb {v lo hi : Int64} {L : Int} (h : m_in v lo hi = true) (h1 : -L ≤ lo.toInt) (h2 : hi.toInt ≤ L) : -L ≤ v.toInt ∧ v.toInt ≤ L := by
  have := in_iff.mp h
  omega
/-- every number of a body is at most a milliard -/
theorem rowB {r : Nat → Int64} (hm : mOK r) (hi : isInQ r = true) {p q : Nat} (hp : p < 3) (hq : q < 5) : -1000000000 ≤ (r (6 + 5 * p + q)).toInt ∧ (r (6 + 5 * p + q)).toInt ≤ 1000000000 := by
  simp only [isInQ, Bool.and_eq_true] at hi
  obtain ⟨⟨⟨⟨⟨⟨⟨⟨⟨⟨⟨a1, a2⟩, a3⟩, a4⟩, a5⟩, a6⟩, a7⟩, a8⟩, a9⟩, b1⟩, b2⟩, b3⟩ := hi
  have c1 := hm.1; have c2 := hm.2.1; have c3 := hm.2.2
  rcases (show p = 0 ∨ p = 1 ∨ p = 2 by omega) with rfl | rfl | rfl <;> rcases (show q = 0 ∨ q = 1 ∨ q = 2 ∨ q = 3 ∨ q = 4 by omega) with rfl | rfl | rfl | rfl | rfl
  · exact ⟨by show _ ≤ (r 6).toInt; omega, by show (r 6).toInt ≤ _; omega⟩
  · exact inb a1 (by decide) (by decide)
  · exact inb a3 (by decide) (by decide)
  · exact inb a2 (by decide) (by decide)
  · exact inb a4 (by decide) (by decide)
  · exact ⟨by show _ ≤ (r 11).toInt; omega, by show (r 11).toInt ≤ _; omega⟩
  · exact inb a5 (by decide) (by decide)
  · exact inb a7 (by decide) (by decide)
  · exact inb a6 (by decide) (by decide)
  · exact inb a8 (by decide) (by decide)
  · exact ⟨by show _ ≤ (r 16).toInt; omega, by show (r 16).toInt ≤ _; omega⟩
  · exact inb a9 (by decide) (by decide)
  · exact inb b2 (by decide) (by decide)
  · exact inb b1 (by decide) (by decide)
  · exact inb b3 (by decide) (by decide)
set_option maxHeartbeats 4000000 in
set_option maxRecDepth 100000 in
theorem metX6_formatG (l : Launch) (G : xG) (hG : xGood G) (b : Nat → Nat) (i : Nat → Int32) (j : Nat → Int64) (r : Nat → Int64) (tx : Nat → Int32) (p : Nat) (hp : p < 3) (hm : mOK r) (hin : isInQ r = true) : xWm l G yX6_format (Cond.code yX6_format cX6_format 2 (some .int)) { frames := 2, locals := 47, cells := 0, slots := 0 } [.ref (b 0), .int (nI p)] [(b 0, .inr (5, mF b i j)), (b 1, .inl (1, 111, .inr (.inl r))), (b 31, .inl (2, 80, .inl tx))] (fun v w' => ∃ (tx' : Nat → Int32) (n' : Nat), v = some (.int (nI n')) ∧ w' = [(b 0, .inr (5, mF b (va_up (va_up i 0 0) 32 (nI n')) j)), (b 1, .inl (1, 111, .inr (.inl r))), (b 31, .inl (2, 80, .inl tx'))] ∧ ext tx 0 (fmtL r p) tx' n') (fun _ _ => False) := by
  intro V hV
  refine xMet_of RX6 hG rfl (by decide) (Nat.le_of_ble_eq_true rfl) fun C hC hQ hX hl hg _ => ?_
  subst hl hg
  obtain ⟨V0, hV0⟩ : ∃ V0, V0 = V := ⟨_, rfl⟩
  obtain ⟨F, hF⟩ : ∃ F, F = xF [(b 0, .inr (5, mF b i j)), (b 1, .inl (1, 111, .inr (.inl r))), (b 31, .inl (2, 80, .inl tx))] := ⟨_, rfl⟩
  refine rn.mono (J := xSt F V0 [(b 0, .inr (5, mF b i j)), (b 1, .inl (1, 111, .inr (.inl r))), (b 31, .inl (2, 80, .inl tx))]) (fun V9 h => by rw [h, hV0, hF]; exact hV.st) ?_
  show rn C (xSt F V0 [(b 0, .inr (5, mF b i j)), (b 1, .inl (1, 111, .inr (.inl r))), (b 31, .inl (2, 80, .inl tx))]) 0 0 0 [(0, .ref (b 0)), (1, .int (nI p))] []
  refine r_aload_n hC 0 dX6_format_0 rfl 1 rfl ?_
  refine r_iload_n hC 1 dX6_format_1 rfl 2 rfl ?_
  refine r_invVw hC kX6 (b 0) [.int (nI p)] [(b 1, .inl (1, 111, .inr (.inl r))), (b 31, .inl (2, 80, .inl tx))] mVX6_noBody q2996 0 rfl (metX6_noBody0 _ _ hG b _ _ p (by omega)) [0] [1, 2] rfl rfl rfl rfl (by decide) ⟨rfl, rfl⟩ 0 0 rfl rfl (Nat.le_of_ble_eq_true rfl) (Nat.le_of_ble_eq_true rfl) rfl (Nat.le_of_ble_eq_true rfl) dX6_format_2 5 rfl (fun v1 w2 h3 => ?_) (fun _ _ h => h.elim)
  obtain ⟨rfl, rfl⟩ := h3
  show rn C (xSt F V0 [(b 1, .inl (1, 111, .inr (.inl r))), (b 31, .inl (2, 80, .inl tx)), (b 0, .inr (5, mF b (va_up i 0 0) j))]) 0 0 5 [(0, .ref (b 0)), (1, .int (nI p))] [.int 0]
  refine r_ifeq hC 10 dX6_format_5 (by decide) 8 rfl (fun _ => ?_) (fun h => absurd h (by decide))
  refine r_aload_n hC 0 dX6_format_10 rfl 11 rfl ?_
  refine r_iconst hC 0 dX6_format_11 ic_0 12 rfl ?_
  refine r_put (J := xSt F V0 [(b 1, .inl (1, 111, .inr (.inl r))), (b 31, .inl (2, 80, .inl tx)), (b 0, .inr (5, mF b (va_up (va_up i 0 0) 32 0) j))]) hC kX6 32 rfl q2785 rfl (fun _ h => h.get 2 rfl) (Nat.le_of_ble_eq_true rfl) rfl rfl dX6_format_12 (fun _ h => h.set 2 _ rfl) 15 rfl ?_
  refine rn.mono (J := xSt F V0 [(b 1, .inl (1, 111, .inr (.inl r))), (b 31, .inl (2, 80, .inl tx)), (b 0, .inr (5, mF b (va_up (va_up i 0 0) 32 (nI 0)) j))]) (fun _ h => h) ?_
  refine r_aload_n hC 0 dX6_format_15 rfl 16 rfl ?_
  refine r_bipush hC 98 dX6_format_16 bp_98 18 rfl ?_
  refine r_invVw hC kX6 (b 0) [.int 98] [(b 1, .inl (1, 111, .inr (.inl r)))] mVX6_says q3286 2 rfl (metX6_says _ _ hG b (va_up i 0 0) j _ 0 (by omega) 98) [2, 1] [0] rfl rfl rfl rfl (by decide) ⟨rfl, rfl⟩ 0 0 rfl rfl (Nat.le_of_ble_eq_true rfl) (Nat.le_of_ble_eq_true rfl) rfl (Nat.le_of_ble_eq_true rfl) dX6_format_18 21 rfl (fun v6 w7 h8 => ?_) (fun _ _ h => h.elim)
  obtain ⟨rfl, rfl⟩ := h8
  show rn C (xSt F V0 [(b 1, .inl (1, 111, .inr (.inl r))), (b 0, .inr (5, mF b (va_up (va_up i 0 0) 32 (nI (0 + 1))) j)), (b 31, .inl (2, 80, .inl (va_up tx 0 (98 : Int32).toInt8.toInt32.toInt8.toInt32)))]) 0 0 21 [(0, .ref (b 0)), (1, .int (nI p))] []
  have hx4 := ext_one (tx := tx) (n := 0) (c := 98) (d := 98) (by decide)
  generalize httx5 : va_up tx 0 (98 : Int32).toInt8.toInt32.toInt8.toInt32 = tx5 at hx4 ⊢
  refine r_aload_n hC 0 dX6_format_21 rfl 22 rfl ?_
  refine r_iload_n hC 1 dX6_format_22 rfl 23 rfl ?_
  refine r_i2l hC ((nI p).toInt64) dX6_format_23 (rfl) 24 rfl ?_
  refine r_invVw hC kX6 (b 0) [.long ((nI p).toInt64)] [(b 1, .inl (1, 111, .inr (.inl r)))] mVX6_saysNumber q3290 1 rfl (metX6_saysNumberE _ _ hG b (va_up i 0 0) j _ (0 + 1) ((nI p).toInt64) (by rw [nIl_toInt (by omega)]; omega) (by rw [nIl_toInt (by omega)]; omega) (by omega)) [1, 2] [0] rfl rfl rfl rfl (by decide) ⟨rfl, rfl⟩ 0 0 rfl rfl (Nat.le_of_ble_eq_true rfl) (Nat.le_of_ble_eq_true rfl) rfl (Nat.le_of_ble_eq_true rfl) dX6_format_24 27 rfl (fun v13 w14 h15 => ?_) (fun _ _ h => h.elim)
  obtain ⟨rfl, tx10, n11, rfl, hx9⟩ := h15
  show rn C (xSt F V0 [(b 1, .inl (1, 111, .inr (.inl r))), (b 0, .inr (5, mF b (va_up (va_up i 0 0) 32 (nI n11)) j)), (b 31, .inl (2, 80, .inl tx10))]) 0 0 27 [(0, .ref (b 0)), (1, .int (nI p))] []
  have hl12 : n11 ≤ 0 + 1 + 11 := by have q1 := hx9.1; have q2 := numB_len (v := (nI p).toInt64) (m := absN ((nI p).toInt64)) (by have := (absN_size (v := (nI p).toInt64) (by rw [nIl_toInt (by omega)]; omega) (by rw [nIl_toInt (by omega)]; omega)).2; omega); change n11 = _ + (numB _ _).length at q1; omega
  refine r_aload_n hC 0 dX6_format_27 rfl 28 rfl ?_
  refine r_bipush hC 32 dX6_format_28 bp_32 30 rfl ?_
  refine r_invVw hC kX6 (b 0) [.int 32] [(b 1, .inl (1, 111, .inr (.inl r)))] mVX6_says q3286 1 rfl (metX6_says _ _ hG b (va_up i 0 0) j _ n11 (by omega) 32) [1, 2] [0] rfl rfl rfl rfl (by decide) ⟨rfl, rfl⟩ 0 0 rfl rfl (Nat.le_of_ble_eq_true rfl) (Nat.le_of_ble_eq_true rfl) rfl (Nat.le_of_ble_eq_true rfl) dX6_format_30 33 rfl (fun v18 w19 h20 => ?_) (fun _ _ h => h.elim)
  obtain ⟨rfl, rfl⟩ := h20
  show rn C (xSt F V0 [(b 1, .inl (1, 111, .inr (.inl r))), (b 0, .inr (5, mF b (va_up (va_up i 0 0) 32 (nI (n11 + 1))) j)), (b 31, .inl (2, 80, .inl (va_up tx10 n11 (32 : Int32).toInt8.toInt32.toInt8.toInt32)))]) 0 0 33 [(0, .ref (b 0)), (1, .int (nI p))] []
  have hx16 := ext_one (tx := tx10) (n := n11) (c := 32) (d := 32) (by decide)
  generalize httx17 : va_up tx10 n11 (32 : Int32).toInt8.toInt32.toInt8.toInt32 = tx17 at hx16 ⊢
  refine r_aload_n hC 0 dX6_format_33 rfl 34 rfl ?_
  refine r_bipush hC 109 dX6_format_34 bp_109 36 rfl ?_
  refine r_invVw hC kX6 (b 0) [.int 109] [(b 1, .inl (1, 111, .inr (.inl r)))] mVX6_says q3286 1 rfl (metX6_says _ _ hG b (va_up i 0 0) j _ (n11 + 1) (by omega) 109) [1, 2] [0] rfl rfl rfl rfl (by decide) ⟨rfl, rfl⟩ 0 0 rfl rfl (Nat.le_of_ble_eq_true rfl) (Nat.le_of_ble_eq_true rfl) rfl (Nat.le_of_ble_eq_true rfl) dX6_format_36 39 rfl (fun v23 w24 h25 => ?_) (fun _ _ h => h.elim)
  obtain ⟨rfl, rfl⟩ := h25
  show rn C (xSt F V0 [(b 1, .inl (1, 111, .inr (.inl r))), (b 0, .inr (5, mF b (va_up (va_up i 0 0) 32 (nI (n11 + 1 + 1))) j)), (b 31, .inl (2, 80, .inl (va_up tx17 (n11 + 1) (109 : Int32).toInt8.toInt32.toInt8.toInt32)))]) 0 0 39 [(0, .ref (b 0)), (1, .int (nI p))] []
  have hx21 := ext_one (tx := tx17) (n := n11 + 1) (c := 109) (d := 109) (by decide)
  generalize httx22 : va_up tx17 (n11 + 1) (109 : Int32).toInt8.toInt32.toInt8.toInt32 = tx22 at hx21 ⊢
  refine r_aload_n hC 0 dX6_format_39 rfl 40 rfl ?_
  refine r_aload_n hC 0 dX6_format_40 rfl 41 rfl ?_
  refine r_get (v := .ref (b 1)) hC kX6 1 rfl q2754 (fun _ h => h.get 1 rfl) rfl dX6_format_41 44 rfl ?_
  refine r_iload_n hC 1 dX6_format_44 rfl 45 rfl ?_
  refine r_iconst hC 0 dX6_format_45 ic_0 46 rfl ?_
  refine r_invSr hC [.int (nI p), .int 0] (.int (nI (6 + 5 * p + 0))) mSX6_at q2711 (metX6_at _ _ hG p 0) (fun _ _ => xIn.nil) ⟨rfl, rfl⟩ 0 0 rfl rfl (Nat.le_of_ble_eq_true rfl) (Nat.le_of_ble_eq_true rfl) rfl (Nat.le_of_ble_eq_true rfl) dX6_format_46 49 rfl ?_
  refine r_lald hC (6 + 5 * p + 0) (xix_n (6 + 5 * p + 0) (by omega) (Nat.le_of_ble_eq_true rfl)) (fun _ h => h.get 0 rfl) (r (6 + 5 * p + 0)) (rfl) dX6_format_49 50 rfl ?_
  refine r_invVw hC kX6 (b 0) [.long (r (6 + 5 * p + 0))] [(b 1, .inl (1, 111, .inr (.inl r)))] mVX6_saysNumber q3290 1 rfl (metX6_saysNumberE _ _ hG b (va_up i 0 0) j _ (n11 + 1 + 1) (r (6 + 5 * p + 0)) (rowB hm hin hp (q := 0) (by decide)).1 (rowB hm hin hp (q := 0) (by decide)).2 (by omega)) [1, 2] [0] rfl rfl rfl rfl (by decide) ⟨rfl, rfl⟩ 0 0 rfl rfl (Nat.le_of_ble_eq_true rfl) (Nat.le_of_ble_eq_true rfl) rfl (Nat.le_of_ble_eq_true rfl) dX6_format_50 53 rfl (fun v30 w31 h32 => ?_) (fun _ _ h => h.elim)
  obtain ⟨rfl, tx27, n28, rfl, hx26⟩ := h32
  show rn C (xSt F V0 [(b 1, .inl (1, 111, .inr (.inl r))), (b 0, .inr (5, mF b (va_up (va_up i 0 0) 32 (nI n28)) j)), (b 31, .inl (2, 80, .inl tx27))]) 0 0 53 [(0, .ref (b 0)), (1, .int (nI p))] []
  have hl29 : n28 ≤ n11 + 1 + 1 + 11 := by have q1 := hx26.1; have q2 := numB_len (v := r (6 + 5 * p + 0)) (m := absN (r (6 + 5 * p + 0))) (by have := (absN_size (v := r (6 + 5 * p + 0)) (rowB hm hin hp (q := 0) (by decide)).1 (rowB hm hin hp (q := 0) (by decide)).2).2; omega); change n28 = _ + (numB _ _).length at q1; omega
  refine r_aload_n hC 0 dX6_format_53 rfl 54 rfl ?_
  refine r_bipush hC 32 dX6_format_54 bp_32 56 rfl ?_
  refine r_invVw hC kX6 (b 0) [.int 32] [(b 1, .inl (1, 111, .inr (.inl r)))] mVX6_says q3286 1 rfl (metX6_says _ _ hG b (va_up i 0 0) j _ n28 (by omega) 32) [1, 2] [0] rfl rfl rfl rfl (by decide) ⟨rfl, rfl⟩ 0 0 rfl rfl (Nat.le_of_ble_eq_true rfl) (Nat.le_of_ble_eq_true rfl) rfl (Nat.le_of_ble_eq_true rfl) dX6_format_56 59 rfl (fun v35 w36 h37 => ?_) (fun _ _ h => h.elim)
  obtain ⟨rfl, rfl⟩ := h37
  show rn C (xSt F V0 [(b 1, .inl (1, 111, .inr (.inl r))), (b 0, .inr (5, mF b (va_up (va_up i 0 0) 32 (nI (n28 + 1))) j)), (b 31, .inl (2, 80, .inl (va_up tx27 n28 (32 : Int32).toInt8.toInt32.toInt8.toInt32)))]) 0 0 59 [(0, .ref (b 0)), (1, .int (nI p))] []
  have hx33 := ext_one (tx := tx27) (n := n28) (c := 32) (d := 32) (by decide)
  generalize httx34 : va_up tx27 n28 (32 : Int32).toInt8.toInt32.toInt8.toInt32 = tx34 at hx33 ⊢
  refine r_aload_n hC 0 dX6_format_59 rfl 60 rfl ?_
  refine r_bipush hC 40 dX6_format_60 bp_40 62 rfl ?_
  refine r_invVw hC kX6 (b 0) [.int 40] [(b 1, .inl (1, 111, .inr (.inl r)))] mVX6_says q3286 1 rfl (metX6_says _ _ hG b (va_up i 0 0) j _ (n28 + 1) (by omega) 40) [1, 2] [0] rfl rfl rfl rfl (by decide) ⟨rfl, rfl⟩ 0 0 rfl rfl (Nat.le_of_ble_eq_true rfl) (Nat.le_of_ble_eq_true rfl) rfl (Nat.le_of_ble_eq_true rfl) dX6_format_62 65 rfl (fun v40 w41 h42 => ?_) (fun _ _ h => h.elim)
  obtain ⟨rfl, rfl⟩ := h42
  show rn C (xSt F V0 [(b 1, .inl (1, 111, .inr (.inl r))), (b 0, .inr (5, mF b (va_up (va_up i 0 0) 32 (nI (n28 + 1 + 1))) j)), (b 31, .inl (2, 80, .inl (va_up tx34 (n28 + 1) (40 : Int32).toInt8.toInt32.toInt8.toInt32)))]) 0 0 65 [(0, .ref (b 0)), (1, .int (nI p))] []
  have hx38 := ext_one (tx := tx34) (n := n28 + 1) (c := 40) (d := 40) (by decide)
  generalize httx39 : va_up tx34 (n28 + 1) (40 : Int32).toInt8.toInt32.toInt8.toInt32 = tx39 at hx38 ⊢
  refine r_aload_n hC 0 dX6_format_65 rfl 66 rfl ?_
  refine r_aload_n hC 0 dX6_format_66 rfl 67 rfl ?_
  refine r_get (v := .ref (b 1)) hC kX6 1 rfl q2754 (fun _ h => h.get 1 rfl) rfl dX6_format_67 70 rfl ?_
  refine r_iload_n hC 1 dX6_format_70 rfl 71 rfl ?_
  refine r_iconst hC 1 dX6_format_71 ic_1 72 rfl ?_
  refine r_invSr hC [.int (nI p), .int 1] (.int (nI (6 + 5 * p + 1))) mSX6_at q2711 (metX6_at _ _ hG p 1) (fun _ _ => xIn.nil) ⟨rfl, rfl⟩ 0 0 rfl rfl (Nat.le_of_ble_eq_true rfl) (Nat.le_of_ble_eq_true rfl) rfl (Nat.le_of_ble_eq_true rfl) dX6_format_72 75 rfl ?_
  refine r_lald hC (6 + 5 * p + 1) (xix_n (6 + 5 * p + 1) (by omega) (Nat.le_of_ble_eq_true rfl)) (fun _ h => h.get 0 rfl) (r (6 + 5 * p + 1)) (rfl) dX6_format_75 76 rfl ?_
  refine r_invVw hC kX6 (b 0) [.long (r (6 + 5 * p + 1))] [(b 1, .inl (1, 111, .inr (.inl r)))] mVX6_saysNumber q3290 1 rfl (metX6_saysNumberE _ _ hG b (va_up i 0 0) j _ (n28 + 1 + 1) (r (6 + 5 * p + 1)) (rowB hm hin hp (q := 1) (by decide)).1 (rowB hm hin hp (q := 1) (by decide)).2 (by omega)) [1, 2] [0] rfl rfl rfl rfl (by decide) ⟨rfl, rfl⟩ 0 0 rfl rfl (Nat.le_of_ble_eq_true rfl) (Nat.le_of_ble_eq_true rfl) rfl (Nat.le_of_ble_eq_true rfl) dX6_format_76 79 rfl (fun v47 w48 h49 => ?_) (fun _ _ h => h.elim)
  obtain ⟨rfl, tx44, n45, rfl, hx43⟩ := h49
  show rn C (xSt F V0 [(b 1, .inl (1, 111, .inr (.inl r))), (b 0, .inr (5, mF b (va_up (va_up i 0 0) 32 (nI n45)) j)), (b 31, .inl (2, 80, .inl tx44))]) 0 0 79 [(0, .ref (b 0)), (1, .int (nI p))] []
  have hl46 : n45 ≤ n28 + 1 + 1 + 11 := by have q1 := hx43.1; have q2 := numB_len (v := r (6 + 5 * p + 1)) (m := absN (r (6 + 5 * p + 1))) (by have := (absN_size (v := r (6 + 5 * p + 1)) (rowB hm hin hp (q := 1) (by decide)).1 (rowB hm hin hp (q := 1) (by decide)).2).2; omega); change n45 = _ + (numB _ _).length at q1; omega
  refine r_aload_n hC 0 dX6_format_79 rfl 80 rfl ?_
  refine r_bipush hC 32 dX6_format_80 bp_32 82 rfl ?_
  refine r_invVw hC kX6 (b 0) [.int 32] [(b 1, .inl (1, 111, .inr (.inl r)))] mVX6_says q3286 1 rfl (metX6_says _ _ hG b (va_up i 0 0) j _ n45 (by omega) 32) [1, 2] [0] rfl rfl rfl rfl (by decide) ⟨rfl, rfl⟩ 0 0 rfl rfl (Nat.le_of_ble_eq_true rfl) (Nat.le_of_ble_eq_true rfl) rfl (Nat.le_of_ble_eq_true rfl) dX6_format_82 85 rfl (fun v52 w53 h54 => ?_) (fun _ _ h => h.elim)
  obtain ⟨rfl, rfl⟩ := h54
  show rn C (xSt F V0 [(b 1, .inl (1, 111, .inr (.inl r))), (b 0, .inr (5, mF b (va_up (va_up i 0 0) 32 (nI (n45 + 1))) j)), (b 31, .inl (2, 80, .inl (va_up tx44 n45 (32 : Int32).toInt8.toInt32.toInt8.toInt32)))]) 0 0 85 [(0, .ref (b 0)), (1, .int (nI p))] []
  have hx50 := ext_one (tx := tx44) (n := n45) (c := 32) (d := 32) (by decide)
  generalize httx51 : va_up tx44 n45 (32 : Int32).toInt8.toInt32.toInt8.toInt32 = tx51 at hx50 ⊢
  refine r_aload_n hC 0 dX6_format_85 rfl 86 rfl ?_
  refine r_aload_n hC 0 dX6_format_86 rfl 87 rfl ?_
  refine r_get (v := .ref (b 1)) hC kX6 1 rfl q2754 (fun _ h => h.get 1 rfl) rfl dX6_format_87 90 rfl ?_
  refine r_iload_n hC 1 dX6_format_90 rfl 91 rfl ?_
  refine r_iconst hC 2 dX6_format_91 ic_2 92 rfl ?_
  refine r_invSr hC [.int (nI p), .int 2] (.int (nI (6 + 5 * p + 2))) mSX6_at q2711 (metX6_at _ _ hG p 2) (fun _ _ => xIn.nil) ⟨rfl, rfl⟩ 0 0 rfl rfl (Nat.le_of_ble_eq_true rfl) (Nat.le_of_ble_eq_true rfl) rfl (Nat.le_of_ble_eq_true rfl) dX6_format_92 95 rfl ?_
  refine r_lald hC (6 + 5 * p + 2) (xix_n (6 + 5 * p + 2) (by omega) (Nat.le_of_ble_eq_true rfl)) (fun _ h => h.get 0 rfl) (r (6 + 5 * p + 2)) (rfl) dX6_format_95 96 rfl ?_
  refine r_invVw hC kX6 (b 0) [.long (r (6 + 5 * p + 2))] [(b 1, .inl (1, 111, .inr (.inl r)))] mVX6_saysNumber q3290 1 rfl (metX6_saysNumberE _ _ hG b (va_up i 0 0) j _ (n45 + 1) (r (6 + 5 * p + 2)) (rowB hm hin hp (q := 2) (by decide)).1 (rowB hm hin hp (q := 2) (by decide)).2 (by omega)) [1, 2] [0] rfl rfl rfl rfl (by decide) ⟨rfl, rfl⟩ 0 0 rfl rfl (Nat.le_of_ble_eq_true rfl) (Nat.le_of_ble_eq_true rfl) rfl (Nat.le_of_ble_eq_true rfl) dX6_format_96 99 rfl (fun v59 w60 h61 => ?_) (fun _ _ h => h.elim)
  obtain ⟨rfl, tx56, n57, rfl, hx55⟩ := h61
  show rn C (xSt F V0 [(b 1, .inl (1, 111, .inr (.inl r))), (b 0, .inr (5, mF b (va_up (va_up i 0 0) 32 (nI n57)) j)), (b 31, .inl (2, 80, .inl tx56))]) 0 0 99 [(0, .ref (b 0)), (1, .int (nI p))] []
  have hl58 : n57 ≤ n45 + 1 + 11 := by have q1 := hx55.1; have q2 := numB_len (v := r (6 + 5 * p + 2)) (m := absN (r (6 + 5 * p + 2))) (by have := (absN_size (v := r (6 + 5 * p + 2)) (rowB hm hin hp (q := 2) (by decide)).1 (rowB hm hin hp (q := 2) (by decide)).2).2; omega); change n57 = _ + (numB _ _).length at q1; omega
  refine r_aload_n hC 0 dX6_format_99 rfl 100 rfl ?_
  refine r_bipush hC 41 dX6_format_100 bp_41 102 rfl ?_
  refine r_invVw hC kX6 (b 0) [.int 41] [(b 1, .inl (1, 111, .inr (.inl r)))] mVX6_says q3286 1 rfl (metX6_says _ _ hG b (va_up i 0 0) j _ n57 (by omega) 41) [1, 2] [0] rfl rfl rfl rfl (by decide) ⟨rfl, rfl⟩ 0 0 rfl rfl (Nat.le_of_ble_eq_true rfl) (Nat.le_of_ble_eq_true rfl) rfl (Nat.le_of_ble_eq_true rfl) dX6_format_102 105 rfl (fun v64 w65 h66 => ?_) (fun _ _ h => h.elim)
  obtain ⟨rfl, rfl⟩ := h66
  show rn C (xSt F V0 [(b 1, .inl (1, 111, .inr (.inl r))), (b 0, .inr (5, mF b (va_up (va_up i 0 0) 32 (nI (n57 + 1))) j)), (b 31, .inl (2, 80, .inl (va_up tx56 n57 (41 : Int32).toInt8.toInt32.toInt8.toInt32)))]) 0 0 105 [(0, .ref (b 0)), (1, .int (nI p))] []
  have hx62 := ext_one (tx := tx56) (n := n57) (c := 41) (d := 41) (by decide)
  generalize httx63 : va_up tx56 n57 (41 : Int32).toInt8.toInt32.toInt8.toInt32 = tx63 at hx62 ⊢
  refine r_aload_n hC 0 dX6_format_105 rfl 106 rfl ?_
  refine r_bipush hC 32 dX6_format_106 bp_32 108 rfl ?_
  refine r_invVw hC kX6 (b 0) [.int 32] [(b 1, .inl (1, 111, .inr (.inl r)))] mVX6_says q3286 1 rfl (metX6_says _ _ hG b (va_up i 0 0) j _ (n57 + 1) (by omega) 32) [1, 2] [0] rfl rfl rfl rfl (by decide) ⟨rfl, rfl⟩ 0 0 rfl rfl (Nat.le_of_ble_eq_true rfl) (Nat.le_of_ble_eq_true rfl) rfl (Nat.le_of_ble_eq_true rfl) dX6_format_108 111 rfl (fun v69 w70 h71 => ?_) (fun _ _ h => h.elim)
  obtain ⟨rfl, rfl⟩ := h71
  show rn C (xSt F V0 [(b 1, .inl (1, 111, .inr (.inl r))), (b 0, .inr (5, mF b (va_up (va_up i 0 0) 32 (nI (n57 + 1 + 1))) j)), (b 31, .inl (2, 80, .inl (va_up tx63 (n57 + 1) (32 : Int32).toInt8.toInt32.toInt8.toInt32)))]) 0 0 111 [(0, .ref (b 0)), (1, .int (nI p))] []
  have hx67 := ext_one (tx := tx63) (n := n57 + 1) (c := 32) (d := 32) (by decide)
  generalize httx68 : va_up tx63 (n57 + 1) (32 : Int32).toInt8.toInt32.toInt8.toInt32 = tx68 at hx67 ⊢
  refine r_aload_n hC 0 dX6_format_111 rfl 112 rfl ?_
  refine r_bipush hC 91 dX6_format_112 bp_91 114 rfl ?_
  refine r_invVw hC kX6 (b 0) [.int 91] [(b 1, .inl (1, 111, .inr (.inl r)))] mVX6_says q3286 1 rfl (metX6_says _ _ hG b (va_up i 0 0) j _ (n57 + 1 + 1) (by omega) 91) [1, 2] [0] rfl rfl rfl rfl (by decide) ⟨rfl, rfl⟩ 0 0 rfl rfl (Nat.le_of_ble_eq_true rfl) (Nat.le_of_ble_eq_true rfl) rfl (Nat.le_of_ble_eq_true rfl) dX6_format_114 117 rfl (fun v74 w75 h76 => ?_) (fun _ _ h => h.elim)
  obtain ⟨rfl, rfl⟩ := h76
  show rn C (xSt F V0 [(b 1, .inl (1, 111, .inr (.inl r))), (b 0, .inr (5, mF b (va_up (va_up i 0 0) 32 (nI (n57 + 1 + 1 + 1))) j)), (b 31, .inl (2, 80, .inl (va_up tx68 (n57 + 1 + 1) (91 : Int32).toInt8.toInt32.toInt8.toInt32)))]) 0 0 117 [(0, .ref (b 0)), (1, .int (nI p))] []
  have hx72 := ext_one (tx := tx68) (n := n57 + 1 + 1) (c := 91) (d := 91) (by decide)
  generalize httx73 : va_up tx68 (n57 + 1 + 1) (91 : Int32).toInt8.toInt32.toInt8.toInt32 = tx73 at hx72 ⊢
  refine r_aload_n hC 0 dX6_format_117 rfl 118 rfl ?_
  refine r_aload_n hC 0 dX6_format_118 rfl 119 rfl ?_
  refine r_get (v := .ref (b 1)) hC kX6 1 rfl q2754 (fun _ h => h.get 1 rfl) rfl dX6_format_119 122 rfl ?_
  refine r_iload_n hC 1 dX6_format_122 rfl 123 rfl ?_
  refine r_iconst hC 3 dX6_format_123 ic_3 124 rfl ?_
  refine r_invSr hC [.int (nI p), .int 3] (.int (nI (6 + 5 * p + 3))) mSX6_at q2711 (metX6_at _ _ hG p 3) (fun _ _ => xIn.nil) ⟨rfl, rfl⟩ 0 0 rfl rfl (Nat.le_of_ble_eq_true rfl) (Nat.le_of_ble_eq_true rfl) rfl (Nat.le_of_ble_eq_true rfl) dX6_format_124 127 rfl ?_
  refine r_lald hC (6 + 5 * p + 3) (xix_n (6 + 5 * p + 3) (by omega) (Nat.le_of_ble_eq_true rfl)) (fun _ h => h.get 0 rfl) (r (6 + 5 * p + 3)) (rfl) dX6_format_127 128 rfl ?_
  refine r_invVw hC kX6 (b 0) [.long (r (6 + 5 * p + 3))] [(b 1, .inl (1, 111, .inr (.inl r)))] mVX6_saysNumber q3290 1 rfl (metX6_saysNumberE _ _ hG b (va_up i 0 0) j _ (n57 + 1 + 1 + 1) (r (6 + 5 * p + 3)) (rowB hm hin hp (q := 3) (by decide)).1 (rowB hm hin hp (q := 3) (by decide)).2 (by omega)) [1, 2] [0] rfl rfl rfl rfl (by decide) ⟨rfl, rfl⟩ 0 0 rfl rfl (Nat.le_of_ble_eq_true rfl) (Nat.le_of_ble_eq_true rfl) rfl (Nat.le_of_ble_eq_true rfl) dX6_format_128 131 rfl (fun v81 w82 h83 => ?_) (fun _ _ h => h.elim)
  obtain ⟨rfl, tx78, n79, rfl, hx77⟩ := h83
  show rn C (xSt F V0 [(b 1, .inl (1, 111, .inr (.inl r))), (b 0, .inr (5, mF b (va_up (va_up i 0 0) 32 (nI n79)) j)), (b 31, .inl (2, 80, .inl tx78))]) 0 0 131 [(0, .ref (b 0)), (1, .int (nI p))] []
  have hl80 : n79 ≤ n57 + 1 + 1 + 1 + 11 := by have q1 := hx77.1; have q2 := numB_len (v := r (6 + 5 * p + 3)) (m := absN (r (6 + 5 * p + 3))) (by have := (absN_size (v := r (6 + 5 * p + 3)) (rowB hm hin hp (q := 3) (by decide)).1 (rowB hm hin hp (q := 3) (by decide)).2).2; omega); change n79 = _ + (numB _ _).length at q1; omega
  refine r_aload_n hC 0 dX6_format_131 rfl 132 rfl ?_
  refine r_bipush hC 32 dX6_format_132 bp_32 134 rfl ?_
  refine r_invVw hC kX6 (b 0) [.int 32] [(b 1, .inl (1, 111, .inr (.inl r)))] mVX6_says q3286 1 rfl (metX6_says _ _ hG b (va_up i 0 0) j _ n79 (by omega) 32) [1, 2] [0] rfl rfl rfl rfl (by decide) ⟨rfl, rfl⟩ 0 0 rfl rfl (Nat.le_of_ble_eq_true rfl) (Nat.le_of_ble_eq_true rfl) rfl (Nat.le_of_ble_eq_true rfl) dX6_format_134 137 rfl (fun v86 w87 h88 => ?_) (fun _ _ h => h.elim)
  obtain ⟨rfl, rfl⟩ := h88
  show rn C (xSt F V0 [(b 1, .inl (1, 111, .inr (.inl r))), (b 0, .inr (5, mF b (va_up (va_up i 0 0) 32 (nI (n79 + 1))) j)), (b 31, .inl (2, 80, .inl (va_up tx78 n79 (32 : Int32).toInt8.toInt32.toInt8.toInt32)))]) 0 0 137 [(0, .ref (b 0)), (1, .int (nI p))] []
  have hx84 := ext_one (tx := tx78) (n := n79) (c := 32) (d := 32) (by decide)
  generalize httx85 : va_up tx78 n79 (32 : Int32).toInt8.toInt32.toInt8.toInt32 = tx85 at hx84 ⊢
  refine r_aload_n hC 0 dX6_format_137 rfl 138 rfl ?_
  refine r_aload_n hC 0 dX6_format_138 rfl 139 rfl ?_
  refine r_get (v := .ref (b 1)) hC kX6 1 rfl q2754 (fun _ h => h.get 1 rfl) rfl dX6_format_139 142 rfl ?_
  refine r_iload_n hC 1 dX6_format_142 rfl 143 rfl ?_
  refine r_iconst hC 4 dX6_format_143 ic_4 144 rfl ?_
  refine r_invSr hC [.int (nI p), .int 4] (.int (nI (6 + 5 * p + 4))) mSX6_at q2711 (metX6_at _ _ hG p 4) (fun _ _ => xIn.nil) ⟨rfl, rfl⟩ 0 0 rfl rfl (Nat.le_of_ble_eq_true rfl) (Nat.le_of_ble_eq_true rfl) rfl (Nat.le_of_ble_eq_true rfl) dX6_format_144 147 rfl ?_
  refine r_lald hC (6 + 5 * p + 4) (xix_n (6 + 5 * p + 4) (by omega) (Nat.le_of_ble_eq_true rfl)) (fun _ h => h.get 0 rfl) (r (6 + 5 * p + 4)) (rfl) dX6_format_147 148 rfl ?_
  refine r_invVw hC kX6 (b 0) [.long (r (6 + 5 * p + 4))] [(b 1, .inl (1, 111, .inr (.inl r)))] mVX6_saysNumber q3290 1 rfl (metX6_saysNumberE _ _ hG b (va_up i 0 0) j _ (n79 + 1) (r (6 + 5 * p + 4)) (rowB hm hin hp (q := 4) (by decide)).1 (rowB hm hin hp (q := 4) (by decide)).2 (by omega)) [1, 2] [0] rfl rfl rfl rfl (by decide) ⟨rfl, rfl⟩ 0 0 rfl rfl (Nat.le_of_ble_eq_true rfl) (Nat.le_of_ble_eq_true rfl) rfl (Nat.le_of_ble_eq_true rfl) dX6_format_148 151 rfl (fun v93 w94 h95 => ?_) (fun _ _ h => h.elim)
  obtain ⟨rfl, tx90, n91, rfl, hx89⟩ := h95
  show rn C (xSt F V0 [(b 1, .inl (1, 111, .inr (.inl r))), (b 0, .inr (5, mF b (va_up (va_up i 0 0) 32 (nI n91)) j)), (b 31, .inl (2, 80, .inl tx90))]) 0 0 151 [(0, .ref (b 0)), (1, .int (nI p))] []
  have hl92 : n91 ≤ n79 + 1 + 11 := by have q1 := hx89.1; have q2 := numB_len (v := r (6 + 5 * p + 4)) (m := absN (r (6 + 5 * p + 4))) (by have := (absN_size (v := r (6 + 5 * p + 4)) (rowB hm hin hp (q := 4) (by decide)).1 (rowB hm hin hp (q := 4) (by decide)).2).2; omega); change n91 = _ + (numB _ _).length at q1; omega
  refine r_aload_n hC 0 dX6_format_151 rfl 152 rfl ?_
  refine r_bipush hC 93 dX6_format_152 bp_93 154 rfl ?_
  refine r_invVw hC kX6 (b 0) [.int 93] [(b 1, .inl (1, 111, .inr (.inl r)))] mVX6_says q3286 1 rfl (metX6_says _ _ hG b (va_up i 0 0) j _ n91 (by omega) 93) [1, 2] [0] rfl rfl rfl rfl (by decide) ⟨rfl, rfl⟩ 0 0 rfl rfl (Nat.le_of_ble_eq_true rfl) (Nat.le_of_ble_eq_true rfl) rfl (Nat.le_of_ble_eq_true rfl) dX6_format_154 157 rfl (fun v98 w99 h100 => ?_) (fun _ _ h => h.elim)
  obtain ⟨rfl, rfl⟩ := h100
  show rn C (xSt F V0 [(b 1, .inl (1, 111, .inr (.inl r))), (b 0, .inr (5, mF b (va_up (va_up i 0 0) 32 (nI (n91 + 1))) j)), (b 31, .inl (2, 80, .inl (va_up tx90 n91 (93 : Int32).toInt8.toInt32.toInt8.toInt32)))]) 0 0 157 [(0, .ref (b 0)), (1, .int (nI p))] []
  have hx96 := ext_one (tx := tx90) (n := n91) (c := 93) (d := 93) (by decide)
  generalize httx97 : va_up tx90 n91 (93 : Int32).toInt8.toInt32.toInt8.toInt32 = tx97 at hx96 ⊢
  refine r_aload_n hC 0 dX6_format_157 rfl 158 rfl ?_
  refine r_get (v := .int (nI (n91 + 1))) hC kX6 32 rfl q2785 (fun _ h => h.get 1 rfl) rfl dX6_format_158 161 rfl ?_
  exact r_iret hC (Nat.le_of_ble_eq_true rfl) (Nat.le_of_ble_eq_true rfl) (fun V9 h => hQ _ _ ⟨[(b 0, .inr (5, mF b (va_up (va_up i 0 0) 32 (nI (n91 + 1))) j)), (b 1, .inl (1, 111, .inr (.inl r))), (b 31, .inl (2, 80, .inl tx97))], ⟨_, _, rfl, rfl, ((((((((((((((((hx4.trans hx9).trans hx16).trans hx21).trans hx26).trans hx33).trans hx38).trans hx43).trans hx50).trans hx55).trans hx62).trans hx67).trans hx72).trans hx77).trans hx84).trans hx89).trans hx96)⟩, by rw [← hV0, ← hF]; exact (h.sub [1, 0, 2] rfl rfl)⟩) dX6_format_161
set_option maxHeartbeats 4000000 in
set_option maxRecDepth 100000 in
theorem metX6_formatB (l : Launch) (G : xG) (hG : xGood G) (b : Nat → Nat) (i : Nat → Int32) (j : Nat → Int64) (x : Int32) (hx : bI (m_in x.toInt64 0 2) = 0) : xWm l G yX6_format (Cond.code yX6_format cX6_format 2 (some .int)) { frames := 2, locals := 46, cells := 0, slots := 0 } [.ref (b 0), .int x] [(b 0, .inr (5, mF b i j))] (fun v w' => v = some (.int 0) ∧ w' = [(b 0, .inr (5, mF b (va_up i 0 1) j))]) (fun _ _ => False) := by
  intro V hV
  refine xMet_of RX6 hG rfl (by decide) (Nat.le_of_ble_eq_true rfl) fun C hC hQ hX hl hg _ => ?_
  subst hl hg
  obtain ⟨V0, hV0⟩ : ∃ V0, V0 = V := ⟨_, rfl⟩
  obtain ⟨F, hF⟩ : ∃ F, F = xF [(b 0, .inr (5, mF b i j))] := ⟨_, rfl⟩
  refine rn.mono (J := xSt F V0 [(b 0, .inr (5, mF b i j))]) (fun V9 h => by rw [h, hV0, hF]; exact hV.st) ?_
  show rn C (xSt F V0 [(b 0, .inr (5, mF b i j))]) 0 0 0 [(0, .ref (b 0)), (1, .int x)] []
  refine r_aload_n hC 0 dX6_format_0 rfl 1 rfl ?_
  refine r_iload_n hC 1 dX6_format_1 rfl 2 rfl ?_
  refine r_invVw hC kX6 (b 0) [.int x] [] mVX6_noBody q2996 0 rfl (metX6_noBody1 _ _ hG b _ _ x (hx)) [0] [] rfl rfl rfl rfl (by decide) ⟨rfl, rfl⟩ 0 0 rfl rfl (Nat.le_of_ble_eq_true rfl) (Nat.le_of_ble_eq_true rfl) rfl (Nat.le_of_ble_eq_true rfl) dX6_format_2 5 rfl (fun v1 w2 h3 => ?_) (fun _ _ h => h.elim)
  obtain ⟨rfl, rfl⟩ := h3
  show rn C (xSt F V0 [(b 0, .inr (5, mF b (va_up i 0 1) j))]) 0 0 5 [(0, .ref (b 0)), (1, .int x)] [.int 1]
  refine r_ifeq hC 10 dX6_format_5 (by decide) 8 rfl (fun h => absurd h (by decide)) (fun _ => ?_)
  refine r_iconst hC 0 dX6_format_8 ic_0 9 rfl ?_
  exact r_iret hC (Nat.le_of_ble_eq_true rfl) (Nat.le_of_ble_eq_true rfl) (fun V9 h => hQ _ _ ⟨[(b 0, .inr (5, mF b (va_up i 0 1) j))], ⟨rfl, by simp only [bx_uu]⟩, by rw [← hV0, ← hF]; exact h⟩) dX6_format_9
