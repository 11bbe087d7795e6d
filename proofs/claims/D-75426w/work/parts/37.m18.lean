/-! ===== the reference: numbers as text ===== -/
set_option maxRecDepth 100000
def byL (m : Nat) : Nat → Nat → Nat
  | 0, p => p
  | f + 1, p => if m / p ≤ 9 then p else byL m f (p * 10)
def sayB (tx : Nat → Int32) (n : Nat) (c : Int32) : Nat → Int32 := va_up tx n c.toInt8.toInt32.toInt8.toInt32
def digL (m : Nat) : Nat → Nat → Nat → (Nat → Int32) → Nat × (Nat → Int32)
  | 0, _, n, tx => (n, tx)
  | f + 1, p, n, tx => if p = 0 then (n, tx) else digL m f (p / 10) (n + 1) (sayB tx n (lN (48 + m / p % 10)).toInt32)
theorem lN_nz {p : Nat} (h : 0 < p) (hb : p < 2 ^ 31) : ¬ lN p = 0 := fun e => by
  have h2 : lN p ≤ lN 0 := by rw [e]; decide
  have := (lN_le hb (by decide)).mp h2
  omega
set_option maxHeartbeats 4000000 in
set_option maxRecDepth 100000 in
theorem lpX6_by {C : xC} {F : Nat → Prop} {V0 : xV} (hG : xGood (xGG C)) (hC : xCtx C RX6 cX6_saysNumber 7 none { frames := 1, locals := 21, cells := 0, slots := 0 }) (b : Nat → Nat) (i : Nat → Int32) (j : Nat → Int64) (tx : Nat → Int32) (n m : Nat) (hm : m < 2 ^ 31) : ∀ (f p : Nat), 0 < p → p < 2 ^ 31 → m / p < 10 ^ (f + 1) → (rn C (xSt F V0 [(b 0, .inr (5, mF b (va_up i 32 (nI n)) j)), (b 31, .inl (2, 80, .inl tx))]) 0 0 42 [(5, .long (lN (byL m f p))), (3, .long (lN m)), (0, .ref (b 0))] []) → rn C (xSt F V0 [(b 0, .inr (5, mF b (va_up i 32 (nI n)) j)), (b 31, .inl (2, 80, .inl tx))]) 0 0 20 [(5, .long (lN p)), (3, .long (lN m)), (0, .ref (b 0))] [] := by
  intro f
  induction f with
  | zero =>
    intro p hp hpb hf kx
    have hq : m / p ≤ 9 := by omega
    rw [byL] at kx
    refine r_lload_n hC 1 dX6_saysNumber_20 rfl 21 rfl ?_
    refine r_lload hC 0 dX6_saysNumber_21 rfl 23 rfl ?_
    refine r_ldiv hC (lN (m / p)) dX6_saysNumber_23 (lN_nz (by omega) (by omega)) (pk_lDiv (a := m) (b := p) (by omega) (by omega) (by omega)) 24 rfl ?_
    refine r_ldc2 hC q3294 dX6_saysNumber_24 27 rfl ?_
    refine r_lcle hC 42 dX6_saysNumber_27 dX6_saysNumber_28 (by decide) 31 rfl (fun _ => ?_) (fun h => absurd ((lN_le (a := m / p) (b := 9) (Nat.lt_of_le_of_lt (Nat.div_le_self m p) hm) (by decide)).mpr hq) h)
    refine rn.sub (lv' := [(5, .long (lN p)), (3, .long (lN m)), (0, .ref (b 0))]) [0, 1, 2] rfl ?_
    exact kx
  | succ f ih =>
    intro p hp hpb hf kx
    by_cases hq : m / p ≤ 9
    · rw [byL, if_pos hq] at kx
      refine r_lload_n hC 1 dX6_saysNumber_20 rfl 21 rfl ?_
      refine r_lload hC 0 dX6_saysNumber_21 rfl 23 rfl ?_
      refine r_ldiv hC (lN (m / p)) dX6_saysNumber_23 (lN_nz (by omega) (by omega)) (pk_lDiv (a := m) (b := p) (by omega) (by omega) (by omega)) 24 rfl ?_
      refine r_ldc2 hC q3294 dX6_saysNumber_24 27 rfl ?_
      refine r_lcle hC 42 dX6_saysNumber_27 dX6_saysNumber_28 (by decide) 31 rfl (fun _ => ?_) (fun h => absurd ((lN_le (a := m / p) (b := 9) (Nat.lt_of_le_of_lt (Nat.div_le_self m p) hm) (by decide)).mpr hq) h)
      refine rn.sub (lv' := [(5, .long (lN p)), (3, .long (lN m)), (0, .ref (b 0))]) [0, 1, 2] rfl ?_
      exact kx
    · rw [byL, if_neg hq] at kx
      have hp1 : p * 10 < 2 ^ 31 := by
        have h1 : 10 * p ≤ m := (Nat.le_div_iff_mul_le hp).mp (by omega)
        omega
      refine r_lload_n hC 1 dX6_saysNumber_20 rfl 21 rfl ?_
      refine r_lload hC 0 dX6_saysNumber_21 rfl 23 rfl ?_
      refine r_ldiv hC (lN (m / p)) dX6_saysNumber_23 (lN_nz (by omega) (by omega)) (pk_lDiv (a := m) (b := p) (by omega) (by omega) (by omega)) 24 rfl ?_
      refine r_ldc2 hC q3294 dX6_saysNumber_24 27 rfl ?_
      refine r_lcle hC 42 dX6_saysNumber_27 dX6_saysNumber_28 (by decide) 31 rfl (fun h => absurd h (fun e => hq ((lN_le (a := m / p) (b := 9) (Nat.lt_of_le_of_lt (Nat.div_le_self m p) hm) (by decide)).mp e))) (fun _ => ?_)
      refine r_lload hC 0 dX6_saysNumber_31 rfl 33 rfl ?_
      refine r_ldc2 hC q2709 dX6_saysNumber_33 36 rfl ?_
      refine r_lmul hC (lN (p * 10)) dX6_saysNumber_36  (lN_mul p 10) 37 rfl ?_
      refine r_lstore hC 5 [(5, .long (lN (p * 10))), (3, .long (lN m)), (0, .ref (b 0))] dX6_saysNumber_37 (Nat.le_of_ble_eq_true rfl) rfl 39 rfl ?_
      refine r_goto hC 20 dX6_saysNumber_39 (by decide) ?_
      refine rn.sub (lv' := [(5, .long (lN (p * 10))), (3, .long (lN m)), (0, .ref (b 0))]) [0, 1, 2] rfl ?_
      exact ih (p * 10) (by omega) hp1 (by rw [← Nat.div_div_eq_div_mul]; exact Nat.div_lt_of_lt_mul (by rw [Nat.pow_succ] at hf; omega)) kx
set_option maxHeartbeats 4000000 in
set_option maxRecDepth 100000 in
theorem lpX6_dig {C : xC} {F : Nat → Prop} {V0 : xV} (hG : xGood (xGG C)) (hC : xCtx C RX6 cX6_saysNumber 7 none { frames := 1, locals := 21, cells := 0, slots := 0 }) (b : Nat → Nat) (i : Nat → Int32) (j : Nat → Int64) (m : Nat) (hm : m < 2 ^ 31) : ∀ (f p n : Nat) (tx : Nat → Int32), p < 2 ^ 31 → p < 10 ^ f → n + f ≤ 80 → (rn C (xSt F V0 [(b 0, .inr (5, mF b (va_up i 32 (nI ((digL m f p n tx).1))) j)), (b 31, .inl (2, 80, .inl ((digL m f p n tx).2)))]) 0 0 77 [] []) → rn C (xSt F V0 [(b 0, .inr (5, mF b (va_up i 32 (nI n)) j)), (b 31, .inl (2, 80, .inl tx))]) 0 0 42 [(5, .long (lN p)), (3, .long (lN m)), (0, .ref (b 0))] [] := by
  intro f
  induction f with
  | zero =>
    intro p n tx hpb hf hn kx
    obtain rfl : p = 0 := by omega
    rw [digL] at kx
    refine r_lload hC 0 dX6_saysNumber_42 rfl 44 rfl ?_
    refine r_lconst hC 0 dX6_saysNumber_44 lc_0 45 rfl ?_
    refine r_lcle hC 77 dX6_saysNumber_45 dX6_saysNumber_46 (by decide) 49 rfl (fun _ => ?_) (fun h => absurd ((by decide)) h)
    refine rn.sub (lv' := []) [] rfl ?_
    exact kx
  | succ f ih =>
    intro p n tx hpb hf hn kx
    by_cases hq : p = 0
    · subst hq
      rw [digL, if_pos rfl] at kx
      refine r_lload hC 0 dX6_saysNumber_42 rfl 44 rfl ?_
      refine r_lconst hC 0 dX6_saysNumber_44 lc_0 45 rfl ?_
      refine r_lcle hC 77 dX6_saysNumber_45 dX6_saysNumber_46 (by decide) 49 rfl (fun _ => ?_) (fun h => absurd ((by decide)) h)
      refine rn.sub (lv' := []) [] rfl ?_
      exact kx
    · rw [digL, if_neg hq] at kx
      have hp : 0 < p := by omega
      refine r_lload hC 0 dX6_saysNumber_42 rfl 44 rfl ?_
      refine r_lconst hC 0 dX6_saysNumber_44 lc_0 45 rfl ?_
      refine r_lcle hC 77 dX6_saysNumber_45 dX6_saysNumber_46 (by decide) 49 rfl (fun h => absurd h (fun e => hq (Nat.le_zero.mp ((lN_le (a := p) (b := 0) hpb (by decide)).mp e)))) (fun _ => ?_)
      refine r_aload_n hC 2 dX6_saysNumber_49 rfl 50 rfl ?_
      refine r_ldc2 hC q2927 dX6_saysNumber_50 53 rfl ?_
      refine r_lload_n hC 1 dX6_saysNumber_53 rfl 54 rfl ?_
      refine r_lload hC 0 dX6_saysNumber_54 rfl 56 rfl ?_
      refine r_ldiv hC (lN (m / p)) dX6_saysNumber_56 (lN_nz (by omega) (by omega)) (pk_lDiv (a := m) (b := p) (by omega) (by omega) (by omega)) 57 rfl ?_
      refine r_ldc2 hC q2709 dX6_saysNumber_57 60 rfl ?_
      refine r_lrem hC (lN (m / p % 10)) dX6_saysNumber_60 (by decide) (pk_lRem (a := m / p) (b := 10) (Nat.lt_of_le_of_lt (Nat.div_le_self m p) (by omega)) (by decide) (by decide)) 61 rfl ?_
      refine r_ladd hC (lN (48 + (m / p % 10))) dX6_saysNumber_61  (lN_add 48 (m / p % 10)) 62 rfl ?_
      refine r_l2i hC ((lN (48 + (m / p % 10))).toInt32) dX6_saysNumber_62 (rfl) 63 rfl ?_
      refine r_invVw hC kX6 (b 0) [.int ((lN (48 + (m / p % 10))).toInt32)] [] mVX6_says q3286 0 rfl (metX6_says _ _ hG b i j _ n (by omega) ((lN (48 + (m / p % 10))).toInt32)) [0, 1] [] rfl rfl rfl rfl (by decide) ⟨rfl, rfl⟩ 0 0 rfl rfl (Nat.le_of_ble_eq_true rfl) (Nat.le_of_ble_eq_true rfl) rfl (Nat.le_of_ble_eq_true rfl) dX6_saysNumber_63 66 rfl (fun v1 w2 h3 => ?_) (fun _ _ h => h.elim)
      obtain ⟨rfl, rfl⟩ := h3
      show rn C (xSt F V0 [(b 0, .inr (5, mF b (va_up i 32 (nI (n + 1))) j)), (b 31, .inl (2, 80, .inl (sayB tx n ((lN (48 + (m / p % 10))).toInt32))))]) 0 0 66 [(5, .long (lN p)), (3, .long (lN m)), (0, .ref (b 0))] []
      refine r_lload hC 0 dX6_saysNumber_66 rfl 68 rfl ?_
      refine r_ldc2 hC q2709 dX6_saysNumber_68 71 rfl ?_
      refine r_ldiv hC (lN (p / 10)) dX6_saysNumber_71 (by decide) (pk_lDiv (a := p) (b := 10) (by omega) (by omega) (by omega)) 72 rfl ?_
      refine r_lstore hC 5 [(5, .long (lN (p / 10))), (3, .long (lN m)), (0, .ref (b 0))] dX6_saysNumber_72 (Nat.le_of_ble_eq_true rfl) rfl 74 rfl ?_
      refine r_goto hC 42 dX6_saysNumber_74 (by decide) ?_
      refine rn.sub (lv' := [(5, .long (lN (p / 10))), (3, .long (lN m)), (0, .ref (b 0))]) [0, 1, 2] rfl ?_
      exact ih (p / 10) (n + 1) _ (by omega) (by rw [Nat.pow_succ] at hf; omega) (by omega) kx
theorem byL_lt {m : Nat} (hm : m < 2 ^ 31) : ∀ {f p : Nat}, 0 < p → p < 2 ^ 31 → byL m f p < 2 ^ 31 := by
  intro f
  induction f with
  | zero => intro p _ h; exact h
  | succ f ih =>
    intro p hp hpb
    rw [byL]
    by_cases hq : m / p ≤ 9
    · rw [if_pos hq]; exact hpb
    · rw [if_neg hq]
      have h1 : 10 * p ≤ m := (Nat.le_div_iff_mul_le hp).mp (by omega)
      exact ih (by omega) (by omega)
def sayN (f1 f2 : Nat) (v : Int64) (m n : Nat) (tx : Nat → Int32) : Nat × (Nat → Int32) := if 0 ≤ v then digL m f2 (byL m f1 1) n tx else digL m f2 (byL m f1 1) (n + 1) (sayB tx n 45)
theorem sayN_p {f1 f2 : Nat} {v : Int64} {m n : Nat} {tx : Nat → Int32} (h : 0 ≤ v) : sayN f1 f2 v m n tx = digL m f2 (byL m f1 1) n tx := if_pos h
theorem sayN_m {f1 f2 : Nat} {v : Int64} {m n : Nat} {tx : Nat → Int32} (h : ¬ 0 ≤ v) : sayN f1 f2 v m n tx = digL m f2 (byL m f1 1) (n + 1) (sayB tx n 45) := if_neg h
theorem rn_j1 {C : xC} {I : xV → Prop} {k n pc v : Nat} {w : Nat × Value} {x y : Int64} {l : List (Nat × Value)} {st : List Value} (e : x = y) (h : rn C I k n pc (w :: (v, .long y) :: l) st) : rn C I k n pc (w :: (v, .long x) :: l) st := by
  subst e
  exact h
set_option maxHeartbeats 4000000 in
set_option maxRecDepth 100000 in
theorem metX6_saysNumberP (l : Launch) (G : xG) (hG : xGood G) (b : Nat → Nat) (i : Nat → Int32) (j : Nat → Int64) (tx : Nat → Int32) (f1 f2 n m : Nat) (h1 : f1 = 10) (h2 : f2 = 11) (v : Int64) (hm : m < 2 ^ 31) (hv : m_size v = lN m) (hn : n + 12 ≤ 80) (h0 : 0 ≤ v) : xWm l G yX6_saysNumber (Cond.code yX6_saysNumber cX6_saysNumber 7 none) { frames := 1, locals := 21, cells := 0, slots := 0 } [.ref (b 0), .long v] [(b 0, .inr (5, mF b (va_up i 32 (nI n)) j)), (b 31, .inl (2, 80, .inl tx))] (fun v' w' => v' = none ∧ w' = [(b 0, .inr (5, mF b (va_up i 32 (nI ((sayN f1 f2 v m n tx).1))) j)), (b 31, .inl (2, 80, .inl ((sayN f1 f2 v m n tx).2)))]) (fun _ _ => False) := by
  intro V hV
  refine xMet_of RX6 hG rfl (by decide) (Nat.le_of_ble_eq_true rfl) fun C hC hQ hX hl hg _ => ?_
  subst hl hg
  obtain ⟨V0, hV0⟩ : ∃ V0, V0 = V := ⟨_, rfl⟩
  obtain ⟨F, hF⟩ : ∃ F, F = xF [(b 0, .inr (5, mF b (va_up i 32 (nI n)) j)), (b 31, .inl (2, 80, .inl tx))] := ⟨_, rfl⟩
  refine rn.mono (J := xSt F V0 [(b 0, .inr (5, mF b (va_up i 32 (nI n)) j)), (b 31, .inl (2, 80, .inl tx))]) (fun V9 h => by rw [h, hV0, hF]; exact hV.st) ?_
  show rn C (xSt F V0 [(b 0, .inr (5, mF b (va_up i 32 (nI n)) j)), (b 31, .inl (2, 80, .inl tx))]) 0 0 0 [(0, .ref (b 0)), (1, .long v)] []
  refine r_lload_n hC 1 dX6_saysNumber_0 rfl 1 rfl ?_
  refine r_lconst hC 0 dX6_saysNumber_1 lc_0 2 rfl ?_
  refine r_lcge hC 12 dX6_saysNumber_2 dX6_saysNumber_3 (by decide) 6 rfl (fun _ => ?_) (fun h => absurd (h0) h)
  refine r_lload_n hC 1 dX6_saysNumber_12 rfl 13 rfl ?_
  refine r_invSr hC [.long v] (.long (m_size v)) mSX6_size q3209 (metX6_size _ _ hG v) (fun _ _ => xIn.nil) ⟨rfl, rfl⟩ 0 0 rfl rfl (Nat.le_of_ble_eq_true rfl) (Nat.le_of_ble_eq_true rfl) rfl (Nat.le_of_ble_eq_true rfl) dX6_saysNumber_13 16 rfl ?_
  refine r_lstore_n hC 3 [(3, .long (m_size v)), (0, .ref (b 0)), (1, .long v)] dX6_saysNumber_16 rfl (Nat.le_of_ble_eq_true rfl) rfl 17 rfl ?_
  refine r_lconst hC 1 dX6_saysNumber_17 lc_1 18 rfl ?_
  refine r_lstore hC 5 [(5, .long 1), (3, .long (m_size v)), (0, .ref (b 0)), (1, .long v)] dX6_saysNumber_18 (Nat.le_of_ble_eq_true rfl) rfl 20 rfl ?_
  refine rn.sub (lv' := [(5, .long 1), (3, .long (m_size v)), (0, .ref (b 0))]) [0, 1, 2] rfl ?_
  refine rn_j1 (y := lN m) hv ?_
  refine lpX6_by hG hC b i j tx n m hm f1 1 (by decide) (by decide) (by rw [Nat.div_one, h1]; omega) ?_
  refine lpX6_dig hG hC b i j m hm f2 (byL m f1 1) n tx (byL_lt hm (by decide) (by decide)) (by have := byL_lt (f := f1) hm (p := 1) (by decide) (by decide); rw [h2]; omega) (by omega) ?_
  exact r_vret hC (Nat.le_of_ble_eq_true rfl) (Nat.le_of_ble_eq_true rfl) (fun V9 h => hQ _ _ ⟨[(b 0, .inr (5, mF b (va_up i 32 (nI ((digL m f2 (byL m f1 1) n tx).1))) j)), (b 31, .inl (2, 80, .inl ((digL m f2 (byL m f1 1) n tx).2)))], ⟨rfl, by rw [sayN_p h0]⟩, by rw [← hV0, ← hF]; exact h⟩) dX6_saysNumber_77
set_option maxHeartbeats 4000000 in
set_option maxRecDepth 100000 in
theorem metX6_saysNumberM (l : Launch) (G : xG) (hG : xGood G) (b : Nat → Nat) (i : Nat → Int32) (j : Nat → Int64) (tx : Nat → Int32) (f1 f2 n m : Nat) (h1 : f1 = 10) (h2 : f2 = 11) (v : Int64) (hm : m < 2 ^ 31) (hv : m_size v = lN m) (hn : n + 12 ≤ 80) (h0 : ¬ 0 ≤ v) : xWm l G yX6_saysNumber (Cond.code yX6_saysNumber cX6_saysNumber 7 none) { frames := 1, locals := 21, cells := 0, slots := 0 } [.ref (b 0), .long v] [(b 0, .inr (5, mF b (va_up i 32 (nI n)) j)), (b 31, .inl (2, 80, .inl tx))] (fun v' w' => v' = none ∧ w' = [(b 0, .inr (5, mF b (va_up i 32 (nI ((sayN f1 f2 v m n tx).1))) j)), (b 31, .inl (2, 80, .inl ((sayN f1 f2 v m n tx).2)))]) (fun _ _ => False) := by
  intro V hV
  refine xMet_of RX6 hG rfl (by decide) (Nat.le_of_ble_eq_true rfl) fun C hC hQ hX hl hg _ => ?_
  subst hl hg
  obtain ⟨V0, hV0⟩ : ∃ V0, V0 = V := ⟨_, rfl⟩
  obtain ⟨F, hF⟩ : ∃ F, F = xF [(b 0, .inr (5, mF b (va_up i 32 (nI n)) j)), (b 31, .inl (2, 80, .inl tx))] := ⟨_, rfl⟩
  refine rn.mono (J := xSt F V0 [(b 0, .inr (5, mF b (va_up i 32 (nI n)) j)), (b 31, .inl (2, 80, .inl tx))]) (fun V9 h => by rw [h, hV0, hF]; exact hV.st) ?_
  show rn C (xSt F V0 [(b 0, .inr (5, mF b (va_up i 32 (nI n)) j)), (b 31, .inl (2, 80, .inl tx))]) 0 0 0 [(0, .ref (b 0)), (1, .long v)] []
  refine r_lload_n hC 1 dX6_saysNumber_0 rfl 1 rfl ?_
  refine r_lconst hC 0 dX6_saysNumber_1 lc_0 2 rfl ?_
  refine r_lcge hC 12 dX6_saysNumber_2 dX6_saysNumber_3 (by decide) 6 rfl (fun h => absurd h (h0)) (fun _ => ?_)
  refine r_aload_n hC 0 dX6_saysNumber_6 rfl 7 rfl ?_
  refine r_bipush hC 45 dX6_saysNumber_7 bp_45 9 rfl ?_
  refine r_invVw hC kX6 (b 0) [.int 45] [] mVX6_says q3286 0 rfl (metX6_says _ _ hG b i j _ n (by omega) 45) [0, 1] [] rfl rfl rfl rfl (by decide) ⟨rfl, rfl⟩ 0 0 rfl rfl (Nat.le_of_ble_eq_true rfl) (Nat.le_of_ble_eq_true rfl) rfl (Nat.le_of_ble_eq_true rfl) dX6_saysNumber_9 12 rfl (fun v1 w2 h3 => ?_) (fun _ _ h => h.elim)
  obtain ⟨rfl, rfl⟩ := h3
  show rn C (xSt F V0 [(b 0, .inr (5, mF b (va_up i 32 (nI (n + 1))) j)), (b 31, .inl (2, 80, .inl (sayB tx n 45)))]) 0 0 12 [(0, .ref (b 0)), (1, .long v)] []
  refine r_lload_n hC 1 dX6_saysNumber_12 rfl 13 rfl ?_
  refine r_invSr hC [.long v] (.long (m_size v)) mSX6_size q3209 (metX6_size _ _ hG v) (fun _ _ => xIn.nil) ⟨rfl, rfl⟩ 0 0 rfl rfl (Nat.le_of_ble_eq_true rfl) (Nat.le_of_ble_eq_true rfl) rfl (Nat.le_of_ble_eq_true rfl) dX6_saysNumber_13 16 rfl ?_
  refine r_lstore_n hC 3 [(3, .long (m_size v)), (0, .ref (b 0)), (1, .long v)] dX6_saysNumber_16 rfl (Nat.le_of_ble_eq_true rfl) rfl 17 rfl ?_
  refine r_lconst hC 1 dX6_saysNumber_17 lc_1 18 rfl ?_
  refine r_lstore hC 5 [(5, .long 1), (3, .long (m_size v)), (0, .ref (b 0)), (1, .long v)] dX6_saysNumber_18 (Nat.le_of_ble_eq_true rfl) rfl 20 rfl ?_
  refine rn.sub (lv' := [(5, .long 1), (3, .long (m_size v)), (0, .ref (b 0))]) [0, 1, 2] rfl ?_
  refine rn_j1 (y := lN m) hv ?_
  refine lpX6_by hG hC b i j (sayB tx n 45) (n + 1) m hm f1 1 (by decide) (by decide) (by rw [Nat.div_one, h1]; omega) ?_
  refine lpX6_dig hG hC b i j m hm f2 (byL m f1 1) (n + 1) (sayB tx n 45) (byL_lt hm (by decide) (by decide)) (by have := byL_lt (f := f1) hm (p := 1) (by decide) (by decide); rw [h2]; omega) (by omega) ?_
  exact r_vret hC (Nat.le_of_ble_eq_true rfl) (Nat.le_of_ble_eq_true rfl) (fun V9 h => hQ _ _ ⟨[(b 0, .inr (5, mF b (va_up i 32 (nI ((digL m f2 (byL m f1 1) (n + 1) (sayB tx n 45)).1))) j)), (b 31, .inl (2, 80, .inl ((digL m f2 (byL m f1 1) (n + 1) (sayB tx n 45)).2)))], ⟨rfl, by rw [sayN_m h0]⟩, by rw [← hV0, ← hF]; exact h⟩) dX6_saysNumber_77
