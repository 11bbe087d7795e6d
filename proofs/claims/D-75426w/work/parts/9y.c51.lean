/-! ===== the class: Scanner.letters ===== -/
set_option maxRecDepth 100000
theorem bt_let {T : Nat → Int32} {en i : Nat} : btQ T en i 97 122 = (decide (i < en) && letQ (T i)) := by
  unfold btQ letQ; rw [Bool.and_assoc]
theorem let_in {T : Nat → Int32} {en g p : Nat} (hg : g ≤ p) (hp : p < runE letQ T en g) (hge : g ≤ en) : btQ T en p 97 122 = true := by
  rw [bt_let, decide_eq_true (Nat.lt_of_lt_of_le hp (runE_le hge)), run_in _ _ _ hg hp]; rfl
theorem let_out {T : Nat → Int32} {en g : Nat} (hge : g ≤ en) : btQ T en (runE letQ T en g) 97 122 = false := by
  rw [bt_let]
  by_cases h : runE letQ T en g < en
  · rw [show letQ (T (runE letQ T en g)) = false from run_out _ _ (by unfold runE at h; omega)]; simp
  · rw [decide_eq_false h]; rfl
theorem bt_rg {T : Nat → Int32} {en i : Nat} (h : btQ T en i 97 122 = true) : 97 ≤ (T i).toInt ∧ (T i).toInt ≤ 122 := by
  unfold btQ at h
  simp only [Bool.and_eq_true, decide_eq_true_eq] at h
  exact ⟨Int32.le_iff_toInt_le.mp h.1.2, Int32.le_iff_toInt_le.mp h.2⟩
theorem chr_l {c : Int32} (h : 97 ≤ c.toInt ∧ c.toInt ≤ 122) : (c.toUInt32 % 65536).toInt32 = c := by
  apply Int32.toInt_inj.mp
  obtain ⟨h1, h2⟩ := h
  have e : c = Int32.ofInt c.toInt := (Int32.ofInt_toInt c).symm
  generalize c.toInt = z at *
  subst e
  rcases (show z = 97 ∨ z = 98 ∨ z = 99 ∨ z = 100 ∨ z = 101 ∨ z = 102 ∨ z = 103 ∨ z = 104 ∨ z = 105 ∨ z = 106 ∨ z = 107 ∨ z = 108 ∨ z = 109 ∨ z = 110 ∨ z = 111 ∨ z = 112 ∨ z = 113 ∨ z = 114 ∨ z = 115 ∨ z = 116 ∨ z = 117 ∨ z = 118 ∨ z = 119 ∨ z = 120 ∨ z = 121 ∨ z = 122 by omega) with rfl | rfl | rfl | rfl | rfl | rfl | rfl | rfl | rfl | rfl | rfl | rfl | rfl | rfl | rfl | rfl | rfl | rfl | rfl | rfl | rfl | rfl | rfl | rfl | rfl | rfl <;> decide
theorem byt_l {c : Int32} (h : 97 ≤ c.toInt ∧ c.toInt ≤ 122) : c.toInt8.toInt32 = c := by
  apply Int32.toInt_inj.mp
  obtain ⟨h1, h2⟩ := h
  have e : c = Int32.ofInt c.toInt := (Int32.ofInt_toInt c).symm
  generalize c.toInt = z at *
  subst e
  rcases (show z = 97 ∨ z = 98 ∨ z = 99 ∨ z = 100 ∨ z = 101 ∨ z = 102 ∨ z = 103 ∨ z = 104 ∨ z = 105 ∨ z = 106 ∨ z = 107 ∨ z = 108 ∨ z = 109 ∨ z = 110 ∨ z = 111 ∨ z = 112 ∨ z = 113 ∨ z = 114 ∨ z = 115 ∨ z = 116 ∨ z = 117 ∨ z = 118 ∨ z = 119 ∨ z = 120 ∨ z = 121 ∨ z = 122 by omega) with rfl | rfl | rfl | rfl | rfl | rfl | rfl | rfl | rfl | rfl | rfl | rfl | rfl | rfl | rfl | rfl | rfl | rfl | rfl | rfl | rfl | rfl | rfl | rfl | rfl | rfl <;> decide
theorem let_255 {c : Int32} (h : 97 ≤ c.toInt ∧ c.toInt ≤ 122) : c ≤ 255 := by
  rw [Int32.le_iff_toInt_le]
  have h3 : (255 : Int32).toInt = 255 := rfl
  omega
set_option maxHeartbeats 4000000 in
set_option maxRecDepth 100000 in
theorem lpX8_letters {C : xC} {F : Nat → Prop} {V0 : xV} (hG : xGood (xGG C)) (sc tx sy en bg g : Nat) (kd vl : Int32) (wd : Option Nat) (T : Nat → Int32) (hen : en ≤ 600) (sb : Nat) (hge : g ≤ en) (hC : xCtx C RX8 cX8_letters 2 (some (.object "java/lang/String")) { frames := 6, locals := 171, cells := ((runE letQ T en g) - g) + 4, slots := 5 * ((runE letQ T en g) - g) + 36 }) (K0 N0 : Nat) (hK0 : K0 ≤ 2) (hN0 : N0 ≤ 0) (L : Nat) (hL : g + L = (runE letQ T en g)) (kx : ∀ (cap sv : Nat) (f : Nat → Int32), (L ≤ cap ∧ cap ≤ 16 + 2 * L) → fB f cap → (∀ j, j < L → f j = T (g + j)) → rn C (xSt F V0 [(sc, .inr (7, [.ref tx, .int (nI en), .ref sy, .int kd, .int (nI bg), .int (nI (g + L)), .int vl, va_rf wd])), (tx, .inl (2, 600, .inl T)), (sb, .inr (20, [.ref sv, .int 0, .int 0, .int (nI L)])), (sv, .inl (2, cap, .inl f))]) (K0 + L) (N0 + 2 * cap) 51 [(1, .ref sb), (0, .ref sc)] []) : ∀ (d i cap sv : Nat) (f : Nat → Int32), i + d = L → (i ≤ cap ∧ cap ≤ 16 + 2 * i) → cap < 30000 → fB f cap → (∀ j, j < i → f j = T (g + j)) → rn C (xSt F V0 [(sc, .inr (7, [.ref tx, .int (nI en), .ref sy, .int kd, .int (nI bg), .int (nI (g + i)), .int vl, va_rf wd])), (tx, .inl (2, 600, .inl T)), (sb, .inr (20, [.ref sv, .int 0, .int 0, .int (nI i)])), (sv, .inl (2, cap, .inl f))]) (K0 + i) (N0 + 2 * cap) 8 [(1, .ref sb), (0, .ref sc)] [] := by
  have hE := runE_le (P := letQ) (bf := T) hge
  intro d
  induction d with
  | zero =>
    intro i cap sv f hd hcap hc3 hfb hag
    obtain rfl : i = L := by omega
    have hb := let_out (T := T) hge
    rw [← hL] at hb
    have hrg : True := trivial
    refine r_aload_n hC 1 dX8_letters_8 rfl 9 rfl ?_
    refine r_aload_n hC 1 dX8_letters_9 rfl 10 rfl ?_
    refine r_get (v := .int (nI (g + i))) hC kX8 5 rfl q1272 (fun _ h => h.get 0 rfl) rfl dX8_letters_10 13 rfl ?_
    refine r_bipush hC 97 dX8_letters_13 bp_97 15 rfl ?_
    refine r_bipush hC 122 dX8_letters_15 bp_122 17 rfl ?_
    refine xCall.r (r := some (.int 0)) (r_cV hC kX8 sc [.int (nI (g + i)), .int 97, .int 122] mVX8_isBetween q980 (fun _ h => ⟨_, h.get 0 rfl⟩) (fun V9 h9 => (xRm_v (metX8_isBetween _ _ hG sc tx sy en bg (g + i) kd vl wd T hen (g + i) 97 122 (by omega)) (show _ = some (Value.int 0) by rw [hb]; rfl)) V9 (h9.in.sub [0, 1] rfl rfl)) ⟨rfl, rfl⟩ (by first | omega | (dsimp only; omega)) (by first | omega | (dsimp only; omega)) rfl (Nat.le_of_ble_eq_true rfl) dX8_letters_17) ((K0 + i) + 0) ((N0 + 2 * cap) + 0) 20 rfl rfl rfl ?_
    refine r_ifeq hC 51 dX8_letters_20 (by decide) 23 rfl (fun _ => ?_) (fun h => absurd h (by decide))
    exact kx cap sv f hcap hfb hag
  | succ d ih =>
    intro i cap sv f hd hcap hc3 hfb hag
    have hb := let_in (T := T) (g := g) (p := g + i) (by omega) (by omega) hge
    have hlt := bt_lt hb
    have hrg := bt_rg hb
    refine r_aload_n hC 1 dX8_letters_8 rfl 9 rfl ?_
    refine r_aload_n hC 1 dX8_letters_9 rfl 10 rfl ?_
    refine r_get (v := .int (nI (g + i))) hC kX8 5 rfl q1272 (fun _ h => h.get 0 rfl) rfl dX8_letters_10 13 rfl ?_
    refine r_bipush hC 97 dX8_letters_13 bp_97 15 rfl ?_
    refine r_bipush hC 122 dX8_letters_15 bp_122 17 rfl ?_
    refine xCall.r (r := some (.int 1)) (r_cV hC kX8 sc [.int (nI (g + i)), .int 97, .int 122] mVX8_isBetween q980 (fun _ h => ⟨_, h.get 0 rfl⟩) (fun V9 h9 => (xRm_v (metX8_isBetween _ _ hG sc tx sy en bg (g + i) kd vl wd T hen (g + i) 97 122 (by omega)) (show _ = some (Value.int 1) by rw [hb]; rfl)) V9 (h9.in.sub [0, 1] rfl rfl)) ⟨rfl, rfl⟩ (by first | omega | (dsimp only; omega)) (by first | omega | (dsimp only; omega)) rfl (Nat.le_of_ble_eq_true rfl) dX8_letters_17) ((K0 + i) + 0) ((N0 + 2 * cap) + 0) 20 rfl rfl rfl ?_
    refine r_ifeq hC 51 dX8_letters_20 (by decide) 23 rfl (fun h => absurd h (by decide)) (fun _ => ?_)
    refine r_aload_n hC 0 dX8_letters_23 rfl 24 rfl ?_
    refine r_aload_n hC 1 dX8_letters_24 rfl 25 rfl ?_
    refine r_get (v := .ref tx) hC kX8 0 rfl q1263 (fun _ h => h.get 0 rfl) rfl dX8_letters_25 28 rfl ?_
    refine r_aload_n hC 1 dX8_letters_28 rfl 29 rfl ?_
    refine r_get (v := .int (nI (g + i))) hC kX8 5 rfl q1272 (fun _ h => h.get 0 rfl) rfl dX8_letters_29 32 rfl ?_
    refine r_bald hC (g + i) (xix_n (g + i) (by omega) (Nat.le_of_ble_eq_true rfl)) (fun _ h => h.get 1 rfl) (T (g + i)) (rfl) dX8_letters_32 33 rfl ?_
    refine r_i2c hC (T (g + i)) dX8_letters_33 (chr_l hrg) 34 rfl ?_
    by_cases hg9 : i < cap
    · skip
      refine xCall.w (wr := [(sc, .inr (7, [.ref tx, .int (nI en), .ref sy, .int kd, .int (nI bg), .int (nI (g + i)), .int vl, va_rf wd])), (tx, .inl (2, 600, .inl T))]) (r_cV hC kJ6 sb [.int (T (g + i))] mVJ6_append q990 (fun _ h => ⟨_, h.get 2 rfl⟩) (fun V9 h9 => (metJ6_appendA _ _ hG sb sv cap i f 0 (T (g + i)) (let_255 hrg) (by omega) (by omega)) V9 (h9.in.sub [2, 3] rfl rfl)) ⟨rfl, rfl⟩ (by first | omega | (dsimp only; omega)) (by first | omega | (dsimp only; omega)) rfl (Nat.le_of_ble_eq_true rfl) dX8_letters_34) [2, 3] [0, 1] rfl rfl rfl (by decide) (((K0 + i) + 0) + 0) (((N0 + 2 * cap) + 0) + 0) 37 rfl rfl rfl (fun v1 w2 h3 => ?_) (fun _ _ h => h.elim)
      obtain ⟨rfl, rfl⟩ := h3
      show rn C (xSt F V0 [(sc, .inr (7, [.ref tx, .int (nI en), .ref sy, .int kd, .int (nI bg), .int (nI (g + i)), .int vl, va_rf wd])), (tx, .inl (2, 600, .inl T)), (sb, .inr (20, [.ref sv, .int 0, .int 0, .int (nI (i + 1))])), (sv, .inl (2, cap, .inl (va_up f i (T (g + i)).toInt8.toInt32)))]) (((K0 + i) + 0) + 0) (((N0 + 2 * cap) + 0) + 0) 37 [(1, .ref sb), (0, .ref sc)] [.ref sb]
      refine r_pop hC dX8_letters_37 rfl 38 rfl ?_
      refine r_aload_n hC 1 dX8_letters_38 rfl 39 rfl ?_
      refine r_dup hC dX8_letters_39 rfl 40 rfl ?_
      refine r_get (v := .int (nI (g + i))) hC kX8 5 rfl q1272 (fun _ h => h.get 0 rfl) rfl dX8_letters_40 43 rfl ?_
      refine r_iconst hC 1 dX8_letters_43 ic_1 44 rfl ?_
      refine r_iadd hC (nI (g + i + 1)) dX8_letters_44  (nI_add (g + i) 1) 45 rfl ?_
      refine r_put (J := xSt F V0 [(sc, .inr (7, [.ref tx, .int (nI en), .ref sy, .int kd, .int (nI bg), .int (nI (g + i + 1)), .int vl, va_rf wd])), (tx, .inl (2, 600, .inl T)), (sb, .inr (20, [.ref sv, .int 0, .int 0, .int (nI (i + 1))])), (sv, .inl (2, cap, .inl (va_up f i (T (g + i)).toInt8.toInt32)))]) hC kX8 5 rfl q1272 rfl (fun _ h => h.get 0 rfl) (Nat.le_of_ble_eq_true rfl) (rfl) (rfl) dX8_letters_45 (fun _ h => h.set 0 _ rfl) 48 rfl ?_
      refine r_goto hC 8 dX8_letters_48 (by decide) ?_
      refine rn.mono (J := xSt F V0 [(sc, .inr (7, [.ref tx, .int (nI en), .ref sy, .int kd, .int (nI bg), .int (nI (g + i + 1)), .int vl, va_rf wd])), (tx, .inl (2, 600, .inl T)), (sb, .inr (20, [.ref sv, .int 0, .int 0, .int (nI (i + 1))])), (sv, .inl (2, cap, .inl (va_up f i (T (g + i)).toInt8.toInt32)))]) (fun _ h => h.sub [0, 1, 2, 3] rfl rfl) ?_
      refine rn.sub (lv' := [(1, .ref sb), (0, .ref sc)]) [0, 1] rfl ?_
      refine rn.widen (k' := K0 + (i + 1)) (n' := N0 + 2 * (cap)) (by omega) (by omega) ?_
      exact ih (i + 1) (cap) sv (va_up f i (T (g + i)).toInt8.toInt32) (by omega) (by omega) (by omega) (fB_up hfb) (fun j hj => by by_cases e : j = i; (subst e; rw [up_same, byt_l hrg]); (rw [up_ne e]; exact hag j (by omega)))
    · skip
      have hic : i = cap := by omega
      refine xCall.w (wr := [(sc, .inr (7, [.ref tx, .int (nI en), .ref sy, .int kd, .int (nI bg), .int (nI (g + i)), .int vl, va_rf wd])), (tx, .inl (2, 600, .inl T))]) (r_cV hC kJ6 sb [.int (T (g + i))] mVJ6_append q990 (fun _ h => ⟨_, h.get 2 rfl⟩) (fun V9 h9 => (metJ6_appendB _ _ hG sb sv cap i f 0 (T (g + i)) (let_255 hrg) (by omega) hic hfb) V9 (h9.in.sub [2, 3] rfl rfl)) ⟨rfl, rfl⟩ (by first | omega | (dsimp only; omega)) (by first | omega | (dsimp only; omega)) rfl (Nat.le_of_ble_eq_true rfl) dX8_letters_34) [2, 3] [0, 1] rfl rfl rfl (by decide) (((K0 + i) + 0) + 1) (((N0 + 2 * cap) + 0) + (2 * cap + 2)) 37 rfl rfl rfl (fun v8 w9 h10 => ?_) (fun _ _ h => h.elim)
      obtain ⟨q7, rfl, rfl⟩ := h10
      show rn C (xSt F V0 [(sc, .inr (7, [.ref tx, .int (nI en), .ref sy, .int kd, .int (nI bg), .int (nI (g + i)), .int vl, va_rf wd])), (tx, .inl (2, 600, .inl T)), (sb, .inr (20, [.ref q7, .int 0, .int 0, .int (nI (i + 1))])), (q7, .inl (2, 2 * cap + 2, .inl (va_up (va_cpy f zI 0 0 cap) i (T (g + i)).toInt8.toInt32)))]) (((K0 + i) + 0) + 1) (((N0 + 2 * cap) + 0) + (2 * cap + 2)) 37 [(1, .ref sb), (0, .ref sc)] [.ref sb]
      refine r_pop hC dX8_letters_37 rfl 38 rfl ?_
      refine r_aload_n hC 1 dX8_letters_38 rfl 39 rfl ?_
      refine r_dup hC dX8_letters_39 rfl 40 rfl ?_
      refine r_get (v := .int (nI (g + i))) hC kX8 5 rfl q1272 (fun _ h => h.get 0 rfl) rfl dX8_letters_40 43 rfl ?_
      refine r_iconst hC 1 dX8_letters_43 ic_1 44 rfl ?_
      refine r_iadd hC (nI (g + i + 1)) dX8_letters_44  (nI_add (g + i) 1) 45 rfl ?_
      refine r_put (J := xSt F V0 [(sc, .inr (7, [.ref tx, .int (nI en), .ref sy, .int kd, .int (nI bg), .int (nI (g + i + 1)), .int vl, va_rf wd])), (tx, .inl (2, 600, .inl T)), (sb, .inr (20, [.ref q7, .int 0, .int 0, .int (nI (i + 1))])), (q7, .inl (2, 2 * cap + 2, .inl (va_up (va_cpy f zI 0 0 cap) i (T (g + i)).toInt8.toInt32)))]) hC kX8 5 rfl q1272 rfl (fun _ h => h.get 0 rfl) (Nat.le_of_ble_eq_true rfl) (rfl) (rfl) dX8_letters_45 (fun _ h => h.set 0 _ rfl) 48 rfl ?_
      refine r_goto hC 8 dX8_letters_48 (by decide) ?_
      refine rn.mono (J := xSt F V0 [(sc, .inr (7, [.ref tx, .int (nI en), .ref sy, .int kd, .int (nI bg), .int (nI (g + i + 1)), .int vl, va_rf wd])), (tx, .inl (2, 600, .inl T)), (sb, .inr (20, [.ref q7, .int 0, .int 0, .int (nI (i + 1))])), (q7, .inl (2, 2 * cap + 2, .inl (va_up (va_cpy f zI 0 0 cap) i (T (g + i)).toInt8.toInt32)))]) (fun _ h => h.sub [0, 1, 2, 3] rfl rfl) ?_
      refine rn.sub (lv' := [(1, .ref sb), (0, .ref sc)]) [0, 1] rfl ?_
      refine rn.widen (k' := K0 + (i + 1)) (n' := N0 + 2 * (2 * cap + 2)) (by omega) (by omega) ?_
      exact ih (i + 1) (2 * cap + 2) q7 (va_up (va_cpy f zI 0 0 cap) i (T (g + i)).toInt8.toInt32) (by omega) (by omega) (by omega) (fB_up (fB_cpy hfb fB_z (by omega))) (fun j hj => by by_cases e : j = i; (subst e; rw [up_same, byt_l hrg]); (rw [up_ne e, cpy_in (by omega) (by omega), show 0 + (j - 0) = j by omega]; exact hag j (by omega)))
set_option maxHeartbeats 4000000 in
set_option maxRecDepth 100000 in
theorem metX8_letters (l : Launch) (G : xG) (hG : xGood G) (sc tx sy en bg g : Nat) (kd vl : Int32) (wd : Option Nat) (T : Nat → Int32) (hen : en ≤ 600) (hge : g ≤ en) : xWm l G yX8_letters (Cond.code yX8_letters cX8_letters 2 (some (.object "java/lang/String"))) { frames := 6, locals := 171, cells := ((runE letQ T en g) - g) + 4, slots := 5 * ((runE letQ T en g) - g) + 36 } [.ref sc] [(sc, .inr (7, [.ref tx, .int (nI en), .ref sy, .int kd, .int (nI bg), .int (nI g), .int vl, va_rf wd])), (tx, .inl (2, 600, .inl T))] (fun v w' => ∃ (q v2 : Nat) (f2 : Nat → Int32), v = some (.ref q) ∧ (∀ j, j < ((runE letQ T en g) - g) → f2 j = T (g + j)) ∧ w' = [(sc, .inr (7, [.ref tx, .int (nI en), .ref sy, .int kd, .int (nI bg), .int (nI (runE letQ T en g)), .int vl, va_rf wd])), (tx, .inl (2, 600, .inl T)), (q, .inr (21, [.ref v2, .int 0, .int 0, .int 0])), (v2, .inl (2, ((runE letQ T en g) - g), .inl f2))]) (fun _ _ => False) := by
  intro V hV
  refine xMet_ofT RX8 hG rfl (by decide) (Nat.le_of_ble_eq_true rfl) fun C hC hQ hX hl hg _ hTab => ?_
  subst hl hg
  obtain ⟨V0, hV0⟩ : ∃ V0, V0 = V := ⟨_, rfl⟩
  obtain ⟨F, hF⟩ : ∃ F, F = xF [(sc, .inr (7, [.ref tx, .int (nI en), .ref sy, .int kd, .int (nI bg), .int (nI g), .int vl, va_rf wd])), (tx, .inl (2, 600, .inl T))] := ⟨_, rfl⟩
  refine rn.mono (J := xSt F V0 [(sc, .inr (7, [.ref tx, .int (nI en), .ref sy, .int kd, .int (nI bg), .int (nI g), .int vl, va_rf wd])), (tx, .inl (2, 600, .inl T))]) (fun V9 h => by rw [h, hV0, hF]; exact hV.st) ?_
  show rn C (xSt F V0 [(sc, .inr (7, [.ref tx, .int (nI en), .ref sy, .int kd, .int (nI bg), .int (nI g), .int vl, va_rf wd])), (tx, .inl (2, 600, .inl T))]) 0 0 0 [(0, .ref sc)] []
  refine r_new (J := fun q1 => xSt F V0 [(sc, .inr (7, [.ref tx, .int (nI en), .ref sy, .int kd, .int (nI bg), .int (nI g), .int vl, va_rf wd])), (tx, .inl (2, 600, .inl T)), (q1, .inr (20, [.null, .int 0, .int 0, .int 0]))]) hC [.null, .int 0, .int 0, .int 0] kJ6 q988 q468 q109 dfJ6 (Nat.le_of_ble_eq_true rfl) (Nat.le_of_ble_eq_true rfl) dX8_letters_0 (fun _ h => h.push _) 3 rfl (fun q1 => ?_)
  show rn C (xSt F V0 [(sc, .inr (7, [.ref tx, .int (nI en), .ref sy, .int kd, .int (nI bg), .int (nI g), .int vl, va_rf wd])), (tx, .inl (2, 600, .inl T)), (q1, .inr (20, [.null, .int 0, .int 0, .int 0]))]) 1 4 3 [(0, .ref sc)] [.ref q1]
  refine r_dup hC dX8_letters_3 rfl 4 rfl ?_
  refine xCall.w (wr := [(sc, .inr (7, [.ref tx, .int (nI en), .ref sy, .int kd, .int (nI bg), .int (nI g), .int vl, va_rf wd])), (tx, .inl (2, 600, .inl T))]) (r_cI hC q1 [] mIJ6_init q989 (fun V9 h9 => (metJ6_init _ _ hG q1) V9 (h9.in.sub [2] rfl rfl)) ⟨rfl, rfl⟩ (Nat.le_of_ble_eq_true rfl) (Nat.le_of_ble_eq_true rfl) rfl (Nat.le_of_ble_eq_true rfl) dX8_letters_4) [2] [0, 1] rfl rfl rfl (by decide) 2 20 7 rfl rfl rfl (fun v3 w4 h5 => ?_) (fun _ _ h => h.elim)
  obtain ⟨rfl, e2, rfl⟩ := h5
  show rn C (xSt F V0 [(sc, .inr (7, [.ref tx, .int (nI en), .ref sy, .int kd, .int (nI bg), .int (nI g), .int vl, va_rf wd])), (tx, .inl (2, 600, .inl T)), (q1, .inr (20, [.ref e2, .int 0, .int 0, .int (nI 0)])), (e2, .inl (2, 16, .inl zI))]) 2 20 7 [(0, .ref sc)] [.ref q1]
  refine r_astore_n hC 1 [(1, .ref q1), (0, .ref sc)] dX8_letters_7 rfl (Nat.le_of_ble_eq_true rfl) rfl 8 rfl ?_
  have hLe := runE_ge (P := letQ) (bf := T) (e := en) (p := g)
  have hLe2 := runE_le (P := letQ) (bf := T) hge
  obtain ⟨L, hL⟩ : ∃ L, L = (runE letQ T en g) - g := ⟨_, rfl⟩
  refine rn.mono (J := xSt F V0 [(sc, .inr (7, [.ref tx, .int (nI en), .ref sy, .int kd, .int (nI bg), .int (nI g), .int vl, va_rf wd])), (tx, .inl (2, 600, .inl T)), (q1, .inr (20, [.ref e2, .int 0, .int 0, .int (nI 0)])), (e2, .inl (2, 16, .inl zI))]) (fun _ h => h.sub [0, 1, 2, 3] rfl rfl) ?_
  refine rn.widen (k' := 2 + 0) (n' := 0 + 2 * 16) (by omega) (by omega) ?_
  refine lpX8_letters hG sc tx sy en bg g kd vl wd T hen q1 hge hC 2 0 (by omega) (by omega) L (by omega) ?_ L 0 16 e2 zI (by omega) (by omega) (by omega) fB_z (fun j hj => absurd hj (by omega))
  intro cap sv f hcap hfb hag
  refine rn.widen (k' := 2 + L) (n' := 32 + 4 * L) (by omega) (by omega) ?_
  show rn C (xSt F V0 [(sc, .inr (7, [.ref tx, .int (nI en), .ref sy, .int kd, .int (nI bg), .int (nI (g + L)), .int vl, va_rf wd])), (tx, .inl (2, 600, .inl T)), (q1, .inr (20, [.ref sv, .int 0, .int 0, .int (nI L)])), (sv, .inl (2, cap, .inl f))]) (2 + L) (32 + 4 * L) 51 [(1, .ref q1), (0, .ref sc)] []
  refine r_aload_n hC 0 dX8_letters_51 rfl 52 rfl ?_
  refine xCall.w (wr := [(sc, .inr (7, [.ref tx, .int (nI en), .ref sy, .int kd, .int (nI bg), .int (nI (g + L)), .int vl, va_rf wd])), (tx, .inl (2, 600, .inl T))]) (r_cV hC kJ6 q1 [] mVJ6_toString q1061 (fun _ h => ⟨_, h.get 2 rfl⟩) (fun V9 h9 => (metJ6_toString _ _ hG q1 sv cap L f 0 (by omega) (by omega) hfb) V9 (h9.in.sub [2, 3] rfl rfl)) ⟨rfl, rfl⟩ (by first | omega | (dsimp only; omega)) (by first | omega | (dsimp only; omega)) rfl (Nat.le_of_ble_eq_true rfl) dX8_letters_52) [2, 3] [0, 1] rfl rfl rfl (by decide) ((2 + L) + 2) ((32 + 4 * L) + (L + 4)) 55 rfl rfl rfl (fun v13 w14 h15 => ?_) (fun _ _ h => h.elim)
  obtain ⟨q9, v10, g11, rfl, hg12, rfl⟩ := h15
  show rn C (xSt F V0 [(sc, .inr (7, [.ref tx, .int (nI en), .ref sy, .int kd, .int (nI bg), .int (nI (g + L)), .int vl, va_rf wd])), (tx, .inl (2, 600, .inl T)), (q9, .inr (21, [.ref v10, .int 0, .int 0, .int 0])), (v10, .inl (2, L, .inl g11)), (q1, .inr (20, [.ref sv, .int 0, .int 0, .int (nI L)])), (sv, .inl (2, cap, .inl f))]) ((2 + L) + 2) ((32 + 4 * L) + (L + 4)) 55 [(1, .ref q1), (0, .ref sc)] [.ref q9]
  have hgL : g + L = (runE letQ T en g) := by omega
  refine rn.mono (J := xSt F V0 [(sc, .inr (7, [.ref tx, .int (nI en), .ref sy, .int kd, .int (nI bg), .int (nI (runE letQ T en g)), .int vl, va_rf wd])), (tx, .inl (2, 600, .inl T)), (q9, .inr (21, [.ref v10, .int 0, .int 0, .int 0])), (v10, .inl (2, ((runE letQ T en g) - g), .inl g11)), (q1, .inr (20, [.ref sv, .int 0, .int 0, .int (nI L)])), (sv, .inl (2, cap, .inl f))]) (fun _ h => by rw [← hL, ← hgL]; exact h) ?_
  exact r_aret hC (v := (some q9)) (Or.inl ⟨_, rfl⟩) (by first | omega | (dsimp only; omega)) (by first | omega | (dsimp only; omega)) (fun V9 h => hQ _ _ ⟨[(sc, .inr (7, [.ref tx, .int (nI en), .ref sy, .int kd, .int (nI bg), .int (nI (runE letQ T en g)), .int vl, va_rf wd])), (tx, .inl (2, 600, .inl T)), (q9, .inr (21, [.ref v10, .int 0, .int 0, .int 0])), (v10, .inl (2, ((runE letQ T en g) - g), .inl g11))], ⟨q9, v10, g11, rfl, (fun j hj => (hg12 j (by omega)).trans (hag j (by omega))), rfl⟩, by rw [← hV0, ← hF]; exact h.sub [0, 1, 2, 3] rfl rfl⟩) dX8_letters_55
