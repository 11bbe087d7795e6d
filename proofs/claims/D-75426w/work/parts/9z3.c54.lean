/-! ===== the class: Scanner.advance ===== -/
set_option maxRecDepth 100000
theorem fB_b {f : Nat → Int32} {N i : Nat} (h : fB f N) (hi : i < N) : (f i).toInt8.toInt32 = f i := by
  have h9 := h i hi
  simp only [fits, Bool.and_eq_true, decide_eq_true_eq] at h9
  rw [Int32.le_iff_toInt_le, Int32.le_iff_toInt_le] at h9
  have h3 : (-128 : Int32).toInt = -128 := rfl
  have h4 : (127 : Int32).toInt = 127 := rfl
  apply Int32.toInt_inj.mp
  rw [Int8.toInt_toInt32, Int32.toInt_toInt8, Int.bmod_eq_of_le (by omega) (by omega)]
/-- c stands among the m signs B -/
def syQ (B : Nat → Int32) (m : Nat) (c : Int32) : Bool := decide (0 ≤ c) && decide (0 ≤ ixF B c m 0)
theorem blk_in {T : Nat → Int32} {en p i : Nat} (hp : p ≤ i) (hi : i < runE blkQ T en p) : T i = 32 ∨ T i = 10 := by
  have h := run_in (P := blkQ) (bf := T) _ _ _ hp hi
  unfold blkQ at h
  simpa using h
theorem blk_out {T : Nat → Int32} {en p : Nat} (hpe : p ≤ en) (h : runE blkQ T en p < en) : ¬ T (runE blkQ T en p) = 32 ∧ ¬ T (runE blkQ T en p) = 10 := by
  have h2 := run_out (P := blkQ) (bf := T) (en - p) p (by unfold runE at h; omega)
  have h3 : blkQ (T (runE blkQ T en p)) = false := h2
  have h4 : ∀ c : Int32, blkQ c = false → ¬ c = 32 ∧ ¬ c = 10 := fun c h => by unfold blkQ at h; simpa using h
  exact h4 _ h3
theorem b_255 (x : Int32) : x.toInt8.toInt32 ≤ 255 := by
  rw [Int32.le_iff_toInt_le, Int8.toInt_toInt32]
  have := Int8.toInt_lt x.toInt8
  have h3 : (255 : Int32).toInt = 255 := rfl
  omega
theorem sy_p {B : Nat → Int32} {m : Nat} {c : Int32} (h : syQ B m c = true) (h0 : 0 ≤ c) : ¬ ixF B c m 0 < 0 := by
  unfold syQ at h
  simp only [Bool.and_eq_true, decide_eq_true_eq] at h
  exact Int32.not_lt.mpr h.2
theorem sy_n {B : Nat → Int32} {m : Nat} {c : Int32} (h : syQ B m c = false) (h0 : 0 ≤ c) : ixF B c m 0 < 0 := by
  unfold syQ at h
  rw [decide_eq_true h0, Bool.true_and] at h
  exact Int32.not_le.mp (of_decide_eq_false h)
theorem sy_0 {B : Nat → Int32} {m : Nat} {c : Int32} (h : c < 0) : syQ B m c = false := by
  unfold syQ
  rw [decide_eq_false (Int32.not_le.mpr h), Bool.false_and]
set_option maxHeartbeats 4000000 in
set_option maxRecDepth 100000 in
theorem lpX8_skip {C : xC} {F : Nat → Prop} {V0 : xV} {rm : Room} (hG : xGood (xGG C)) (hC : xCtx C RX8 cX8_advance 1 none rm) (sc tx sy en bg p : Nat) (kd vl : Int32) (wd : Option Nat) (T : Nat → Int32) (hen : en ≤ 600) (g : Nat) (hgq : g = runE blkQ T en p) (hpe : p ≤ en) (kx : rn C (xSt F V0 [(sc, .inr (7, [.ref tx, .int (nI en), .ref sy, .int kd, .int (nI g), .int (nI p), .int vl, va_rf wd])), (tx, .inl (2, 600, .inl T))]) 0 0 60 [(0, .ref sc)] []) : ∀ (d i : Nat), i + d = g → p ≤ i → rn C (xSt F V0 [(sc, .inr (7, [.ref tx, .int (nI en), .ref sy, .int kd, .int (nI i), .int (nI p), .int vl, va_rf wd])), (tx, .inl (2, 600, .inl T))]) 0 0 8 [(0, .ref sc)] [] := by
  have hge : g ≤ en := by rw [hgq]; exact runE_le hpe
  intro d
  induction d with
  | zero =>
    intro i hi hp9
    obtain rfl : i = g := by omega
    by_cases hlt : i < en
    · have hno := blk_out (T := T) hpe (by rw [← hgq]; exact hlt)
      rw [← hgq] at hno
      refine r_aload_n hC 0 dX8_advance_8 rfl 9 rfl ?_
      refine r_get (v := .int (nI i)) hC kX8 4 rfl q1269 (fun _ h => h.get 0 rfl) rfl dX8_advance_9 12 rfl ?_
      refine r_aload_n hC 0 dX8_advance_12 rfl 13 rfl ?_
      refine r_get (v := .int (nI en)) hC kX8 1 rfl q1264 (fun _ h => h.get 0 rfl) rfl dX8_advance_13 16 rfl ?_
      refine r_icge hC 60 dX8_advance_16 (by decide) 19 rfl (fun h => absurd h (nI_ge (by omega) (by omega))) (fun _ => ?_)
      refine r_aload_n hC 0 dX8_advance_19 rfl 20 rfl ?_
      refine r_get (v := .ref tx) hC kX8 0 rfl q1263 (fun _ h => h.get 0 rfl) rfl dX8_advance_20 23 rfl ?_
      refine r_aload_n hC 0 dX8_advance_23 rfl 24 rfl ?_
      refine r_get (v := .int (nI i)) hC kX8 4 rfl q1269 (fun _ h => h.get 0 rfl) rfl dX8_advance_24 27 rfl ?_
      refine r_bald hC i (xix_n i (by omega) (by omega)) (fun _ h => h.get 1 rfl) (T i) (rfl) dX8_advance_27 28 rfl ?_
      refine r_bipush hC 32 dX8_advance_28 bp_32 30 rfl ?_
      refine r_iceq hC 47 dX8_advance_30 (by decide) 33 rfl (fun h => absurd h (hno.1)) (fun _ => ?_)
      refine r_aload_n hC 0 dX8_advance_33 rfl 34 rfl ?_
      refine r_get (v := .ref tx) hC kX8 0 rfl q1263 (fun _ h => h.get 0 rfl) rfl dX8_advance_34 37 rfl ?_
      refine r_aload_n hC 0 dX8_advance_37 rfl 38 rfl ?_
      refine r_get (v := .int (nI i)) hC kX8 4 rfl q1269 (fun _ h => h.get 0 rfl) rfl dX8_advance_38 41 rfl ?_
      refine r_bald hC i (xix_n i (by omega) (by omega)) (fun _ h => h.get 1 rfl) (T i) (rfl) dX8_advance_41 42 rfl ?_
      refine r_bipush hC 10 dX8_advance_42 bp_10 44 rfl ?_
      refine r_icne hC 60 dX8_advance_44 (by decide) 47 rfl (fun _ => ?_) (fun h => absurd h (hno.2))
      exact kx
    · skip
      refine r_aload_n hC 0 dX8_advance_8 rfl 9 rfl ?_
      refine r_get (v := .int (nI i)) hC kX8 4 rfl q1269 (fun _ h => h.get 0 rfl) rfl dX8_advance_9 12 rfl ?_
      refine r_aload_n hC 0 dX8_advance_12 rfl 13 rfl ?_
      refine r_get (v := .int (nI en)) hC kX8 1 rfl q1264 (fun _ h => h.get 0 rfl) rfl dX8_advance_13 16 rfl ?_
      refine r_icge hC 60 dX8_advance_16 (by decide) 19 rfl (fun _ => ?_) (fun h => absurd (nI_le (by omega) (by omega)) h)
      exact kx
  | succ d ih =>
    intro i hi hp9
    have hlt : i < en := by omega
    have hbl := blk_in (T := T) (en := en) hp9 (by rw [← hgq]; omega)
    refine r_aload_n hC 0 dX8_advance_8 rfl 9 rfl ?_
    refine r_get (v := .int (nI i)) hC kX8 4 rfl q1269 (fun _ h => h.get 0 rfl) rfl dX8_advance_9 12 rfl ?_
    refine r_aload_n hC 0 dX8_advance_12 rfl 13 rfl ?_
    refine r_get (v := .int (nI en)) hC kX8 1 rfl q1264 (fun _ h => h.get 0 rfl) rfl dX8_advance_13 16 rfl ?_
    refine r_icge hC 60 dX8_advance_16 (by decide) 19 rfl (fun h => absurd h (nI_ge (by omega) (by omega))) (fun _ => ?_)
    refine r_aload_n hC 0 dX8_advance_19 rfl 20 rfl ?_
    refine r_get (v := .ref tx) hC kX8 0 rfl q1263 (fun _ h => h.get 0 rfl) rfl dX8_advance_20 23 rfl ?_
    refine r_aload_n hC 0 dX8_advance_23 rfl 24 rfl ?_
    refine r_get (v := .int (nI i)) hC kX8 4 rfl q1269 (fun _ h => h.get 0 rfl) rfl dX8_advance_24 27 rfl ?_
    refine r_bald hC i (xix_n i (by omega) (by omega)) (fun _ h => h.get 1 rfl) (T i) (rfl) dX8_advance_27 28 rfl ?_
    refine r_bipush hC 32 dX8_advance_28 bp_32 30 rfl ?_
    refine r_iceq hC 47 dX8_advance_30 (by decide) 33 rfl (fun c1 => ?_) (fun c1 => ?_)
    · skip
      refine r_aload_n hC 0 dX8_advance_47 rfl 48 rfl ?_
      refine r_dup hC dX8_advance_48 rfl 49 rfl ?_
      refine r_get (v := .int (nI i)) hC kX8 4 rfl q1269 (fun _ h => h.get 0 rfl) rfl dX8_advance_49 52 rfl ?_
      refine r_iconst hC 1 dX8_advance_52 ic_1 53 rfl ?_
      refine r_iadd hC (nI (i + 1)) dX8_advance_53  (nI_add i 1) 54 rfl ?_
      refine r_put (J := xSt F V0 [(sc, .inr (7, [.ref tx, .int (nI en), .ref sy, .int kd, .int (nI (i + 1)), .int (nI p), .int vl, va_rf wd])), (tx, .inl (2, 600, .inl T))]) hC kX8 4 rfl q1269 rfl (fun _ h => h.get 0 rfl) (Nat.le_of_ble_eq_true rfl) (rfl) (rfl) dX8_advance_54 (fun _ h => h.set 0 _ rfl) 57 rfl ?_
      refine r_goto hC 8 dX8_advance_57 (by decide) ?_
      exact ih (i + 1) (by omega) (by omega)
    · skip
      refine r_aload_n hC 0 dX8_advance_33 rfl 34 rfl ?_
      refine r_get (v := .ref tx) hC kX8 0 rfl q1263 (fun _ h => h.get 0 rfl) rfl dX8_advance_34 37 rfl ?_
      refine r_aload_n hC 0 dX8_advance_37 rfl 38 rfl ?_
      refine r_get (v := .int (nI i)) hC kX8 4 rfl q1269 (fun _ h => h.get 0 rfl) rfl dX8_advance_38 41 rfl ?_
      refine r_bald hC i (xix_n i (by omega) (by omega)) (fun _ h => h.get 1 rfl) (T i) (rfl) dX8_advance_41 42 rfl ?_
      refine r_bipush hC 10 dX8_advance_42 bp_10 44 rfl ?_
      refine r_icne hC 60 dX8_advance_44 (by decide) 47 rfl (fun h => absurd (hbl.resolve_left (by assumption)) h) (fun _ => ?_)
      refine r_aload_n hC 0 dX8_advance_47 rfl 48 rfl ?_
      refine r_dup hC dX8_advance_48 rfl 49 rfl ?_
      refine r_get (v := .int (nI i)) hC kX8 4 rfl q1269 (fun _ h => h.get 0 rfl) rfl dX8_advance_49 52 rfl ?_
      refine r_iconst hC 1 dX8_advance_52 ic_1 53 rfl ?_
      refine r_iadd hC (nI (i + 1)) dX8_advance_53  (nI_add i 1) 54 rfl ?_
      refine r_put (J := xSt F V0 [(sc, .inr (7, [.ref tx, .int (nI en), .ref sy, .int kd, .int (nI (i + 1)), .int (nI p), .int vl, va_rf wd])), (tx, .inl (2, 600, .inl T))]) hC kX8 4 rfl q1269 rfl (fun _ h => h.get 0 rfl) (Nat.le_of_ble_eq_true rfl) (rfl) (rfl) dX8_advance_54 (fun _ h => h.set 0 _ rfl) 57 rfl ?_
      refine r_goto hC 8 dX8_advance_57 (by decide) ?_
      exact ih (i + 1) (by omega) (by omega)
set_option maxHeartbeats 4000000 in
set_option maxRecDepth 100000 in
theorem metX8_advance0 (l : Launch) (G : xG) (hG : xGood G) (sc tx sy en bg p : Nat) (kd vl : Int32) (wd : Option Nat) (T : Nat → Int32) (hen : en ≤ 600) (kv m : Nat) (B : Nat → Int32) (hm0 : 0 < m) (hTb : fB T 600) (hpe : p ≤ en) (hst : xStr G sy kv m B) (g : Nat) (hgq : g = runE blkQ T en p) (hk : g = en) : xWm l G yX8_advance (Cond.code yX8_advance cX8_advance 1 none) { frames := 7, locals := 192, cells := (tEnd T en g - g) + 4, slots := 5 * (tEnd T en g - g) + 36 } [.ref sc] [(sc, .inr (7, [.ref tx, .int (nI en), .ref sy, .int kd, .int (nI bg), .int (nI p), .int vl, va_rf wd])), (tx, .inl (2, 600, .inl T))] (fun v w' => v = none ∧ w' = [(sc, .inr (7, [.ref tx, .int (nI en), .ref sy, .int 0, .int (nI g), .int (nI (tEnd T en g)), .int vl, va_rf wd])), (tx, .inl (2, 600, .inl T))]) (fun _ _ => False) := by
  intro V hV
  refine xMet_ofT RX8 hG rfl (by decide) (Nat.le_of_ble_eq_true rfl) fun C hC hQ hX hl hg _ hTab => ?_
  subst hl hg
  obtain ⟨V0, hV0⟩ : ∃ V0, V0 = V := ⟨_, rfl⟩
  obtain ⟨F, hF⟩ : ∃ F, F = xF [(sc, .inr (7, [.ref tx, .int (nI en), .ref sy, .int kd, .int (nI bg), .int (nI p), .int vl, va_rf wd])), (tx, .inl (2, 600, .inl T))] := ⟨_, rfl⟩
  refine rn.mono (J := xSt F V0 [(sc, .inr (7, [.ref tx, .int (nI en), .ref sy, .int kd, .int (nI bg), .int (nI p), .int vl, va_rf wd])), (tx, .inl (2, 600, .inl T))]) (fun V9 h => by rw [h, hV0, hF]; exact hV.st) ?_
  show rn C (xSt F V0 [(sc, .inr (7, [.ref tx, .int (nI en), .ref sy, .int kd, .int (nI bg), .int (nI p), .int vl, va_rf wd])), (tx, .inl (2, 600, .inl T))]) 0 0 0 [(0, .ref sc)] []
  refine r_aload_n hC 0 dX8_advance_0 rfl 1 rfl ?_
  refine r_aload_n hC 0 dX8_advance_1 rfl 2 rfl ?_
  refine r_get (v := .int (nI p)) hC kX8 5 rfl q1272 (fun _ h => h.get 0 rfl) rfl dX8_advance_2 5 rfl ?_
  refine r_put (J := xSt F V0 [(sc, .inr (7, [.ref tx, .int (nI en), .ref sy, .int kd, .int (nI p), .int (nI p), .int vl, va_rf wd])), (tx, .inl (2, 600, .inl T))]) hC kX8 4 rfl q1269 rfl (fun _ h => h.get 0 rfl) (Nat.le_of_ble_eq_true rfl) (rfl) (rfl) dX8_advance_5 (fun _ h => h.set 0 _ rfl) 8 rfl ?_
  have hgp := runE_ge (P := blkQ) (bf := T) (e := en) (p := p)
  have hge : g ≤ en := by rw [hgq]; exact runE_le hpe
  refine lpX8_skip hG hC sc tx sy en bg p kd vl wd T hen g hgq hpe ?_ (g - p) p (by omega) (Nat.le_refl _)
  show rn C (xSt F V0 [(sc, .inr (7, [.ref tx, .int (nI en), .ref sy, .int kd, .int (nI g), .int (nI p), .int vl, va_rf wd])), (tx, .inl (2, 600, .inl T))]) 0 0 60 [(0, .ref sc)] []
  refine r_aload_n hC 0 dX8_advance_60 rfl 61 rfl ?_
  refine r_aload_n hC 0 dX8_advance_61 rfl 62 rfl ?_
  refine r_get (v := .int (nI g)) hC kX8 4 rfl q1269 (fun _ h => h.get 0 rfl) rfl dX8_advance_62 65 rfl ?_
  refine r_put (J := xSt F V0 [(sc, .inr (7, [.ref tx, .int (nI en), .ref sy, .int kd, .int (nI g), .int (nI g), .int vl, va_rf wd])), (tx, .inl (2, 600, .inl T))]) hC kX8 5 rfl q1272 rfl (fun _ h => h.get 0 rfl) (Nat.le_of_ble_eq_true rfl) (rfl) (rfl) dX8_advance_65 (fun _ h => h.set 0 _ rfl) 68 rfl ?_
  refine r_aload_n hC 0 dX8_advance_68 rfl 69 rfl ?_
  refine r_get (v := .int (nI g)) hC kX8 4 rfl q1269 (fun _ h => h.get 0 rfl) rfl dX8_advance_69 72 rfl ?_
  refine r_aload_n hC 0 dX8_advance_72 rfl 73 rfl ?_
  refine r_get (v := .int (nI en)) hC kX8 1 rfl q1264 (fun _ h => h.get 0 rfl) rfl dX8_advance_73 76 rfl ?_
  refine r_icne hC 87 dX8_advance_76 (by decide) 79 rfl (fun h => absurd (by rw [hk]) h) (fun _ => ?_)
  refine r_aload_n hC 0 dX8_advance_79 rfl 80 rfl ?_
  refine r_iconst hC 0 dX8_advance_80 ic_0 81 rfl ?_
  refine r_put (J := xSt F V0 [(sc, .inr (7, [.ref tx, .int (nI en), .ref sy, .int 0, .int (nI g), .int (nI g), .int vl, va_rf wd])), (tx, .inl (2, 600, .inl T))]) hC kX8 3 rfl q1267 rfl (fun _ h => h.get 0 rfl) (Nat.le_of_ble_eq_true rfl) (rfl) (rfl) dX8_advance_81 (fun _ h => h.set 0 _ rfl) 84 rfl ?_
  refine r_goto hC 187 dX8_advance_84 (by decide) ?_
  have hte : g = tEnd T en g := (by unfold tEnd; rw [if_neg (by omega)] : tEnd T en g = g).symm
  refine rn.mono (J := xSt F V0 [(sc, .inr (7, [.ref tx, .int (nI en), .ref sy, .int 0, .int (nI g), .int (nI (tEnd T en g)), .int vl, va_rf wd])), (tx, .inl (2, 600, .inl T))]) (fun _ h => by rw [← hte]; exact h) ?_
  exact r_vret hC (Nat.le_of_ble_eq_true rfl) (Nat.le_of_ble_eq_true rfl) (fun V9 h => hQ _ _ ⟨[(sc, .inr (7, [.ref tx, .int (nI en), .ref sy, .int 0, .int (nI g), .int (nI (tEnd T en g)), .int vl, va_rf wd])), (tx, .inl (2, 600, .inl T))], ⟨rfl, rfl⟩, by rw [← hV0, ← hF]; exact h⟩) dX8_advance_187
set_option maxHeartbeats 4000000 in
set_option maxRecDepth 100000 in
theorem metX8_advance1 (l : Launch) (G : xG) (hG : xGood G) (sc tx sy en bg p : Nat) (kd vl : Int32) (wd : Option Nat) (T : Nat → Int32) (hen : en ≤ 600) (kv m : Nat) (B : Nat → Int32) (hm0 : 0 < m) (hTb : fB T 600) (hpe : p ≤ en) (hst : xStr G sy kv m B) (g : Nat) (hgq : g = runE blkQ T en p) (hk : g < en) (hl : letQ (T g) = true) : xWm l G yX8_advance (Cond.code yX8_advance cX8_advance 1 none) { frames := 7, locals := 192, cells := (tEnd T en g - g) + 4, slots := 5 * (tEnd T en g - g) + 36 } [.ref sc] [(sc, .inr (7, [.ref tx, .int (nI en), .ref sy, .int kd, .int (nI bg), .int (nI p), .int vl, va_rf wd])), (tx, .inl (2, 600, .inl T))] (fun v w' => ∃ (q v2 : Nat) (f2 : Nat → Int32), v = none ∧ (∀ j, j < tEnd T en g - g → f2 j = T (g + j)) ∧ w' = [(sc, .inr (7, [.ref tx, .int (nI en), .ref sy, .int 1, .int (nI g), .int (nI (tEnd T en g)), .int vl, .ref q])), (tx, .inl (2, 600, .inl T)), (q, .inr (21, [.ref v2, .int 0, .int 0, .int 0])), (v2, .inl (2, (tEnd T en g - g), .inl f2))]) (fun _ _ => False) := by
  intro V hV
  refine xMet_ofT RX8 hG rfl (by decide) (Nat.le_of_ble_eq_true rfl) fun C hC hQ hX hl hg _ hTab => ?_
  subst hl hg
  obtain ⟨V0, hV0⟩ : ∃ V0, V0 = V := ⟨_, rfl⟩
  obtain ⟨F, hF⟩ : ∃ F, F = xF [(sc, .inr (7, [.ref tx, .int (nI en), .ref sy, .int kd, .int (nI bg), .int (nI p), .int vl, va_rf wd])), (tx, .inl (2, 600, .inl T))] := ⟨_, rfl⟩
  refine rn.mono (J := xSt F V0 [(sc, .inr (7, [.ref tx, .int (nI en), .ref sy, .int kd, .int (nI bg), .int (nI p), .int vl, va_rf wd])), (tx, .inl (2, 600, .inl T))]) (fun V9 h => by rw [h, hV0, hF]; exact hV.st) ?_
  show rn C (xSt F V0 [(sc, .inr (7, [.ref tx, .int (nI en), .ref sy, .int kd, .int (nI bg), .int (nI p), .int vl, va_rf wd])), (tx, .inl (2, 600, .inl T))]) 0 0 0 [(0, .ref sc)] []
  refine r_aload_n hC 0 dX8_advance_0 rfl 1 rfl ?_
  refine r_aload_n hC 0 dX8_advance_1 rfl 2 rfl ?_
  refine r_get (v := .int (nI p)) hC kX8 5 rfl q1272 (fun _ h => h.get 0 rfl) rfl dX8_advance_2 5 rfl ?_
  refine r_put (J := xSt F V0 [(sc, .inr (7, [.ref tx, .int (nI en), .ref sy, .int kd, .int (nI p), .int (nI p), .int vl, va_rf wd])), (tx, .inl (2, 600, .inl T))]) hC kX8 4 rfl q1269 rfl (fun _ h => h.get 0 rfl) (Nat.le_of_ble_eq_true rfl) (rfl) (rfl) dX8_advance_5 (fun _ h => h.set 0 _ rfl) 8 rfl ?_
  have hgp := runE_ge (P := blkQ) (bf := T) (e := en) (p := p)
  have hge : g ≤ en := by rw [hgq]; exact runE_le hpe
  refine lpX8_skip hG hC sc tx sy en bg p kd vl wd T hen g hgq hpe ?_ (g - p) p (by omega) (Nat.le_refl _)
  show rn C (xSt F V0 [(sc, .inr (7, [.ref tx, .int (nI en), .ref sy, .int kd, .int (nI g), .int (nI p), .int vl, va_rf wd])), (tx, .inl (2, 600, .inl T))]) 0 0 60 [(0, .ref sc)] []
  have hte0 : tEnd T en g = runE letQ T en g := by unfold tEnd; rw [if_pos hk, if_pos hl]
  have hf1 : btQ T en g 97 122 = true := (by rw [bt_let, decide_eq_true hk, hl]; rfl)
  refine r_aload_n hC 0 dX8_advance_60 rfl 61 rfl ?_
  refine r_aload_n hC 0 dX8_advance_61 rfl 62 rfl ?_
  refine r_get (v := .int (nI g)) hC kX8 4 rfl q1269 (fun _ h => h.get 0 rfl) rfl dX8_advance_62 65 rfl ?_
  refine r_put (J := xSt F V0 [(sc, .inr (7, [.ref tx, .int (nI en), .ref sy, .int kd, .int (nI g), .int (nI g), .int vl, va_rf wd])), (tx, .inl (2, 600, .inl T))]) hC kX8 5 rfl q1272 rfl (fun _ h => h.get 0 rfl) (Nat.le_of_ble_eq_true rfl) (rfl) (rfl) dX8_advance_65 (fun _ h => h.set 0 _ rfl) 68 rfl ?_
  refine r_aload_n hC 0 dX8_advance_68 rfl 69 rfl ?_
  refine r_get (v := .int (nI g)) hC kX8 4 rfl q1269 (fun _ h => h.get 0 rfl) rfl dX8_advance_69 72 rfl ?_
  refine r_aload_n hC 0 dX8_advance_72 rfl 73 rfl ?_
  refine r_get (v := .int (nI en)) hC kX8 1 rfl q1264 (fun _ h => h.get 0 rfl) rfl dX8_advance_73 76 rfl ?_
  refine r_icne hC 87 dX8_advance_76 (by decide) 79 rfl (fun _ => ?_) (fun h => absurd h (fun q9 => by have := (eq_nI (by omega) (by omega)).mp q9; omega))
  refine r_aload_n hC 0 dX8_advance_87 rfl 88 rfl ?_
  refine r_aload_n hC 0 dX8_advance_88 rfl 89 rfl ?_
  refine r_get (v := .int (nI g)) hC kX8 4 rfl q1269 (fun _ h => h.get 0 rfl) rfl dX8_advance_89 92 rfl ?_
  refine r_bipush hC 97 dX8_advance_92 bp_97 94 rfl ?_
  refine r_bipush hC 122 dX8_advance_94 bp_122 96 rfl ?_
  refine xCall.r (r := some (.int 1)) (r_cV hC kX8 sc [.int (nI g), .int 97, .int 122] mVX8_isBetween q980 (fun _ h => ⟨_, h.get 0 rfl⟩) (fun V9 h9 => (xRm_v (metX8_isBetween _ _ hG sc tx sy en g g kd vl wd T hen g 97 122 (by omega)) (show _ = some (Value.int 1) by rw [hf1]; rfl)) V9 (h9.in.sub [0, 1] rfl rfl)) ⟨rfl, rfl⟩ (Nat.le_of_ble_eq_true rfl) (Nat.le_of_ble_eq_true rfl) rfl (Nat.le_of_ble_eq_true rfl) dX8_advance_96) 0 0 99 rfl rfl rfl ?_
  refine r_ifeq hC 118 dX8_advance_99 (by decide) 102 rfl (fun h => absurd h (by decide)) (fun _ => ?_)
  refine r_aload_n hC 0 dX8_advance_102 rfl 103 rfl ?_
  refine r_iconst hC 1 dX8_advance_103 ic_1 104 rfl ?_
  refine r_put (J := xSt F V0 [(sc, .inr (7, [.ref tx, .int (nI en), .ref sy, .int 1, .int (nI g), .int (nI g), .int vl, va_rf wd])), (tx, .inl (2, 600, .inl T))]) hC kX8 3 rfl q1267 rfl (fun _ h => h.get 0 rfl) (Nat.le_of_ble_eq_true rfl) (rfl) (rfl) dX8_advance_104 (fun _ h => h.set 0 _ rfl) 107 rfl ?_
  refine r_aload_n hC 0 dX8_advance_107 rfl 108 rfl ?_
  refine r_aload_n hC 0 dX8_advance_108 rfl 109 rfl ?_
  refine xCall.w (wr := []) (r_cV hC kX8 sc [] mVX8_letters q984 (fun _ h => ⟨_, h.get 0 rfl⟩) (fun V9 h9 => (metX8_letters _ _ hG sc tx sy en g g 1 vl wd T hen (by omega)) V9 (h9.in.sub [0, 1] rfl rfl)) ⟨rfl, rfl⟩ (by first | omega | (dsimp only; omega)) (by first | omega | (dsimp only; omega)) rfl (Nat.le_of_ble_eq_true rfl) dX8_advance_109) [0, 1] [] rfl rfl rfl (by decide) (0 + ((runE letQ T en g - g) + 4)) (0 + (5 * (runE letQ T en g - g) + 36)) 112 rfl rfl rfl (fun v6 w7 h8 => ?_) (fun _ _ h => h.elim)
  obtain ⟨q2, v3, f4, rfl, hg5, rfl⟩ := h8
  show rn C (xSt F V0 [(sc, .inr (7, [.ref tx, .int (nI en), .ref sy, .int 1, .int (nI g), .int (nI (runE letQ T en g)), .int vl, va_rf wd])), (tx, .inl (2, 600, .inl T)), (q2, .inr (21, [.ref v3, .int 0, .int 0, .int 0])), (v3, .inl (2, (runE letQ T en g - g), .inl f4))]) (0 + ((runE letQ T en g - g) + 4)) (0 + (5 * (runE letQ T en g - g) + 36)) 112 [(0, .ref sc)] [.ref q2, .ref sc]
  refine r_put (J := xSt F V0 [(sc, .inr (7, [.ref tx, .int (nI en), .ref sy, .int 1, .int (nI g), .int (nI (runE letQ T en g)), .int vl, .ref q2])), (tx, .inl (2, 600, .inl T)), (q2, .inr (21, [.ref v3, .int 0, .int 0, .int 0])), (v3, .inl (2, (runE letQ T en g - g), .inl f4))]) hC kX8 7 rfl q1274 rfl (fun _ h => h.get 0 rfl) (Nat.le_of_ble_eq_true rfl) (rfl) (rfl) dX8_advance_112 (fun _ h => h.set 0 _ rfl) 115 rfl ?_
  refine r_goto hC 187 dX8_advance_115 (by decide) ?_
  have hte : runE letQ T en g = tEnd T en g := (by unfold tEnd; rw [if_pos hk, if_pos hl] : tEnd T en g = runE letQ T en g).symm
  refine rn.mono (J := xSt F V0 [(sc, .inr (7, [.ref tx, .int (nI en), .ref sy, .int 1, .int (nI g), .int (nI (tEnd T en g)), .int vl, .ref q2])), (tx, .inl (2, 600, .inl T)), (q2, .inr (21, [.ref v3, .int 0, .int 0, .int 0])), (v3, .inl (2, (tEnd T en g - g), .inl f4))]) (fun _ h => by rw [← hte]; exact h) ?_
  exact r_vret hC (by first | omega | (dsimp only; omega)) (by first | omega | (dsimp only; omega)) (fun V9 h => hQ _ _ ⟨[(sc, .inr (7, [.ref tx, .int (nI en), .ref sy, .int 1, .int (nI g), .int (nI (tEnd T en g)), .int vl, .ref q2])), (tx, .inl (2, 600, .inl T)), (q2, .inr (21, [.ref v3, .int 0, .int 0, .int 0])), (v3, .inl (2, (tEnd T en g - g), .inl f4))], ⟨q2, v3, f4, rfl, (fun j hj => hg5 j (by rw [hte]; exact hj)), rfl⟩, by rw [← hV0, ← hF]; exact h⟩) dX8_advance_187
set_option maxHeartbeats 4000000 in
set_option maxRecDepth 100000 in
theorem metX8_advance2 (l : Launch) (G : xG) (hG : xGood G) (sc tx sy en bg p : Nat) (kd vl : Int32) (wd : Option Nat) (T : Nat → Int32) (hen : en ≤ 600) (kv m : Nat) (B : Nat → Int32) (hm0 : 0 < m) (hTb : fB T 600) (hpe : p ≤ en) (hst : xStr G sy kv m B) (g : Nat) (hgq : g = runE blkQ T en p) (hk : g < en) (hl : letQ (T g) = false) (hd9 : figQ (T g) = true) : xWm l G yX8_advance (Cond.code yX8_advance cX8_advance 1 none) { frames := 7, locals := 192, cells := (tEnd T en g - g) + 4, slots := 5 * (tEnd T en g - g) + 36 } [.ref sc] [(sc, .inr (7, [.ref tx, .int (nI en), .ref sy, .int kd, .int (nI bg), .int (nI p), .int vl, va_rf wd])), (tx, .inl (2, 600, .inl T))] (fun v w' => v = none ∧ w' = [(sc, .inr (7, [.ref tx, .int (nI en), .ref sy, .int 2, .int (nI g), .int (nI (tEnd T en g)), .int (cval T g (tEnd T en g - g)), va_rf wd])), (tx, .inl (2, 600, .inl T))]) (fun _ _ => False) := by
  intro V hV
  refine xMet_ofT RX8 hG rfl (by decide) (Nat.le_of_ble_eq_true rfl) fun C hC hQ hX hl hg _ hTab => ?_
  subst hl hg
  obtain ⟨V0, hV0⟩ : ∃ V0, V0 = V := ⟨_, rfl⟩
  obtain ⟨F, hF⟩ : ∃ F, F = xF [(sc, .inr (7, [.ref tx, .int (nI en), .ref sy, .int kd, .int (nI bg), .int (nI p), .int vl, va_rf wd])), (tx, .inl (2, 600, .inl T))] := ⟨_, rfl⟩
  refine rn.mono (J := xSt F V0 [(sc, .inr (7, [.ref tx, .int (nI en), .ref sy, .int kd, .int (nI bg), .int (nI p), .int vl, va_rf wd])), (tx, .inl (2, 600, .inl T))]) (fun V9 h => by rw [h, hV0, hF]; exact hV.st) ?_
  show rn C (xSt F V0 [(sc, .inr (7, [.ref tx, .int (nI en), .ref sy, .int kd, .int (nI bg), .int (nI p), .int vl, va_rf wd])), (tx, .inl (2, 600, .inl T))]) 0 0 0 [(0, .ref sc)] []
  refine r_aload_n hC 0 dX8_advance_0 rfl 1 rfl ?_
  refine r_aload_n hC 0 dX8_advance_1 rfl 2 rfl ?_
  refine r_get (v := .int (nI p)) hC kX8 5 rfl q1272 (fun _ h => h.get 0 rfl) rfl dX8_advance_2 5 rfl ?_
  refine r_put (J := xSt F V0 [(sc, .inr (7, [.ref tx, .int (nI en), .ref sy, .int kd, .int (nI p), .int (nI p), .int vl, va_rf wd])), (tx, .inl (2, 600, .inl T))]) hC kX8 4 rfl q1269 rfl (fun _ h => h.get 0 rfl) (Nat.le_of_ble_eq_true rfl) (rfl) (rfl) dX8_advance_5 (fun _ h => h.set 0 _ rfl) 8 rfl ?_
  have hgp := runE_ge (P := blkQ) (bf := T) (e := en) (p := p)
  have hge : g ≤ en := by rw [hgq]; exact runE_le hpe
  refine lpX8_skip hG hC sc tx sy en bg p kd vl wd T hen g hgq hpe ?_ (g - p) p (by omega) (Nat.le_refl _)
  show rn C (xSt F V0 [(sc, .inr (7, [.ref tx, .int (nI en), .ref sy, .int kd, .int (nI g), .int (nI p), .int vl, va_rf wd])), (tx, .inl (2, 600, .inl T))]) 0 0 60 [(0, .ref sc)] []
  have hf1 : btQ T en g 97 122 = false := (by rw [bt_let, decide_eq_true hk, hl]; rfl)
  have hf2 : btQ T en g 48 57 = true := (by rw [bt_fig, decide_eq_true hk, hd9]; rfl)
  refine r_aload_n hC 0 dX8_advance_60 rfl 61 rfl ?_
  refine r_aload_n hC 0 dX8_advance_61 rfl 62 rfl ?_
  refine r_get (v := .int (nI g)) hC kX8 4 rfl q1269 (fun _ h => h.get 0 rfl) rfl dX8_advance_62 65 rfl ?_
  refine r_put (J := xSt F V0 [(sc, .inr (7, [.ref tx, .int (nI en), .ref sy, .int kd, .int (nI g), .int (nI g), .int vl, va_rf wd])), (tx, .inl (2, 600, .inl T))]) hC kX8 5 rfl q1272 rfl (fun _ h => h.get 0 rfl) (Nat.le_of_ble_eq_true rfl) (rfl) (rfl) dX8_advance_65 (fun _ h => h.set 0 _ rfl) 68 rfl ?_
  refine r_aload_n hC 0 dX8_advance_68 rfl 69 rfl ?_
  refine r_get (v := .int (nI g)) hC kX8 4 rfl q1269 (fun _ h => h.get 0 rfl) rfl dX8_advance_69 72 rfl ?_
  refine r_aload_n hC 0 dX8_advance_72 rfl 73 rfl ?_
  refine r_get (v := .int (nI en)) hC kX8 1 rfl q1264 (fun _ h => h.get 0 rfl) rfl dX8_advance_73 76 rfl ?_
  refine r_icne hC 87 dX8_advance_76 (by decide) 79 rfl (fun _ => ?_) (fun h => absurd h (fun q9 => by have := (eq_nI (by omega) (by omega)).mp q9; omega))
  refine r_aload_n hC 0 dX8_advance_87 rfl 88 rfl ?_
  refine r_aload_n hC 0 dX8_advance_88 rfl 89 rfl ?_
  refine r_get (v := .int (nI g)) hC kX8 4 rfl q1269 (fun _ h => h.get 0 rfl) rfl dX8_advance_89 92 rfl ?_
  refine r_bipush hC 97 dX8_advance_92 bp_97 94 rfl ?_
  refine r_bipush hC 122 dX8_advance_94 bp_122 96 rfl ?_
  refine xCall.r (r := some (.int 0)) (r_cV hC kX8 sc [.int (nI g), .int 97, .int 122] mVX8_isBetween q980 (fun _ h => ⟨_, h.get 0 rfl⟩) (fun V9 h9 => (xRm_v (metX8_isBetween _ _ hG sc tx sy en g g kd vl wd T hen g 97 122 (by omega)) (show _ = some (Value.int 0) by rw [hf1]; rfl)) V9 (h9.in.sub [0, 1] rfl rfl)) ⟨rfl, rfl⟩ (Nat.le_of_ble_eq_true rfl) (Nat.le_of_ble_eq_true rfl) rfl (Nat.le_of_ble_eq_true rfl) dX8_advance_96) 0 0 99 rfl rfl rfl ?_
  refine r_ifeq hC 118 dX8_advance_99 (by decide) 102 rfl (fun _ => ?_) (fun h => absurd h (by decide))
  refine r_aload_n hC 0 dX8_advance_118 rfl 119 rfl ?_
  refine r_aload_n hC 0 dX8_advance_119 rfl 120 rfl ?_
  refine r_get (v := .int (nI g)) hC kX8 4 rfl q1269 (fun _ h => h.get 0 rfl) rfl dX8_advance_120 123 rfl ?_
  refine r_bipush hC 48 dX8_advance_123 bp_48 125 rfl ?_
  refine r_bipush hC 57 dX8_advance_125 bp_57 127 rfl ?_
  refine xCall.r (r := some (.int 1)) (r_cV hC kX8 sc [.int (nI g), .int 48, .int 57] mVX8_isBetween q980 (fun _ h => ⟨_, h.get 0 rfl⟩) (fun V9 h9 => (xRm_v (metX8_isBetween _ _ hG sc tx sy en g g kd vl wd T hen g 48 57 (by omega)) (show _ = some (Value.int 1) by rw [hf2]; rfl)) V9 (h9.in.sub [0, 1] rfl rfl)) ⟨rfl, rfl⟩ (Nat.le_of_ble_eq_true rfl) (Nat.le_of_ble_eq_true rfl) rfl (Nat.le_of_ble_eq_true rfl) dX8_advance_127) 0 0 130 rfl rfl rfl ?_
  refine r_ifeq hC 149 dX8_advance_130 (by decide) 133 rfl (fun h => absurd h (by decide)) (fun _ => ?_)
  refine r_aload_n hC 0 dX8_advance_133 rfl 134 rfl ?_
  refine r_iconst hC 2 dX8_advance_134 ic_2 135 rfl ?_
  refine r_put (J := xSt F V0 [(sc, .inr (7, [.ref tx, .int (nI en), .ref sy, .int 2, .int (nI g), .int (nI g), .int vl, va_rf wd])), (tx, .inl (2, 600, .inl T))]) hC kX8 3 rfl q1267 rfl (fun _ h => h.get 0 rfl) (Nat.le_of_ble_eq_true rfl) (rfl) (rfl) dX8_advance_135 (fun _ h => h.set 0 _ rfl) 138 rfl ?_
  refine r_aload_n hC 0 dX8_advance_138 rfl 139 rfl ?_
  refine r_aload_n hC 0 dX8_advance_139 rfl 140 rfl ?_
  refine xCall.w (wr := []) (r_cV hC kX8 sc [] mVX8_digits q1203 (fun _ h => ⟨_, h.get 0 rfl⟩) (fun V9 h9 => (metX8_digits _ _ hG sc tx sy en g g 2 vl wd T hen (by omega)) V9 (h9.in.sub [0, 1] rfl rfl)) ⟨rfl, rfl⟩ (Nat.le_of_ble_eq_true rfl) (Nat.le_of_ble_eq_true rfl) rfl (Nat.le_of_ble_eq_true rfl) dX8_advance_140) [0, 1] [] rfl rfl rfl (by decide) 0 0 143 rfl rfl rfl (fun v3 w4 h5 => ?_) (fun _ _ h => h.elim)
  obtain ⟨rfl, rfl⟩ := h5
  show rn C (xSt F V0 [(sc, .inr (7, [.ref tx, .int (nI en), .ref sy, .int 2, .int (nI g), .int (nI (runE figQ T en g)), .int vl, va_rf wd])), (tx, .inl (2, 600, .inl T))]) 0 0 143 [(0, .ref sc)] [.int (cval T g (runE figQ T en g - g)), .ref sc]
  refine r_put (J := xSt F V0 [(sc, .inr (7, [.ref tx, .int (nI en), .ref sy, .int 2, .int (nI g), .int (nI (runE figQ T en g)), .int (cval T g (runE figQ T en g - g)), va_rf wd])), (tx, .inl (2, 600, .inl T))]) hC kX8 6 rfl q1273 rfl (fun _ h => h.get 0 rfl) (Nat.le_of_ble_eq_true rfl) (rfl) (rfl) dX8_advance_143 (fun _ h => h.set 0 _ rfl) 146 rfl ?_
  refine r_goto hC 187 dX8_advance_146 (by decide) ?_
  have hte : runE figQ T en g = tEnd T en g := (by unfold tEnd; rw [if_pos hk, if_neg (by rw [hl]; decide), if_pos hd9] : tEnd T en g = runE figQ T en g).symm
  refine rn.mono (J := xSt F V0 [(sc, .inr (7, [.ref tx, .int (nI en), .ref sy, .int 2, .int (nI g), .int (nI (tEnd T en g)), .int (cval T g (runE figQ T en g - g)), va_rf wd])), (tx, .inl (2, 600, .inl T))]) (fun _ h => by rw [← hte]; exact h) ?_
  refine rn.mono (J := xSt F V0 [(sc, .inr (7, [.ref tx, .int (nI en), .ref sy, .int 2, .int (nI g), .int (nI (tEnd T en g)), .int (cval T g (tEnd T en g - g)), va_rf wd])), (tx, .inl (2, 600, .inl T))]) (fun _ h => by rw [← hte] at *; exact h) ?_
  exact r_vret hC (Nat.le_of_ble_eq_true rfl) (Nat.le_of_ble_eq_true rfl) (fun V9 h => hQ _ _ ⟨[(sc, .inr (7, [.ref tx, .int (nI en), .ref sy, .int 2, .int (nI g), .int (nI (tEnd T en g)), .int (cval T g (tEnd T en g - g)), va_rf wd])), (tx, .inl (2, 600, .inl T))], ⟨rfl, rfl⟩, by rw [← hV0, ← hF]; exact h⟩) dX8_advance_187
set_option maxHeartbeats 4000000 in
set_option maxRecDepth 100000 in
theorem metX8_advance3 (l : Launch) (G : xG) (hG : xGood G) (sc tx sy en bg p : Nat) (kd vl : Int32) (wd : Option Nat) (T : Nat → Int32) (hen : en ≤ 600) (kv m : Nat) (B : Nat → Int32) (hm0 : 0 < m) (hTb : fB T 600) (hpe : p ≤ en) (hst : xStr G sy kv m B) (g : Nat) (hgq : g = runE blkQ T en p) (hk : g < en) (hl : letQ (T g) = false) (hd9 : figQ (T g) = false) (hsy : syQ B m (T g) = true) (hng : ¬ T g < 0) : xWm l G yX8_advance (Cond.code yX8_advance cX8_advance 1 none) { frames := 7, locals := 192, cells := (tEnd T en g - g) + 4, slots := 5 * (tEnd T en g - g) + 36 } [.ref sc] [(sc, .inr (7, [.ref tx, .int (nI en), .ref sy, .int kd, .int (nI bg), .int (nI p), .int vl, va_rf wd])), (tx, .inl (2, 600, .inl T))] (fun v w' => v = none ∧ w' = [(sc, .inr (7, [.ref tx, .int (nI en), .ref sy, .int 3, .int (nI g), .int (nI (tEnd T en g)), .int vl, va_rf wd])), (tx, .inl (2, 600, .inl T))]) (fun _ _ => False) := by
  intro V hV
  refine xMet_ofT RX8 hG rfl (by decide) (Nat.le_of_ble_eq_true rfl) fun C hC hQ hX hl hg _ hTab => ?_
  subst hl hg
  obtain ⟨V0, hV0⟩ : ∃ V0, V0 = V := ⟨_, rfl⟩
  obtain ⟨F, hF⟩ : ∃ F, F = xF [(sc, .inr (7, [.ref tx, .int (nI en), .ref sy, .int kd, .int (nI bg), .int (nI p), .int vl, va_rf wd])), (tx, .inl (2, 600, .inl T))] := ⟨_, rfl⟩
  refine rn.mono (J := xSt F V0 [(sc, .inr (7, [.ref tx, .int (nI en), .ref sy, .int kd, .int (nI bg), .int (nI p), .int vl, va_rf wd])), (tx, .inl (2, 600, .inl T))]) (fun V9 h => by rw [h, hV0, hF]; exact hV.st) ?_
  show rn C (xSt F V0 [(sc, .inr (7, [.ref tx, .int (nI en), .ref sy, .int kd, .int (nI bg), .int (nI p), .int vl, va_rf wd])), (tx, .inl (2, 600, .inl T))]) 0 0 0 [(0, .ref sc)] []
  refine r_aload_n hC 0 dX8_advance_0 rfl 1 rfl ?_
  refine r_aload_n hC 0 dX8_advance_1 rfl 2 rfl ?_
  refine r_get (v := .int (nI p)) hC kX8 5 rfl q1272 (fun _ h => h.get 0 rfl) rfl dX8_advance_2 5 rfl ?_
  refine r_put (J := xSt F V0 [(sc, .inr (7, [.ref tx, .int (nI en), .ref sy, .int kd, .int (nI p), .int (nI p), .int vl, va_rf wd])), (tx, .inl (2, 600, .inl T))]) hC kX8 4 rfl q1269 rfl (fun _ h => h.get 0 rfl) (Nat.le_of_ble_eq_true rfl) (rfl) (rfl) dX8_advance_5 (fun _ h => h.set 0 _ rfl) 8 rfl ?_
  have hgp := runE_ge (P := blkQ) (bf := T) (e := en) (p := p)
  have hge : g ≤ en := by rw [hgq]; exact runE_le hpe
  refine lpX8_skip hG hC sc tx sy en bg p kd vl wd T hen g hgq hpe ?_ (g - p) p (by omega) (Nat.le_refl _)
  show rn C (xSt F V0 [(sc, .inr (7, [.ref tx, .int (nI en), .ref sy, .int kd, .int (nI g), .int (nI p), .int vl, va_rf wd])), (tx, .inl (2, 600, .inl T))]) 0 0 60 [(0, .ref sc)] []
  have hf1 : btQ T en g 97 122 = false := (by rw [bt_let, decide_eq_true hk, hl]; rfl)
  have hf2 : btQ T en g 48 57 = false := (by rw [bt_fig, decide_eq_true hk, hd9]; rfl)
  refine r_aload_n hC 0 dX8_advance_60 rfl 61 rfl ?_
  refine r_aload_n hC 0 dX8_advance_61 rfl 62 rfl ?_
  refine r_get (v := .int (nI g)) hC kX8 4 rfl q1269 (fun _ h => h.get 0 rfl) rfl dX8_advance_62 65 rfl ?_
  refine r_put (J := xSt F V0 [(sc, .inr (7, [.ref tx, .int (nI en), .ref sy, .int kd, .int (nI g), .int (nI g), .int vl, va_rf wd])), (tx, .inl (2, 600, .inl T))]) hC kX8 5 rfl q1272 rfl (fun _ h => h.get 0 rfl) (Nat.le_of_ble_eq_true rfl) (rfl) (rfl) dX8_advance_65 (fun _ h => h.set 0 _ rfl) 68 rfl ?_
  refine r_aload_n hC 0 dX8_advance_68 rfl 69 rfl ?_
  refine r_get (v := .int (nI g)) hC kX8 4 rfl q1269 (fun _ h => h.get 0 rfl) rfl dX8_advance_69 72 rfl ?_
  refine r_aload_n hC 0 dX8_advance_72 rfl 73 rfl ?_
  refine r_get (v := .int (nI en)) hC kX8 1 rfl q1264 (fun _ h => h.get 0 rfl) rfl dX8_advance_73 76 rfl ?_
  refine r_icne hC 87 dX8_advance_76 (by decide) 79 rfl (fun _ => ?_) (fun h => absurd h (fun q9 => by have := (eq_nI (by omega) (by omega)).mp q9; omega))
  refine r_aload_n hC 0 dX8_advance_87 rfl 88 rfl ?_
  refine r_aload_n hC 0 dX8_advance_88 rfl 89 rfl ?_
  refine r_get (v := .int (nI g)) hC kX8 4 rfl q1269 (fun _ h => h.get 0 rfl) rfl dX8_advance_89 92 rfl ?_
  refine r_bipush hC 97 dX8_advance_92 bp_97 94 rfl ?_
  refine r_bipush hC 122 dX8_advance_94 bp_122 96 rfl ?_
  refine xCall.r (r := some (.int 0)) (r_cV hC kX8 sc [.int (nI g), .int 97, .int 122] mVX8_isBetween q980 (fun _ h => ⟨_, h.get 0 rfl⟩) (fun V9 h9 => (xRm_v (metX8_isBetween _ _ hG sc tx sy en g g kd vl wd T hen g 97 122 (by omega)) (show _ = some (Value.int 0) by rw [hf1]; rfl)) V9 (h9.in.sub [0, 1] rfl rfl)) ⟨rfl, rfl⟩ (Nat.le_of_ble_eq_true rfl) (Nat.le_of_ble_eq_true rfl) rfl (Nat.le_of_ble_eq_true rfl) dX8_advance_96) 0 0 99 rfl rfl rfl ?_
  refine r_ifeq hC 118 dX8_advance_99 (by decide) 102 rfl (fun _ => ?_) (fun h => absurd h (by decide))
  refine r_aload_n hC 0 dX8_advance_118 rfl 119 rfl ?_
  refine r_aload_n hC 0 dX8_advance_119 rfl 120 rfl ?_
  refine r_get (v := .int (nI g)) hC kX8 4 rfl q1269 (fun _ h => h.get 0 rfl) rfl dX8_advance_120 123 rfl ?_
  refine r_bipush hC 48 dX8_advance_123 bp_48 125 rfl ?_
  refine r_bipush hC 57 dX8_advance_125 bp_57 127 rfl ?_
  refine xCall.r (r := some (.int 0)) (r_cV hC kX8 sc [.int (nI g), .int 48, .int 57] mVX8_isBetween q980 (fun _ h => ⟨_, h.get 0 rfl⟩) (fun V9 h9 => (xRm_v (metX8_isBetween _ _ hG sc tx sy en g g kd vl wd T hen g 48 57 (by omega)) (show _ = some (Value.int 0) by rw [hf2]; rfl)) V9 (h9.in.sub [0, 1] rfl rfl)) ⟨rfl, rfl⟩ (Nat.le_of_ble_eq_true rfl) (Nat.le_of_ble_eq_true rfl) rfl (Nat.le_of_ble_eq_true rfl) dX8_advance_127) 0 0 130 rfl rfl rfl ?_
  refine r_ifeq hC 149 dX8_advance_130 (by decide) 133 rfl (fun _ => ?_) (fun h => absurd h (by decide))
  refine r_aload_n hC 0 dX8_advance_149 rfl 150 rfl ?_
  refine r_dup hC dX8_advance_150 rfl 151 rfl ?_
  refine r_get (v := .int (nI g)) hC kX8 5 rfl q1272 (fun _ h => h.get 0 rfl) rfl dX8_advance_151 154 rfl ?_
  refine r_iconst hC 1 dX8_advance_154 ic_1 155 rfl ?_
  refine r_iadd hC (nI (g + 1)) dX8_advance_155  (nI_add g 1) 156 rfl ?_
  refine r_put (J := xSt F V0 [(sc, .inr (7, [.ref tx, .int (nI en), .ref sy, .int kd, .int (nI g), .int (nI (g + 1)), .int vl, va_rf wd])), (tx, .inl (2, 600, .inl T))]) hC kX8 5 rfl q1272 rfl (fun _ h => h.get 0 rfl) (Nat.le_of_ble_eq_true rfl) (rfl) (rfl) dX8_advance_156 (fun _ h => h.set 0 _ rfl) 159 rfl ?_
  refine r_aload_n hC 0 dX8_advance_159 rfl 160 rfl ?_
  refine r_aload_n hC 0 dX8_advance_160 rfl 161 rfl ?_
  refine r_get (v := .ref sy) hC kX8 2 rfl q1265 (fun _ h => h.get 0 rfl) rfl dX8_advance_161 164 rfl ?_
  refine r_aload_n hC 0 dX8_advance_164 rfl 165 rfl ?_
  refine r_get (v := .ref tx) hC kX8 0 rfl q1263 (fun _ h => h.get 0 rfl) rfl dX8_advance_165 168 rfl ?_
  refine r_aload_n hC 0 dX8_advance_168 rfl 169 rfl ?_
  refine r_get (v := .int (nI g)) hC kX8 4 rfl q1269 (fun _ h => h.get 0 rfl) rfl dX8_advance_169 172 rfl ?_
  refine r_bald hC g (xix_n g (by omega) (by omega)) (fun _ h => h.get 1 rfl) (T g) (rfl) dX8_advance_172 173 rfl ?_
  refine xCall.r (r := some (.int (ixF B (T g) m 0))) (r_cVO hC sy hst.1 [.int (T g)] mVJ7_indexOf q1213 (fun V9 h9 => (metJ7_indexOfY _ _ hG (T g) (fB_b hTb (by omega)) (Int32.not_lt.mp hng) (by have h9 := fB_b hTb (i := g) (by omega); rw [← h9]; exact b_255 _) sy kv m B hst hm0) V9 xIn.nil) ⟨rfl, rfl⟩ (Nat.le_of_ble_eq_true rfl) (Nat.le_of_ble_eq_true rfl) rfl (Nat.le_of_ble_eq_true rfl) dX8_advance_173) 0 0 176 rfl rfl rfl ?_
  refine r_iflt hC 183 dX8_advance_176 (by decide) 179 rfl (fun h => absurd h (sy_p hsy (Int32.not_lt.mp hng))) (fun _ => ?_)
  refine r_iconst hC 3 dX8_advance_179 ic_3 180 rfl ?_
  refine r_goto hC 184 dX8_advance_180 (by decide) ?_
  refine r_put (J := xSt F V0 [(sc, .inr (7, [.ref tx, .int (nI en), .ref sy, .int 3, .int (nI g), .int (nI (g + 1)), .int vl, va_rf wd])), (tx, .inl (2, 600, .inl T))]) hC kX8 3 rfl q1267 rfl (fun _ h => h.get 0 rfl) (Nat.le_of_ble_eq_true rfl) (rfl) (rfl) dX8_advance_184 (fun _ h => h.set 0 _ rfl) 187 rfl ?_
  have hte : g + 1 = tEnd T en g := (by unfold tEnd; rw [if_pos hk, if_neg (by rw [hl]; decide), if_neg (by rw [hd9]; decide)] : tEnd T en g = g + 1).symm
  refine rn.mono (J := xSt F V0 [(sc, .inr (7, [.ref tx, .int (nI en), .ref sy, .int 3, .int (nI g), .int (nI (tEnd T en g)), .int vl, va_rf wd])), (tx, .inl (2, 600, .inl T))]) (fun _ h => by rw [← hte]; exact h) ?_
  exact r_vret hC (Nat.le_of_ble_eq_true rfl) (Nat.le_of_ble_eq_true rfl) (fun V9 h => hQ _ _ ⟨[(sc, .inr (7, [.ref tx, .int (nI en), .ref sy, .int 3, .int (nI g), .int (nI (tEnd T en g)), .int vl, va_rf wd])), (tx, .inl (2, 600, .inl T))], ⟨rfl, rfl⟩, by rw [← hV0, ← hF]; exact h⟩) dX8_advance_187
set_option maxHeartbeats 4000000 in
set_option maxRecDepth 100000 in
theorem metX8_advance4 (l : Launch) (G : xG) (hG : xGood G) (sc tx sy en bg p : Nat) (kd vl : Int32) (wd : Option Nat) (T : Nat → Int32) (hen : en ≤ 600) (kv m : Nat) (B : Nat → Int32) (hm0 : 0 < m) (hTb : fB T 600) (hpe : p ≤ en) (hst : xStr G sy kv m B) (g : Nat) (hgq : g = runE blkQ T en p) (hk : g < en) (hl : letQ (T g) = false) (hd9 : figQ (T g) = false) (hsy : syQ B m (T g) = false) (hng : ¬ T g < 0) : xWm l G yX8_advance (Cond.code yX8_advance cX8_advance 1 none) { frames := 7, locals := 192, cells := (tEnd T en g - g) + 4, slots := 5 * (tEnd T en g - g) + 36 } [.ref sc] [(sc, .inr (7, [.ref tx, .int (nI en), .ref sy, .int kd, .int (nI bg), .int (nI p), .int vl, va_rf wd])), (tx, .inl (2, 600, .inl T))] (fun v w' => v = none ∧ w' = [(sc, .inr (7, [.ref tx, .int (nI en), .ref sy, .int 4, .int (nI g), .int (nI (tEnd T en g)), .int vl, va_rf wd])), (tx, .inl (2, 600, .inl T))]) (fun _ _ => False) := by
  intro V hV
  refine xMet_ofT RX8 hG rfl (by decide) (Nat.le_of_ble_eq_true rfl) fun C hC hQ hX hl hg _ hTab => ?_
  subst hl hg
  obtain ⟨V0, hV0⟩ : ∃ V0, V0 = V := ⟨_, rfl⟩
  obtain ⟨F, hF⟩ : ∃ F, F = xF [(sc, .inr (7, [.ref tx, .int (nI en), .ref sy, .int kd, .int (nI bg), .int (nI p), .int vl, va_rf wd])), (tx, .inl (2, 600, .inl T))] := ⟨_, rfl⟩
  refine rn.mono (J := xSt F V0 [(sc, .inr (7, [.ref tx, .int (nI en), .ref sy, .int kd, .int (nI bg), .int (nI p), .int vl, va_rf wd])), (tx, .inl (2, 600, .inl T))]) (fun V9 h => by rw [h, hV0, hF]; exact hV.st) ?_
  show rn C (xSt F V0 [(sc, .inr (7, [.ref tx, .int (nI en), .ref sy, .int kd, .int (nI bg), .int (nI p), .int vl, va_rf wd])), (tx, .inl (2, 600, .inl T))]) 0 0 0 [(0, .ref sc)] []
  refine r_aload_n hC 0 dX8_advance_0 rfl 1 rfl ?_
  refine r_aload_n hC 0 dX8_advance_1 rfl 2 rfl ?_
  refine r_get (v := .int (nI p)) hC kX8 5 rfl q1272 (fun _ h => h.get 0 rfl) rfl dX8_advance_2 5 rfl ?_
  refine r_put (J := xSt F V0 [(sc, .inr (7, [.ref tx, .int (nI en), .ref sy, .int kd, .int (nI p), .int (nI p), .int vl, va_rf wd])), (tx, .inl (2, 600, .inl T))]) hC kX8 4 rfl q1269 rfl (fun _ h => h.get 0 rfl) (Nat.le_of_ble_eq_true rfl) (rfl) (rfl) dX8_advance_5 (fun _ h => h.set 0 _ rfl) 8 rfl ?_
  have hgp := runE_ge (P := blkQ) (bf := T) (e := en) (p := p)
  have hge : g ≤ en := by rw [hgq]; exact runE_le hpe
  refine lpX8_skip hG hC sc tx sy en bg p kd vl wd T hen g hgq hpe ?_ (g - p) p (by omega) (Nat.le_refl _)
  show rn C (xSt F V0 [(sc, .inr (7, [.ref tx, .int (nI en), .ref sy, .int kd, .int (nI g), .int (nI p), .int vl, va_rf wd])), (tx, .inl (2, 600, .inl T))]) 0 0 60 [(0, .ref sc)] []
  have hf1 : btQ T en g 97 122 = false := (by rw [bt_let, decide_eq_true hk, hl]; rfl)
  have hf2 : btQ T en g 48 57 = false := (by rw [bt_fig, decide_eq_true hk, hd9]; rfl)
  refine r_aload_n hC 0 dX8_advance_60 rfl 61 rfl ?_
  refine r_aload_n hC 0 dX8_advance_61 rfl 62 rfl ?_
  refine r_get (v := .int (nI g)) hC kX8 4 rfl q1269 (fun _ h => h.get 0 rfl) rfl dX8_advance_62 65 rfl ?_
  refine r_put (J := xSt F V0 [(sc, .inr (7, [.ref tx, .int (nI en), .ref sy, .int kd, .int (nI g), .int (nI g), .int vl, va_rf wd])), (tx, .inl (2, 600, .inl T))]) hC kX8 5 rfl q1272 rfl (fun _ h => h.get 0 rfl) (Nat.le_of_ble_eq_true rfl) (rfl) (rfl) dX8_advance_65 (fun _ h => h.set 0 _ rfl) 68 rfl ?_
  refine r_aload_n hC 0 dX8_advance_68 rfl 69 rfl ?_
  refine r_get (v := .int (nI g)) hC kX8 4 rfl q1269 (fun _ h => h.get 0 rfl) rfl dX8_advance_69 72 rfl ?_
  refine r_aload_n hC 0 dX8_advance_72 rfl 73 rfl ?_
  refine r_get (v := .int (nI en)) hC kX8 1 rfl q1264 (fun _ h => h.get 0 rfl) rfl dX8_advance_73 76 rfl ?_
  refine r_icne hC 87 dX8_advance_76 (by decide) 79 rfl (fun _ => ?_) (fun h => absurd h (fun q9 => by have := (eq_nI (by omega) (by omega)).mp q9; omega))
  refine r_aload_n hC 0 dX8_advance_87 rfl 88 rfl ?_
  refine r_aload_n hC 0 dX8_advance_88 rfl 89 rfl ?_
  refine r_get (v := .int (nI g)) hC kX8 4 rfl q1269 (fun _ h => h.get 0 rfl) rfl dX8_advance_89 92 rfl ?_
  refine r_bipush hC 97 dX8_advance_92 bp_97 94 rfl ?_
  refine r_bipush hC 122 dX8_advance_94 bp_122 96 rfl ?_
  refine xCall.r (r := some (.int 0)) (r_cV hC kX8 sc [.int (nI g), .int 97, .int 122] mVX8_isBetween q980 (fun _ h => ⟨_, h.get 0 rfl⟩) (fun V9 h9 => (xRm_v (metX8_isBetween _ _ hG sc tx sy en g g kd vl wd T hen g 97 122 (by omega)) (show _ = some (Value.int 0) by rw [hf1]; rfl)) V9 (h9.in.sub [0, 1] rfl rfl)) ⟨rfl, rfl⟩ (Nat.le_of_ble_eq_true rfl) (Nat.le_of_ble_eq_true rfl) rfl (Nat.le_of_ble_eq_true rfl) dX8_advance_96) 0 0 99 rfl rfl rfl ?_
  refine r_ifeq hC 118 dX8_advance_99 (by decide) 102 rfl (fun _ => ?_) (fun h => absurd h (by decide))
  refine r_aload_n hC 0 dX8_advance_118 rfl 119 rfl ?_
  refine r_aload_n hC 0 dX8_advance_119 rfl 120 rfl ?_
  refine r_get (v := .int (nI g)) hC kX8 4 rfl q1269 (fun _ h => h.get 0 rfl) rfl dX8_advance_120 123 rfl ?_
  refine r_bipush hC 48 dX8_advance_123 bp_48 125 rfl ?_
  refine r_bipush hC 57 dX8_advance_125 bp_57 127 rfl ?_
  refine xCall.r (r := some (.int 0)) (r_cV hC kX8 sc [.int (nI g), .int 48, .int 57] mVX8_isBetween q980 (fun _ h => ⟨_, h.get 0 rfl⟩) (fun V9 h9 => (xRm_v (metX8_isBetween _ _ hG sc tx sy en g g kd vl wd T hen g 48 57 (by omega)) (show _ = some (Value.int 0) by rw [hf2]; rfl)) V9 (h9.in.sub [0, 1] rfl rfl)) ⟨rfl, rfl⟩ (Nat.le_of_ble_eq_true rfl) (Nat.le_of_ble_eq_true rfl) rfl (Nat.le_of_ble_eq_true rfl) dX8_advance_127) 0 0 130 rfl rfl rfl ?_
  refine r_ifeq hC 149 dX8_advance_130 (by decide) 133 rfl (fun _ => ?_) (fun h => absurd h (by decide))
  refine r_aload_n hC 0 dX8_advance_149 rfl 150 rfl ?_
  refine r_dup hC dX8_advance_150 rfl 151 rfl ?_
  refine r_get (v := .int (nI g)) hC kX8 5 rfl q1272 (fun _ h => h.get 0 rfl) rfl dX8_advance_151 154 rfl ?_
  refine r_iconst hC 1 dX8_advance_154 ic_1 155 rfl ?_
  refine r_iadd hC (nI (g + 1)) dX8_advance_155  (nI_add g 1) 156 rfl ?_
  refine r_put (J := xSt F V0 [(sc, .inr (7, [.ref tx, .int (nI en), .ref sy, .int kd, .int (nI g), .int (nI (g + 1)), .int vl, va_rf wd])), (tx, .inl (2, 600, .inl T))]) hC kX8 5 rfl q1272 rfl (fun _ h => h.get 0 rfl) (Nat.le_of_ble_eq_true rfl) (rfl) (rfl) dX8_advance_156 (fun _ h => h.set 0 _ rfl) 159 rfl ?_
  refine r_aload_n hC 0 dX8_advance_159 rfl 160 rfl ?_
  refine r_aload_n hC 0 dX8_advance_160 rfl 161 rfl ?_
  refine r_get (v := .ref sy) hC kX8 2 rfl q1265 (fun _ h => h.get 0 rfl) rfl dX8_advance_161 164 rfl ?_
  refine r_aload_n hC 0 dX8_advance_164 rfl 165 rfl ?_
  refine r_get (v := .ref tx) hC kX8 0 rfl q1263 (fun _ h => h.get 0 rfl) rfl dX8_advance_165 168 rfl ?_
  refine r_aload_n hC 0 dX8_advance_168 rfl 169 rfl ?_
  refine r_get (v := .int (nI g)) hC kX8 4 rfl q1269 (fun _ h => h.get 0 rfl) rfl dX8_advance_169 172 rfl ?_
  refine r_bald hC g (xix_n g (by omega) (by omega)) (fun _ h => h.get 1 rfl) (T g) (rfl) dX8_advance_172 173 rfl ?_
  refine xCall.r (r := some (.int (ixF B (T g) m 0))) (r_cVO hC sy hst.1 [.int (T g)] mVJ7_indexOf q1213 (fun V9 h9 => (metJ7_indexOfY _ _ hG (T g) (fB_b hTb (by omega)) (Int32.not_lt.mp hng) (by have h9 := fB_b hTb (i := g) (by omega); rw [← h9]; exact b_255 _) sy kv m B hst hm0) V9 xIn.nil) ⟨rfl, rfl⟩ (Nat.le_of_ble_eq_true rfl) (Nat.le_of_ble_eq_true rfl) rfl (Nat.le_of_ble_eq_true rfl) dX8_advance_173) 0 0 176 rfl rfl rfl ?_
  refine r_iflt hC 183 dX8_advance_176 (by decide) 179 rfl (fun _ => ?_) (fun h => absurd (sy_n hsy (Int32.not_lt.mp hng)) h)
  refine r_iconst hC 4 dX8_advance_183 ic_4 184 rfl ?_
  refine r_put (J := xSt F V0 [(sc, .inr (7, [.ref tx, .int (nI en), .ref sy, .int 4, .int (nI g), .int (nI (g + 1)), .int vl, va_rf wd])), (tx, .inl (2, 600, .inl T))]) hC kX8 3 rfl q1267 rfl (fun _ h => h.get 0 rfl) (Nat.le_of_ble_eq_true rfl) (rfl) (rfl) dX8_advance_184 (fun _ h => h.set 0 _ rfl) 187 rfl ?_
  have hte : g + 1 = tEnd T en g := (by unfold tEnd; rw [if_pos hk, if_neg (by rw [hl]; decide), if_neg (by rw [hd9]; decide)] : tEnd T en g = g + 1).symm
  refine rn.mono (J := xSt F V0 [(sc, .inr (7, [.ref tx, .int (nI en), .ref sy, .int 4, .int (nI g), .int (nI (tEnd T en g)), .int vl, va_rf wd])), (tx, .inl (2, 600, .inl T))]) (fun _ h => by rw [← hte]; exact h) ?_
  exact r_vret hC (Nat.le_of_ble_eq_true rfl) (Nat.le_of_ble_eq_true rfl) (fun V9 h => hQ _ _ ⟨[(sc, .inr (7, [.ref tx, .int (nI en), .ref sy, .int 4, .int (nI g), .int (nI (tEnd T en g)), .int vl, va_rf wd])), (tx, .inl (2, 600, .inl T))], ⟨rfl, rfl⟩, by rw [← hV0, ← hF]; exact h⟩) dX8_advance_187
set_option maxHeartbeats 4000000 in
set_option maxRecDepth 100000 in
theorem metX8_advance4n (l : Launch) (G : xG) (hG : xGood G) (sc tx sy en bg p : Nat) (kd vl : Int32) (wd : Option Nat) (T : Nat → Int32) (hen : en ≤ 600) (kv m : Nat) (B : Nat → Int32) (hm0 : 0 < m) (hTb : fB T 600) (hpe : p ≤ en) (hst : xStr G sy kv m B) (g : Nat) (hgq : g = runE blkQ T en p) (hk : g < en) (hl : letQ (T g) = false) (hd9 : figQ (T g) = false) (hsy : syQ B m (T g) = false) (hng : T g < 0) : xWm l G yX8_advance (Cond.code yX8_advance cX8_advance 1 none) { frames := 7, locals := 192, cells := (tEnd T en g - g) + 4, slots := 5 * (tEnd T en g - g) + 36 } [.ref sc] [(sc, .inr (7, [.ref tx, .int (nI en), .ref sy, .int kd, .int (nI bg), .int (nI p), .int vl, va_rf wd])), (tx, .inl (2, 600, .inl T))] (fun v w' => v = none ∧ w' = [(sc, .inr (7, [.ref tx, .int (nI en), .ref sy, .int 4, .int (nI g), .int (nI (tEnd T en g)), .int vl, va_rf wd])), (tx, .inl (2, 600, .inl T))]) (fun _ _ => False) := by
  intro V hV
  refine xMet_ofT RX8 hG rfl (by decide) (Nat.le_of_ble_eq_true rfl) fun C hC hQ hX hl hg _ hTab => ?_
  subst hl hg
  obtain ⟨V0, hV0⟩ : ∃ V0, V0 = V := ⟨_, rfl⟩
  obtain ⟨F, hF⟩ : ∃ F, F = xF [(sc, .inr (7, [.ref tx, .int (nI en), .ref sy, .int kd, .int (nI bg), .int (nI p), .int vl, va_rf wd])), (tx, .inl (2, 600, .inl T))] := ⟨_, rfl⟩
  refine rn.mono (J := xSt F V0 [(sc, .inr (7, [.ref tx, .int (nI en), .ref sy, .int kd, .int (nI bg), .int (nI p), .int vl, va_rf wd])), (tx, .inl (2, 600, .inl T))]) (fun V9 h => by rw [h, hV0, hF]; exact hV.st) ?_
  show rn C (xSt F V0 [(sc, .inr (7, [.ref tx, .int (nI en), .ref sy, .int kd, .int (nI bg), .int (nI p), .int vl, va_rf wd])), (tx, .inl (2, 600, .inl T))]) 0 0 0 [(0, .ref sc)] []
  refine r_aload_n hC 0 dX8_advance_0 rfl 1 rfl ?_
  refine r_aload_n hC 0 dX8_advance_1 rfl 2 rfl ?_
  refine r_get (v := .int (nI p)) hC kX8 5 rfl q1272 (fun _ h => h.get 0 rfl) rfl dX8_advance_2 5 rfl ?_
  refine r_put (J := xSt F V0 [(sc, .inr (7, [.ref tx, .int (nI en), .ref sy, .int kd, .int (nI p), .int (nI p), .int vl, va_rf wd])), (tx, .inl (2, 600, .inl T))]) hC kX8 4 rfl q1269 rfl (fun _ h => h.get 0 rfl) (Nat.le_of_ble_eq_true rfl) (rfl) (rfl) dX8_advance_5 (fun _ h => h.set 0 _ rfl) 8 rfl ?_
  have hgp := runE_ge (P := blkQ) (bf := T) (e := en) (p := p)
  have hge : g ≤ en := by rw [hgq]; exact runE_le hpe
  refine lpX8_skip hG hC sc tx sy en bg p kd vl wd T hen g hgq hpe ?_ (g - p) p (by omega) (Nat.le_refl _)
  show rn C (xSt F V0 [(sc, .inr (7, [.ref tx, .int (nI en), .ref sy, .int kd, .int (nI g), .int (nI p), .int vl, va_rf wd])), (tx, .inl (2, 600, .inl T))]) 0 0 60 [(0, .ref sc)] []
  have hf1 : btQ T en g 97 122 = false := (by rw [bt_let, decide_eq_true hk, hl]; rfl)
  have hf2 : btQ T en g 48 57 = false := (by rw [bt_fig, decide_eq_true hk, hd9]; rfl)
  refine r_aload_n hC 0 dX8_advance_60 rfl 61 rfl ?_
  refine r_aload_n hC 0 dX8_advance_61 rfl 62 rfl ?_
  refine r_get (v := .int (nI g)) hC kX8 4 rfl q1269 (fun _ h => h.get 0 rfl) rfl dX8_advance_62 65 rfl ?_
  refine r_put (J := xSt F V0 [(sc, .inr (7, [.ref tx, .int (nI en), .ref sy, .int kd, .int (nI g), .int (nI g), .int vl, va_rf wd])), (tx, .inl (2, 600, .inl T))]) hC kX8 5 rfl q1272 rfl (fun _ h => h.get 0 rfl) (Nat.le_of_ble_eq_true rfl) (rfl) (rfl) dX8_advance_65 (fun _ h => h.set 0 _ rfl) 68 rfl ?_
  refine r_aload_n hC 0 dX8_advance_68 rfl 69 rfl ?_
  refine r_get (v := .int (nI g)) hC kX8 4 rfl q1269 (fun _ h => h.get 0 rfl) rfl dX8_advance_69 72 rfl ?_
  refine r_aload_n hC 0 dX8_advance_72 rfl 73 rfl ?_
  refine r_get (v := .int (nI en)) hC kX8 1 rfl q1264 (fun _ h => h.get 0 rfl) rfl dX8_advance_73 76 rfl ?_
  refine r_icne hC 87 dX8_advance_76 (by decide) 79 rfl (fun _ => ?_) (fun h => absurd h (fun q9 => by have := (eq_nI (by omega) (by omega)).mp q9; omega))
  refine r_aload_n hC 0 dX8_advance_87 rfl 88 rfl ?_
  refine r_aload_n hC 0 dX8_advance_88 rfl 89 rfl ?_
  refine r_get (v := .int (nI g)) hC kX8 4 rfl q1269 (fun _ h => h.get 0 rfl) rfl dX8_advance_89 92 rfl ?_
  refine r_bipush hC 97 dX8_advance_92 bp_97 94 rfl ?_
  refine r_bipush hC 122 dX8_advance_94 bp_122 96 rfl ?_
  refine xCall.r (r := some (.int 0)) (r_cV hC kX8 sc [.int (nI g), .int 97, .int 122] mVX8_isBetween q980 (fun _ h => ⟨_, h.get 0 rfl⟩) (fun V9 h9 => (xRm_v (metX8_isBetween _ _ hG sc tx sy en g g kd vl wd T hen g 97 122 (by omega)) (show _ = some (Value.int 0) by rw [hf1]; rfl)) V9 (h9.in.sub [0, 1] rfl rfl)) ⟨rfl, rfl⟩ (Nat.le_of_ble_eq_true rfl) (Nat.le_of_ble_eq_true rfl) rfl (Nat.le_of_ble_eq_true rfl) dX8_advance_96) 0 0 99 rfl rfl rfl ?_
  refine r_ifeq hC 118 dX8_advance_99 (by decide) 102 rfl (fun _ => ?_) (fun h => absurd h (by decide))
  refine r_aload_n hC 0 dX8_advance_118 rfl 119 rfl ?_
  refine r_aload_n hC 0 dX8_advance_119 rfl 120 rfl ?_
  refine r_get (v := .int (nI g)) hC kX8 4 rfl q1269 (fun _ h => h.get 0 rfl) rfl dX8_advance_120 123 rfl ?_
  refine r_bipush hC 48 dX8_advance_123 bp_48 125 rfl ?_
  refine r_bipush hC 57 dX8_advance_125 bp_57 127 rfl ?_
  refine xCall.r (r := some (.int 0)) (r_cV hC kX8 sc [.int (nI g), .int 48, .int 57] mVX8_isBetween q980 (fun _ h => ⟨_, h.get 0 rfl⟩) (fun V9 h9 => (xRm_v (metX8_isBetween _ _ hG sc tx sy en g g kd vl wd T hen g 48 57 (by omega)) (show _ = some (Value.int 0) by rw [hf2]; rfl)) V9 (h9.in.sub [0, 1] rfl rfl)) ⟨rfl, rfl⟩ (Nat.le_of_ble_eq_true rfl) (Nat.le_of_ble_eq_true rfl) rfl (Nat.le_of_ble_eq_true rfl) dX8_advance_127) 0 0 130 rfl rfl rfl ?_
  refine r_ifeq hC 149 dX8_advance_130 (by decide) 133 rfl (fun _ => ?_) (fun h => absurd h (by decide))
  refine r_aload_n hC 0 dX8_advance_149 rfl 150 rfl ?_
  refine r_dup hC dX8_advance_150 rfl 151 rfl ?_
  refine r_get (v := .int (nI g)) hC kX8 5 rfl q1272 (fun _ h => h.get 0 rfl) rfl dX8_advance_151 154 rfl ?_
  refine r_iconst hC 1 dX8_advance_154 ic_1 155 rfl ?_
  refine r_iadd hC (nI (g + 1)) dX8_advance_155  (nI_add g 1) 156 rfl ?_
  refine r_put (J := xSt F V0 [(sc, .inr (7, [.ref tx, .int (nI en), .ref sy, .int kd, .int (nI g), .int (nI (g + 1)), .int vl, va_rf wd])), (tx, .inl (2, 600, .inl T))]) hC kX8 5 rfl q1272 rfl (fun _ h => h.get 0 rfl) (Nat.le_of_ble_eq_true rfl) (rfl) (rfl) dX8_advance_156 (fun _ h => h.set 0 _ rfl) 159 rfl ?_
  refine r_aload_n hC 0 dX8_advance_159 rfl 160 rfl ?_
  refine r_aload_n hC 0 dX8_advance_160 rfl 161 rfl ?_
  refine r_get (v := .ref sy) hC kX8 2 rfl q1265 (fun _ h => h.get 0 rfl) rfl dX8_advance_161 164 rfl ?_
  refine r_aload_n hC 0 dX8_advance_164 rfl 165 rfl ?_
  refine r_get (v := .ref tx) hC kX8 0 rfl q1263 (fun _ h => h.get 0 rfl) rfl dX8_advance_165 168 rfl ?_
  refine r_aload_n hC 0 dX8_advance_168 rfl 169 rfl ?_
  refine r_get (v := .int (nI g)) hC kX8 4 rfl q1269 (fun _ h => h.get 0 rfl) rfl dX8_advance_169 172 rfl ?_
  refine r_bald hC g (xix_n g (by omega) (by omega)) (fun _ h => h.get 1 rfl) (T g) (rfl) dX8_advance_172 173 rfl ?_
  refine xCall.r (r := some (.int (-1))) (r_cVO hC sy hst.1 [.int (T g)] mVJ7_indexOf q1213 (fun V9 h9 => (metJ7_indexOfN _ _ hG (T g) hng sy kv m B hst) V9 xIn.nil) ⟨rfl, rfl⟩ (Nat.le_of_ble_eq_true rfl) (Nat.le_of_ble_eq_true rfl) rfl (Nat.le_of_ble_eq_true rfl) dX8_advance_173) 0 0 176 rfl rfl rfl ?_
  refine r_iflt hC 183 dX8_advance_176 (by decide) 179 rfl (fun _ => ?_) (fun h => absurd h (by decide))
  refine r_iconst hC 4 dX8_advance_183 ic_4 184 rfl ?_
  refine r_put (J := xSt F V0 [(sc, .inr (7, [.ref tx, .int (nI en), .ref sy, .int 4, .int (nI g), .int (nI (g + 1)), .int vl, va_rf wd])), (tx, .inl (2, 600, .inl T))]) hC kX8 3 rfl q1267 rfl (fun _ h => h.get 0 rfl) (Nat.le_of_ble_eq_true rfl) (rfl) (rfl) dX8_advance_184 (fun _ h => h.set 0 _ rfl) 187 rfl ?_
  have hte : g + 1 = tEnd T en g := (by unfold tEnd; rw [if_pos hk, if_neg (by rw [hl]; decide), if_neg (by rw [hd9]; decide)] : tEnd T en g = g + 1).symm
  refine rn.mono (J := xSt F V0 [(sc, .inr (7, [.ref tx, .int (nI en), .ref sy, .int 4, .int (nI g), .int (nI (tEnd T en g)), .int vl, va_rf wd])), (tx, .inl (2, 600, .inl T))]) (fun _ h => by rw [← hte]; exact h) ?_
  exact r_vret hC (Nat.le_of_ble_eq_true rfl) (Nat.le_of_ble_eq_true rfl) (fun V9 h => hQ _ _ ⟨[(sc, .inr (7, [.ref tx, .int (nI en), .ref sy, .int 4, .int (nI g), .int (nI (tEnd T en g)), .int vl, va_rf wd])), (tx, .inl (2, 600, .inl T))], ⟨rfl, rfl⟩, by rw [← hV0, ← hF]; exact h⟩) dX8_advance_187
