/-! ===== the reference: looks, runs ===== -/
set_option maxRecDepth 100000
def cntQ (r : Nat → Int64) : Nat := (r 5).toNatClampNeg
def rowA (r : Nat → Int64) : Prop := cntQ r ≤ 30 ∧ r 5 = lN (cntQ r)
theorem lN_cl {q : Nat} (h : q < 2 ^ 31) : (lN q).toNatClampNeg = q := by
  have h1 : (lN q).toInt = (q : Int) := lN_toInt h
  have h2 : (lN q).toNatClampNeg = (lN q).toInt.toNat := rfl
  rw [h2, h1]; rfl
theorem rowA_of {r : Nat → Int64} {q : Nat} (hq : q ≤ 30) (h : r 5 = lN q) : rowA r := by
  have e : cntQ r = q := by unfold cntQ; rw [h]; exact lN_cl (by omega)
  unfold rowA
  rw [e]
  exact ⟨hq, h⟩
def lookP (t mm r : Nat → Int64) (p : Nat) : Nat → Int64 := if mm p ≤ mm (3 + p) ∨ lN (distQ r p) < mm (3 + p) ∨ t 3 < mm (3 + p) then r else keepQ r (cntQ r) (r 0 - 1) (nI p).toInt64 (mm (3 + p))
theorem keepA_5 {r : Nat → Int64} {q : Nat} {ck p d : Int64} : keepA r q ck p d 5 = lN (q + 1) := up_same _ _ _
theorem rowA_keep {r : Nat → Int64} {ck p d : Int64} (h : rowA r) : rowA (keepQ r (cntQ r) ck p d) := by
  unfold keepQ
  split
  · exact rowA_of (q := cntQ r + 1) (by omega) keepA_5
  · exact rowA_of (q := 30) (by omega) keepA_5
theorem rowA_look {t mm r : Nat → Int64} {p : Nat} (h : rowA r) : rowA (lookP t mm r p) := by
  unfold lookP
  split
  · exact h
  · exact rowA_keep h
theorem keepA_lo {r : Nat → Int64} {q : Nat} {ck p d : Int64} {x : Nat} (h : x < 21) (h5 : ¬ x = 5) : keepA r q ck p d x = r x := by
  unfold keepA
  rw [up_ne h5, up_ne (by omega), up_ne (by omega), up_ne (by omega)]
theorem keepQ_lo {r : Nat → Int64} {q : Nat} {ck p d : Int64} {x : Nat} (h : x < 21) (h5 : ¬ x = 5) : keepQ r q ck p d x = r x := by
  unfold keepQ
  split
  · exact keepA_lo h h5
  · rw [keepA_lo h h5, up_ne h5]; exact cpy_out (by omega)
theorem lookP_lo {t mm r : Nat → Int64} {p x : Nat} (h : x < 21) (h5 : ¬ x = 5) : lookP t mm r p x = r x := by
  unfold lookP
  split
  · rfl
  · exact keepQ_lo h h5
def lookQ (t mm r : Nat → Int64) (m : Nat) : Nat → Int64 := if m = 2 then lookP t mm (lookP t mm (lookP t mm r 0) 1) 2 else r
theorem lookQ_lo {t mm r : Nat → Int64} {m x : Nat} (h : x < 21) (h5 : ¬ x = 5) : lookQ t mm r m x = r x := by
  unfold lookQ
  split
  · rw [lookP_lo h h5, lookP_lo h h5, lookP_lo h h5]
  · rfl
theorem rowA_lookQ {t mm r : Nat → Int64} {m : Nat} (h : rowA r) : rowA (lookQ t mm r m) := by
  unfold lookQ
  split
  · exact rowA_look (rowA_look (rowA_look h))
  · exact h
theorem mOK_eq {r r' : Nat → Int64} (h6 : r' 6 = r 6) (h11 : r' 11 = r 11) (h16 : r' 16 = r 16) (h : mOK r) : mOK r' := by
  unfold mOK
  rw [h6, h11, h16]
  exact h
def still (j : Nat) : Prop := (0 < j ∧ j < 7) ∨ j = 11 ∨ j = 16 ∨ 21 ≤ j
theorem kick_still {t r : Nat → Int64} {hf bk : Bool} {j : Nat} (h : still j ∨ j = 0) : kickQ t r hf bk j = r j := by
  unfold still at h
  unfold kickQ
  rw [up_ne (by omega), up_ne (by omega), up_ne (by omega), up_ne (by omega), up_ne (by omega), up_ne (by omega)]
theorem drift_still {t r : Nat → Int64} {hf bk : Bool} {j : Nat} (h : still j ∨ j = 0) : driftQ t r hf bk j = r j := by
  unfold still at h
  unfold driftQ
  rw [up_ne (by omega), up_ne (by omega), up_ne (by omega), up_ne (by omega), up_ne (by omega), up_ne (by omega)]
theorem partA_still {t r : Nat → Int64} {c : Int32} {bk : Bool} {j : Nat} (h : still j ∨ j = 0) : partA t r c bk j = r j := by
  unfold partA
  split
  · exact kick_still h
  · split
    · exact kick_still h
    · split <;> exact drift_still h
theorem partO_still {t r r' : Nat → Int64} {sc : Int64} {bk : Bool} {i j : Nat} (h : still j ∨ j = 0) (e : partO t sc bk i r = some r') : r' j = r j := by
  unfold partO at e
  split at e
  · cases e; rfl
  · split at e
    · cases e; exact partA_still h
    · cases e
theorem stepQ_still {t r r' : Nat → Int64} {bk : Bool} {j : Nat} (h : still j) (e : stepQ t r bk = some r') : r' j = r j := by
  unfold stepQ at e
  split at e
  · cases h1 : partO t (r 1) bk (if bk then 2 else 0) r with
    | none => rw [h1] at e; cases e
    | some r1 =>
      rw [h1] at e
      dsimp only at e
      cases h2 : partO t (r 1) bk 1 r1 with
      | none => rw [h2] at e; cases e
      | some r2 =>
        rw [h2] at e
        dsimp only at e
        cases h3 : partO t (r 1) bk (if bk then 0 else 2) r2 with
        | none => rw [h3] at e; cases e
        | some r3 =>
          rw [h3] at e
          dsimp only at e
          cases e
          rw [up_ne (by unfold still at h; omega), partO_still (Or.inl h) h3, partO_still (Or.inl h) h2, partO_still (Or.inl h) h1]
  · cases e
theorem stepQ_mOK {t r r' : Nat → Int64} {bk : Bool} (h : mOK r) (e : stepQ t r bk = some r') : mOK r' :=
  mOK_eq (stepQ_still (by unfold still; omega) e) (stepQ_still (by unfold still; omega) e) (stepQ_still (by unfold still; omega) e) h
theorem rowA_eq {r r' : Nat → Int64} (h5 : r' 5 = r 5) (h : rowA r) : rowA r' := by
  unfold rowA cntQ
  rw [h5]
  exact h
theorem stepQ_rowA {t r r' : Nat → Int64} {bk : Bool} (h : rowA r) (e : stepQ t r bk = some r') : rowA r' := rowA_eq (stepQ_still (by unfold still; omega) e) h
def seeQ (t r r1 : Nat → Int64) : Nat → Int64 :=
  va_up (va_up (va_up r1 3 (if enQ t r1 ≤ r1 3 then r1 3 else enQ t r1)) 4 (if r1 4 ≤ enQ t r1 then r1 4 else enQ t r1)) 2
    (r1 2 + (if bandQ t (va_up (va_up r1 3 (if enQ t r1 ≤ r1 3 then r1 3 else enQ t r1)) 4 (if r1 4 ≤ enQ t r1 then r1 4 else enQ t r1)) = bandQ t r then 0 else 1))
theorem see_at {t r r1 : Nat → Int64} {x : Nat} (h : ¬ x = 2 ∧ ¬ x = 3 ∧ ¬ x = 4) : seeQ t r r1 x = r1 x := by
  unfold seeQ
  rw [up_ne h.1, up_ne h.2.2, up_ne h.2.1]
set_option maxHeartbeats 4000000 in
set_option maxRecDepth 100000 in
theorem itX6_looks {C : xC} {F : Nat → Prop} {V0 : xV} {k n : Nat} (hG : xGood (xGG C)) (hC : xCtx C RX6 cX6_looks 4 none { frames := 4, locals := 94, cells := 0, slots := 0 }) (b : Nat → Nat) (i : Nat → Int32) (j : Nat → Int64) (t r mm : Nat → Int64) (p : Nat) (hp : p < 3) (hi : i 11 = 2) (hA : rowA r) (hk0 : k = 0) (hn0 : n = 0) (kJ : rn C (xSt F V0 [(b 0, .inr (5, mF b i j)), (b 7, .inl (1, 5, .inr (.inl t))), (b 1, .inl (1, 111, .inr (.inl (lookP t mm r p)))), (b 12, .inl (1, 6, .inr (.inl mm)))]) k n 73 [(1, .int (nI p)), (0, .ref (b 0))] []) : rn C (xSt F V0 [(b 0, .inr (5, mF b i j)), (b 7, .inl (1, 5, .inr (.inl t))), (b 1, .inl (1, 111, .inr (.inl r))), (b 12, .inl (1, 6, .inr (.inl mm)))]) k n 7 [(1, .int (nI p)), (0, .ref (b 0))] [] := by
  subst hk0 hn0
  refine r_aload_n hC 1 dX6_looks_7 rfl 8 rfl ?_
  refine r_get (v := .int (i 11)) hC kX6 11 rfl q2764 (fun _ h => h.get 0 rfl) rfl dX6_looks_8 11 rfl ?_
  refine r_eqi (y := 2) (hi) ?_
  refine r_iconst hC 2 dX6_looks_11 ic_2 12 rfl ?_
  refine r_icne hC 79 dX6_looks_12 (by decide) 15 rfl (fun h => absurd h (by decide)) (fun _ => ?_)
  refine r_aload_n hC 1 dX6_looks_15 rfl 16 rfl ?_
  refine r_get (v := .ref (b 12)) hC kX6 12 rfl q2765 (fun _ h => h.get 0 rfl) rfl dX6_looks_16 19 rfl ?_
  refine r_iconst hC 3 dX6_looks_19 ic_3 20 rfl ?_
  refine r_iload_n hC 0 dX6_looks_20 rfl 21 rfl ?_
  refine r_iadd hC (nI (3 + p)) dX6_looks_21  (nI_add 3 p) 22 rfl ?_
  refine r_lald hC (3 + p) (xix_n (3 + p) (by omega) (Nat.le_of_ble_eq_true rfl)) (fun _ h => h.get 3 rfl) (mm (3 + p)) (rfl) dX6_looks_22 23 rfl ?_
  refine r_lstore_n hC 2 [(2, .long (mm (3 + p))), (1, .int (nI p)), (0, .ref (b 0))] dX6_looks_23 rfl (Nat.le_of_ble_eq_true rfl) rfl 24 rfl ?_
  refine r_lload_n hC 0 dX6_looks_24 rfl 25 rfl ?_
  refine r_aload_n hC 2 dX6_looks_25 rfl 26 rfl ?_
  refine r_get (v := .ref (b 12)) hC kX6 12 rfl q2765 (fun _ h => h.get 0 rfl) rfl dX6_looks_26 29 rfl ?_
  refine r_iload_n hC 1 dX6_looks_29 rfl 30 rfl ?_
  refine r_lald hC p (xix_n p (by omega) (Nat.le_of_ble_eq_true rfl)) (fun _ h => h.get 3 rfl) (mm p) (rfl) dX6_looks_30 31 rfl ?_
  refine r_lcge hC 73 dX6_looks_31 dX6_looks_32 (by decide) 35 rfl (fun c1 => ?_) (fun c1 => ?_)
  · skip
    refine rn.sub (lv' := [(1, .int (nI p)), (0, .ref (b 0))]) [1, 2] rfl ?_
    rw [lookP, if_pos (Or.inl c1)] at kJ
    exact kJ
  · skip
    refine r_lload_n hC 0 dX6_looks_35 rfl 36 rfl ?_
    refine r_aload_n hC 2 dX6_looks_36 rfl 37 rfl ?_
    refine r_get (v := .ref (b 1)) hC kX6 1 rfl q2754 (fun _ h => h.get 0 rfl) rfl dX6_looks_37 40 rfl ?_
    refine r_iload_n hC 1 dX6_looks_40 rfl 41 rfl ?_
    refine r_invSr hC [.ref (b 1), .int (nI p)] (.long (lN (distQ r p))) mSX6_distanceOf q2743 (metX6_distanceOf _ _ hG (b 1) _ p (by omega)) (fun _ h => h.in.sub [2] rfl rfl) ⟨rfl, rfl⟩ 0 0 rfl rfl (Nat.le_of_ble_eq_true rfl) (Nat.le_of_ble_eq_true rfl) rfl (Nat.le_of_ble_eq_true rfl) dX6_looks_41 44 rfl ?_
    refine r_lcgt hC 73 dX6_looks_44 dX6_looks_45 (by decide) 48 rfl (fun c2 => ?_) (fun c2 => ?_)
    · skip
      refine rn.sub (lv' := [(1, .int (nI p)), (0, .ref (b 0))]) [1, 2] rfl ?_
      rw [lookP, if_pos (Or.inr (Or.inl c2))] at kJ
      exact kJ
    · skip
      refine r_lload_n hC 0 dX6_looks_48 rfl 49 rfl ?_
      refine r_aload_n hC 2 dX6_looks_49 rfl 50 rfl ?_
      refine r_get (v := .ref (b 7)) hC kX6 7 rfl q2760 (fun _ h => h.get 0 rfl) rfl dX6_looks_50 53 rfl ?_
      refine r_iconst hC 3 dX6_looks_53 ic_3 54 rfl ?_
      refine r_lald hC 3 (xix_n 3 (Nat.le_of_ble_eq_true rfl) (Nat.le_of_ble_eq_true rfl)) (fun _ h => h.get 1 rfl) (t 3) (rfl) dX6_looks_54 55 rfl ?_
      refine r_lcgt hC 73 dX6_looks_55 dX6_looks_56 (by decide) 59 rfl (fun c3 => ?_) (fun c3 => ?_)
      · skip
        refine rn.sub (lv' := [(1, .int (nI p)), (0, .ref (b 0))]) [1, 2] rfl ?_
        rw [lookP, if_pos (Or.inr (Or.inr c3))] at kJ
        exact kJ
      · skip
        refine r_aload_n hC 2 dX6_looks_59 rfl 60 rfl ?_
        refine r_aload_n hC 2 dX6_looks_60 rfl 61 rfl ?_
        refine r_get (v := .ref (b 1)) hC kX6 1 rfl q2754 (fun _ h => h.get 0 rfl) rfl dX6_looks_61 64 rfl ?_
        refine r_iconst hC 0 dX6_looks_64 ic_0 65 rfl ?_
        refine r_lald hC 0 (xix_n 0 (Nat.le_of_ble_eq_true rfl) (Nat.le_of_ble_eq_true rfl)) (fun _ h => h.get 2 rfl) (r 0) (rfl) dX6_looks_65 66 rfl ?_
        refine r_lconst hC 1 dX6_looks_66 lc_1 67 rfl ?_
        refine r_lsub hC ((r 0) - 1) dX6_looks_67  (rfl) 68 rfl ?_
        refine r_iload_n hC 1 dX6_looks_68 rfl 69 rfl ?_
        refine r_lload_n hC 0 dX6_looks_69 rfl 70 rfl ?_
        refine r_invVw hC kX6 (b 0) [.long ((r 0) - 1), .int (nI p), .long (mm (3 + p))] [(b 7, .inl (1, 5, .inr (.inl t))), (b 12, .inl (1, 6, .inr (.inl mm)))] mVX6_keepsApproach q3105 0 rfl (metX6_keeps _ _ hG b _ _ _ _ _ _ p hA.1 hA.2) [0, 2] [1, 3] rfl rfl rfl rfl (by decide) ⟨rfl, rfl⟩ 0 0 rfl rfl (Nat.le_of_ble_eq_true rfl) (Nat.le_of_ble_eq_true rfl) rfl (Nat.le_of_ble_eq_true rfl) dX6_looks_70 73 rfl (fun v4 w5 h6 => ?_) (fun _ _ h => h.elim)
        obtain ⟨rfl, rfl⟩ := h6
        show rn C (xSt F V0 [(b 7, .inl (1, 5, .inr (.inl t))), (b 12, .inl (1, 6, .inr (.inl mm))), (b 0, .inr (5, mF b i j)), (b 1, .inl (1, 111, .inr (.inl (keepQ r (cntQ r) ((r 0) - 1) (nI p).toInt64 (mm (3 + p))))))]) 0 0 73 [(2, .long (mm (3 + p))), (1, .int (nI p)), (0, .ref (b 0))] []
        refine rn.sub (lv' := [(1, .int (nI p)), (0, .ref (b 0))]) [1, 2] rfl ?_
        rw [lookP, if_neg (fun h => h.elim c1 (fun h => h.elim c2 c3))] at kJ
        refine rn.mono (J := xSt F V0 [(b 0, .inr (5, mF b i j)), (b 7, .inl (1, 5, .inr (.inl t))), (b 1, .inl (1, 111, .inr (.inl (keepQ r (cntQ r) ((r 0) - 1) (nI p).toInt64 (mm (3 + p)))))), (b 12, .inl (1, 6, .inr (.inl mm)))]) (fun _ h => h.sub [2, 0, 3, 1] rfl rfl) ?_
        exact kJ
set_option maxHeartbeats 4000000 in
set_option maxRecDepth 100000 in
theorem metX6_looks0 (l : Launch) (G : xG) (hG : xGood G) (b : Nat → Nat) (i : Nat → Int32) (j : Nat → Int64) (t r mm : Nat → Int64) (hi : i 11 = 0) (hA : rowA r) : xWm l G yX6_looks (Cond.code yX6_looks cX6_looks 4 none) { frames := 4, locals := 94, cells := 0, slots := 0 } [.ref (b 0)] [(b 0, .inr (5, mF b i j)), (b 7, .inl (1, 5, .inr (.inl t))), (b 1, .inl (1, 111, .inr (.inl r))), (b 12, .inl (1, 6, .inr (.inl mm)))] (fun v w' => v = none ∧ w' = [(b 0, .inr (5, mF b (va_up i 11 (nI (remN 0))) j)), (b 7, .inl (1, 5, .inr (.inl t))), (b 1, .inl (1, 111, .inr (.inl (lookQ t mm r 0)))), (b 12, .inl (1, 6, .inr (.inl (remQ mm (lookQ t mm r 0) 0))))]) (fun _ _ => False) := by
  intro V hV
  refine xMet_of RX6 hG rfl (by decide) (Nat.le_of_ble_eq_true rfl) fun C hC hQ hX hl hg _ => ?_
  subst hl hg
  obtain ⟨V0, hV0⟩ : ∃ V0, V0 = V := ⟨_, rfl⟩
  obtain ⟨F, hF⟩ : ∃ F, F = xF [(b 0, .inr (5, mF b i j)), (b 7, .inl (1, 5, .inr (.inl t))), (b 1, .inl (1, 111, .inr (.inl r))), (b 12, .inl (1, 6, .inr (.inl mm)))] := ⟨_, rfl⟩
  refine rn.mono (J := xSt F V0 [(b 0, .inr (5, mF b i j)), (b 7, .inl (1, 5, .inr (.inl t))), (b 1, .inl (1, 111, .inr (.inl r))), (b 12, .inl (1, 6, .inr (.inl mm)))]) (fun V9 h => by rw [h, hV0, hF]; exact hV.st) ?_
  show rn C (xSt F V0 [(b 0, .inr (5, mF b i j)), (b 7, .inl (1, 5, .inr (.inl t))), (b 1, .inl (1, 111, .inr (.inl r))), (b 12, .inl (1, 6, .inr (.inl mm)))]) 0 0 0 [(0, .ref (b 0))] []
  refine r_iconst hC 0 dX6_looks_0 ic_0 1 rfl ?_
  refine r_istore_n hC 1 [(1, .int 0), (0, .ref (b 0))] dX6_looks_1 rfl (Nat.le_of_ble_eq_true rfl) rfl 2 rfl ?_
  refine r_iload_n hC 0 dX6_looks_2 rfl 3 rfl ?_
  refine r_iconst hC 3 dX6_looks_3 ic_3 4 rfl ?_
  refine r_icge hC 79 dX6_looks_4 (by decide) 7 rfl (fun h => absurd h (by decide)) (fun _ => ?_)
  refine r_aload_n hC 1 dX6_looks_7 rfl 8 rfl ?_
  refine r_get (v := .int (i 11)) hC kX6 11 rfl q2764 (fun _ h => h.get 0 rfl) rfl dX6_looks_8 11 rfl ?_
  refine r_eqi (y := 0) (hi) ?_
  refine r_iconst hC 2 dX6_looks_11 ic_2 12 rfl ?_
  refine r_icne hC 79 dX6_looks_12 (by decide) 15 rfl (fun _ => ?_) (fun h => absurd h (by decide))
  refine r_aload_n hC 1 dX6_looks_79 rfl 80 rfl ?_
  refine r_invVw hC kX6 (b 0) [] [(b 7, .inl (1, 5, .inr (.inl t)))] mVX6_remembers q3070 0 rfl (metX6_remembers _ _ hG b i _ _ _ 0 (by omega) (hi)) [0, 2, 3] [1] rfl rfl rfl rfl (by decide) ⟨rfl, rfl⟩ 0 0 rfl rfl (Nat.le_of_ble_eq_true rfl) (Nat.le_of_ble_eq_true rfl) rfl (Nat.le_of_ble_eq_true rfl) dX6_looks_80 83 rfl (fun v1 w2 h3 => ?_) (fun _ _ h => h.elim)
  obtain ⟨rfl, rfl⟩ := h3
  show rn C (xSt F V0 [(b 7, .inl (1, 5, .inr (.inl t))), (b 0, .inr (5, mF b (va_up i 11 (nI (remN 0))) j)), (b 1, .inl (1, 111, .inr (.inl r))), (b 12, .inl (1, 6, .inr (.inl (remQ mm r 0))))]) 0 0 83 [(1, .int 0), (0, .ref (b 0))] []
  exact r_vret hC (Nat.le_of_ble_eq_true rfl) (Nat.le_of_ble_eq_true rfl) (fun V9 h => hQ _ _ ⟨[(b 0, .inr (5, mF b (va_up i 11 (nI (remN 0))) j)), (b 7, .inl (1, 5, .inr (.inl t))), (b 1, .inl (1, 111, .inr (.inl r))), (b 12, .inl (1, 6, .inr (.inl (remQ mm r 0))))], ⟨rfl, rfl⟩, by rw [← hV0, ← hF]; exact (h.sub [1, 0, 2, 3] rfl rfl)⟩) dX6_looks_83
set_option maxHeartbeats 4000000 in
set_option maxRecDepth 100000 in
theorem metX6_looks1 (l : Launch) (G : xG) (hG : xGood G) (b : Nat → Nat) (i : Nat → Int32) (j : Nat → Int64) (t r mm : Nat → Int64) (hi : i 11 = 1) (hA : rowA r) : xWm l G yX6_looks (Cond.code yX6_looks cX6_looks 4 none) { frames := 4, locals := 94, cells := 0, slots := 0 } [.ref (b 0)] [(b 0, .inr (5, mF b i j)), (b 7, .inl (1, 5, .inr (.inl t))), (b 1, .inl (1, 111, .inr (.inl r))), (b 12, .inl (1, 6, .inr (.inl mm)))] (fun v w' => v = none ∧ w' = [(b 0, .inr (5, mF b (va_up i 11 (nI (remN 1))) j)), (b 7, .inl (1, 5, .inr (.inl t))), (b 1, .inl (1, 111, .inr (.inl (lookQ t mm r 1)))), (b 12, .inl (1, 6, .inr (.inl (remQ mm (lookQ t mm r 1) 1))))]) (fun _ _ => False) := by
  intro V hV
  refine xMet_of RX6 hG rfl (by decide) (Nat.le_of_ble_eq_true rfl) fun C hC hQ hX hl hg _ => ?_
  subst hl hg
  obtain ⟨V0, hV0⟩ : ∃ V0, V0 = V := ⟨_, rfl⟩
  obtain ⟨F, hF⟩ : ∃ F, F = xF [(b 0, .inr (5, mF b i j)), (b 7, .inl (1, 5, .inr (.inl t))), (b 1, .inl (1, 111, .inr (.inl r))), (b 12, .inl (1, 6, .inr (.inl mm)))] := ⟨_, rfl⟩
  refine rn.mono (J := xSt F V0 [(b 0, .inr (5, mF b i j)), (b 7, .inl (1, 5, .inr (.inl t))), (b 1, .inl (1, 111, .inr (.inl r))), (b 12, .inl (1, 6, .inr (.inl mm)))]) (fun V9 h => by rw [h, hV0, hF]; exact hV.st) ?_
  show rn C (xSt F V0 [(b 0, .inr (5, mF b i j)), (b 7, .inl (1, 5, .inr (.inl t))), (b 1, .inl (1, 111, .inr (.inl r))), (b 12, .inl (1, 6, .inr (.inl mm)))]) 0 0 0 [(0, .ref (b 0))] []
  refine r_iconst hC 0 dX6_looks_0 ic_0 1 rfl ?_
  refine r_istore_n hC 1 [(1, .int 0), (0, .ref (b 0))] dX6_looks_1 rfl (Nat.le_of_ble_eq_true rfl) rfl 2 rfl ?_
  refine r_iload_n hC 0 dX6_looks_2 rfl 3 rfl ?_
  refine r_iconst hC 3 dX6_looks_3 ic_3 4 rfl ?_
  refine r_icge hC 79 dX6_looks_4 (by decide) 7 rfl (fun h => absurd h (by decide)) (fun _ => ?_)
  refine r_aload_n hC 1 dX6_looks_7 rfl 8 rfl ?_
  refine r_get (v := .int (i 11)) hC kX6 11 rfl q2764 (fun _ h => h.get 0 rfl) rfl dX6_looks_8 11 rfl ?_
  refine r_eqi (y := 1) (hi) ?_
  refine r_iconst hC 2 dX6_looks_11 ic_2 12 rfl ?_
  refine r_icne hC 79 dX6_looks_12 (by decide) 15 rfl (fun _ => ?_) (fun h => absurd h (by decide))
  refine r_aload_n hC 1 dX6_looks_79 rfl 80 rfl ?_
  refine r_invVw hC kX6 (b 0) [] [(b 7, .inl (1, 5, .inr (.inl t)))] mVX6_remembers q3070 0 rfl (metX6_remembers _ _ hG b i _ _ _ 1 (by omega) (hi)) [0, 2, 3] [1] rfl rfl rfl rfl (by decide) ⟨rfl, rfl⟩ 0 0 rfl rfl (Nat.le_of_ble_eq_true rfl) (Nat.le_of_ble_eq_true rfl) rfl (Nat.le_of_ble_eq_true rfl) dX6_looks_80 83 rfl (fun v1 w2 h3 => ?_) (fun _ _ h => h.elim)
  obtain ⟨rfl, rfl⟩ := h3
  show rn C (xSt F V0 [(b 7, .inl (1, 5, .inr (.inl t))), (b 0, .inr (5, mF b (va_up i 11 (nI (remN 1))) j)), (b 1, .inl (1, 111, .inr (.inl r))), (b 12, .inl (1, 6, .inr (.inl (remQ mm r 1))))]) 0 0 83 [(1, .int 0), (0, .ref (b 0))] []
  exact r_vret hC (Nat.le_of_ble_eq_true rfl) (Nat.le_of_ble_eq_true rfl) (fun V9 h => hQ _ _ ⟨[(b 0, .inr (5, mF b (va_up i 11 (nI (remN 1))) j)), (b 7, .inl (1, 5, .inr (.inl t))), (b 1, .inl (1, 111, .inr (.inl r))), (b 12, .inl (1, 6, .inr (.inl (remQ mm r 1))))], ⟨rfl, rfl⟩, by rw [← hV0, ← hF]; exact (h.sub [1, 0, 2, 3] rfl rfl)⟩) dX6_looks_83
set_option maxHeartbeats 4000000 in
set_option maxRecDepth 100000 in
theorem metX6_looks2 (l : Launch) (G : xG) (hG : xGood G) (b : Nat → Nat) (i : Nat → Int32) (j : Nat → Int64) (t r mm : Nat → Int64) (hi : i 11 = 2) (hA : rowA r) : xWm l G yX6_looks (Cond.code yX6_looks cX6_looks 4 none) { frames := 4, locals := 94, cells := 0, slots := 0 } [.ref (b 0)] [(b 0, .inr (5, mF b i j)), (b 7, .inl (1, 5, .inr (.inl t))), (b 1, .inl (1, 111, .inr (.inl r))), (b 12, .inl (1, 6, .inr (.inl mm)))] (fun v w' => v = none ∧ w' = [(b 0, .inr (5, mF b (va_up i 11 (nI (remN 2))) j)), (b 7, .inl (1, 5, .inr (.inl t))), (b 1, .inl (1, 111, .inr (.inl (lookQ t mm r 2)))), (b 12, .inl (1, 6, .inr (.inl (remQ mm (lookQ t mm r 2) 2))))]) (fun _ _ => False) := by
  intro V hV
  refine xMet_of RX6 hG rfl (by decide) (Nat.le_of_ble_eq_true rfl) fun C hC hQ hX hl hg _ => ?_
  subst hl hg
  obtain ⟨V0, hV0⟩ : ∃ V0, V0 = V := ⟨_, rfl⟩
  obtain ⟨F, hF⟩ : ∃ F, F = xF [(b 0, .inr (5, mF b i j)), (b 7, .inl (1, 5, .inr (.inl t))), (b 1, .inl (1, 111, .inr (.inl r))), (b 12, .inl (1, 6, .inr (.inl mm)))] := ⟨_, rfl⟩
  refine rn.mono (J := xSt F V0 [(b 0, .inr (5, mF b i j)), (b 7, .inl (1, 5, .inr (.inl t))), (b 1, .inl (1, 111, .inr (.inl r))), (b 12, .inl (1, 6, .inr (.inl mm)))]) (fun V9 h => by rw [h, hV0, hF]; exact hV.st) ?_
  show rn C (xSt F V0 [(b 0, .inr (5, mF b i j)), (b 7, .inl (1, 5, .inr (.inl t))), (b 1, .inl (1, 111, .inr (.inl r))), (b 12, .inl (1, 6, .inr (.inl mm)))]) 0 0 0 [(0, .ref (b 0))] []
  refine r_iconst hC 0 dX6_looks_0 ic_0 1 rfl ?_
  refine r_istore_n hC 1 [(1, .int 0), (0, .ref (b 0))] dX6_looks_1 rfl (Nat.le_of_ble_eq_true rfl) rfl 2 rfl ?_
  refine r_iload_n hC 0 dX6_looks_2 rfl 3 rfl ?_
  refine r_iconst hC 3 dX6_looks_3 ic_3 4 rfl ?_
  refine r_icge hC 79 dX6_looks_4 (by decide) 7 rfl (fun h => absurd h (by decide)) (fun _ => ?_)
  refine itX6_looks hG hC b i j t r mm 0 (Nat.le_of_ble_eq_true rfl) hi hA rfl rfl ?_
  show rn C (xSt F V0 [(b 0, .inr (5, mF b i j)), (b 7, .inl (1, 5, .inr (.inl t))), (b 1, .inl (1, 111, .inr (.inl (lookP t mm r 0)))), (b 12, .inl (1, 6, .inr (.inl mm)))]) 0 0 73 [(1, .int 0), (0, .ref (b 0))] []
  refine r_iinc hC 1 1 0 [(1, .int 1), (0, .ref (b 0))] dX6_looks_73 rfl (by decide) (Nat.le_of_ble_eq_true rfl) rfl 76 rfl ?_
  refine r_goto hC 2 dX6_looks_76 (by decide) ?_
  refine r_iload_n hC 0 dX6_looks_2 rfl 3 rfl ?_
  refine r_iconst hC 3 dX6_looks_3 ic_3 4 rfl ?_
  refine r_icge hC 79 dX6_looks_4 (by decide) 7 rfl (fun h => absurd h (by decide)) (fun _ => ?_)
  refine itX6_looks hG hC b i j t (lookP t mm r 0) mm 1 (Nat.le_of_ble_eq_true rfl) hi (rowA_look hA) rfl rfl ?_
  show rn C (xSt F V0 [(b 0, .inr (5, mF b i j)), (b 7, .inl (1, 5, .inr (.inl t))), (b 1, .inl (1, 111, .inr (.inl (lookP t mm (lookP t mm r 0) 1)))), (b 12, .inl (1, 6, .inr (.inl mm)))]) 0 0 73 [(1, .int 1), (0, .ref (b 0))] []
  refine r_iinc hC 2 1 0 [(1, .int 2), (0, .ref (b 0))] dX6_looks_73 rfl (by decide) (Nat.le_of_ble_eq_true rfl) rfl 76 rfl ?_
  refine r_goto hC 2 dX6_looks_76 (by decide) ?_
  refine r_iload_n hC 0 dX6_looks_2 rfl 3 rfl ?_
  refine r_iconst hC 3 dX6_looks_3 ic_3 4 rfl ?_
  refine r_icge hC 79 dX6_looks_4 (by decide) 7 rfl (fun h => absurd h (by decide)) (fun _ => ?_)
  refine itX6_looks hG hC b i j t (lookP t mm (lookP t mm r 0) 1) mm 2 (Nat.le_of_ble_eq_true rfl) hi (rowA_look (rowA_look hA)) rfl rfl ?_
  show rn C (xSt F V0 [(b 0, .inr (5, mF b i j)), (b 7, .inl (1, 5, .inr (.inl t))), (b 1, .inl (1, 111, .inr (.inl (lookP t mm (lookP t mm (lookP t mm r 0) 1) 2)))), (b 12, .inl (1, 6, .inr (.inl mm)))]) 0 0 73 [(1, .int 2), (0, .ref (b 0))] []
  refine r_iinc hC 3 1 0 [(1, .int 3), (0, .ref (b 0))] dX6_looks_73 rfl (by decide) (Nat.le_of_ble_eq_true rfl) rfl 76 rfl ?_
  refine r_goto hC 2 dX6_looks_76 (by decide) ?_
  refine r_iload_n hC 0 dX6_looks_2 rfl 3 rfl ?_
  refine r_iconst hC 3 dX6_looks_3 ic_3 4 rfl ?_
  refine r_icge hC 79 dX6_looks_4 (by decide) 7 rfl (fun _ => ?_) (fun h => absurd h (by decide))
  refine r_aload_n hC 1 dX6_looks_79 rfl 80 rfl ?_
  refine r_invVw hC kX6 (b 0) [] [(b 7, .inl (1, 5, .inr (.inl t)))] mVX6_remembers q3070 0 rfl (metX6_remembers _ _ hG b i _ _ _ 2 (by omega) (hi)) [0, 2, 3] [1] rfl rfl rfl rfl (by decide) ⟨rfl, rfl⟩ 0 0 rfl rfl (Nat.le_of_ble_eq_true rfl) (Nat.le_of_ble_eq_true rfl) rfl (Nat.le_of_ble_eq_true rfl) dX6_looks_80 83 rfl (fun v1 w2 h3 => ?_) (fun _ _ h => h.elim)
  obtain ⟨rfl, rfl⟩ := h3
  show rn C (xSt F V0 [(b 7, .inl (1, 5, .inr (.inl t))), (b 0, .inr (5, mF b (va_up i 11 (nI (remN 2))) j)), (b 1, .inl (1, 111, .inr (.inl (lookP t mm (lookP t mm (lookP t mm r 0) 1) 2)))), (b 12, .inl (1, 6, .inr (.inl (remQ mm (lookP t mm (lookP t mm (lookP t mm r 0) 1) 2) 2))))]) 0 0 83 [(1, .int 3), (0, .ref (b 0))] []
  exact r_vret hC (Nat.le_of_ble_eq_true rfl) (Nat.le_of_ble_eq_true rfl) (fun V9 h => hQ _ _ ⟨[(b 0, .inr (5, mF b (va_up i 11 (nI (remN 2))) j)), (b 7, .inl (1, 5, .inr (.inl t))), (b 1, .inl (1, 111, .inr (.inl (lookP t mm (lookP t mm (lookP t mm r 0) 1) 2)))), (b 12, .inl (1, 6, .inr (.inl (remQ mm (lookP t mm (lookP t mm (lookP t mm r 0) 1) 2) 2))))], ⟨rfl, rfl⟩, by rw [← hV0, ← hF]; exact (h.sub [1, 0, 2, 3] rfl rfl)⟩) dX6_looks_83
set_option maxHeartbeats 4000000 in
set_option maxRecDepth 100000 in
theorem metX6_looks (l : Launch) (G : xG) (hG : xGood G) (b : Nat → Nat) (i : Nat → Int32) (j : Nat → Int64) (t r mm : Nat → Int64) (m : Nat) (hm2 : m ≤ 2) (hi : i 11 = nI m) (hA : rowA r) : xWm l G yX6_looks (Cond.code yX6_looks cX6_looks 4 none) { frames := 4, locals := 94, cells := 0, slots := 0 } [.ref (b 0)] [(b 0, .inr (5, mF b i j)), (b 7, .inl (1, 5, .inr (.inl t))), (b 1, .inl (1, 111, .inr (.inl r))), (b 12, .inl (1, 6, .inr (.inl mm)))] (fun v w' => v = none ∧ w' = [(b 0, .inr (5, mF b (va_up i 11 (nI (remN m))) j)), (b 7, .inl (1, 5, .inr (.inl t))), (b 1, .inl (1, 111, .inr (.inl (lookQ t mm r m)))), (b 12, .inl (1, 6, .inr (.inl (remQ mm (lookQ t mm r m) m))))]) (fun _ _ => False) := by
  rcases (show m = 0 ∨ m = 1 ∨ m = 2 by omega) with rfl | rfl | rfl
  · exact metX6_looks0 l G hG b i j t r mm hi hA
  · exact metX6_looks1 l G hG b i j t r mm hi hA
  · exact metX6_looks2 l G hG b i j t r mm hi hA
/-- one step of a run: the row and what is remembered behind it -/
def oneQ (t mm r : Nat → Int64) (m : Nat) : Option ((Nat → Int64) × (Nat → Int64)) := match stepQ t r false with
  | none => none
  | some r1 => some (lookQ t mm (seeQ t r r1) m, remQ mm (lookQ t mm (seeQ t r r1) m) m)
theorem rowA_see {t r r1 : Nat → Int64} (h : rowA r1) : rowA (seeQ t r r1) := rowA_eq (see_at (by omega)) h
theorem mOK_see {t r r1 : Nat → Int64} (h : mOK r1) : mOK (seeQ t r r1) := mOK_eq (see_at (by omega)) (see_at (by omega)) (see_at (by omega)) h
theorem mOK_lookQ {t mm r : Nat → Int64} {m : Nat} (h : mOK r) : mOK (lookQ t mm r m) := mOK_eq (lookQ_lo (by omega) (by omega)) (lookQ_lo (by omega) (by omega)) (lookQ_lo (by omega) (by omega)) h
set_option maxHeartbeats 4000000 in
set_option maxRecDepth 100000 in
theorem metX6_runsOne (l : Launch) (G : xG) (hG : xGood G) (b : Nat → Nat) (i : Nat → Int32) (j : Nat → Int64) (t r g h0 mm : Nat → Int64) (m : Nat) (ht : tOK t) (hm : mOK r) (hA : rowA r) (hm2 : m ≤ 2) (hi : i 11 = nI m) : xWm l G yX6_runsOne (Cond.code yX6_runsOne cX6_runsOne 5 (some .boolean)) { frames := 7, locals := 178, cells := 0, slots := 0 } [.ref (b 0)] [(b 0, .inr (5, mF b i j)), (b 7, .inl (1, 5, .inr (.inl t))), (b 1, .inl (1, 111, .inr (.inl r))), (b 23, .inl (1, 6, .inr (.inl g))), (b 24, .inl (1, 21, .inr (.inl h0))), (b 12, .inl (1, 6, .inr (.inl mm)))] (fun v w' => ∃ g' h' : Nat → Int64, v = some (.int (bI (oneQ t mm r m).isSome)) ∧ w' = match oneQ t mm r m with | none => [(b 0, .inr (5, mF b i j)), (b 7, .inl (1, 5, .inr (.inl t))), (b 1, .inl (1, 111, .inr (.inl r))), (b 23, .inl (1, 6, .inr (.inl g'))), (b 24, .inl (1, 21, .inr (.inl h'))), (b 12, .inl (1, 6, .inr (.inl mm)))] | some q => [(b 0, .inr (5, mF b (va_up i 11 (nI (remN m))) j)), (b 7, .inl (1, 5, .inr (.inl t))), (b 1, .inl (1, 111, .inr (.inl q.1))), (b 23, .inl (1, 6, .inr (.inl g'))), (b 24, .inl (1, 21, .inr (.inl h'))), (b 12, .inl (1, 6, .inr (.inl q.2)))]) (fun _ _ => False) := by
  intro V hV
  refine xMet_of RX6 hG rfl (by decide) (Nat.le_of_ble_eq_true rfl) fun C hC hQ hX hl hg _ => ?_
  subst hl hg
  obtain ⟨V0, hV0⟩ : ∃ V0, V0 = V := ⟨_, rfl⟩
  obtain ⟨F, hF⟩ : ∃ F, F = xF [(b 0, .inr (5, mF b i j)), (b 7, .inl (1, 5, .inr (.inl t))), (b 1, .inl (1, 111, .inr (.inl r))), (b 23, .inl (1, 6, .inr (.inl g))), (b 24, .inl (1, 21, .inr (.inl h0))), (b 12, .inl (1, 6, .inr (.inl mm)))] := ⟨_, rfl⟩
  refine rn.mono (J := xSt F V0 [(b 0, .inr (5, mF b i j)), (b 7, .inl (1, 5, .inr (.inl t))), (b 1, .inl (1, 111, .inr (.inl r))), (b 23, .inl (1, 6, .inr (.inl g))), (b 24, .inl (1, 21, .inr (.inl h0))), (b 12, .inl (1, 6, .inr (.inl mm)))]) (fun V9 h => by rw [h, hV0, hF]; exact hV.st) ?_
  show rn C (xSt F V0 [(b 0, .inr (5, mF b i j)), (b 7, .inl (1, 5, .inr (.inl t))), (b 1, .inl (1, 111, .inr (.inl r))), (b 23, .inl (1, 6, .inr (.inl g))), (b 24, .inl (1, 21, .inr (.inl h0))), (b 12, .inl (1, 6, .inr (.inl mm)))]) 0 0 0 [(0, .ref (b 0))] []
  refine r_aload_n hC 0 dX6_runsOne_0 rfl 1 rfl ?_
  refine r_aload_n hC 0 dX6_runsOne_1 rfl 2 rfl ?_
  refine r_get (v := .ref (b 1)) hC kX6 1 rfl q2754 (fun _ h => h.get 0 rfl) rfl dX6_runsOne_2 5 rfl ?_
  refine r_invVr hC kX6 (b 0) [.ref (b 1)] (.long (bandQ t r)) mVX6_bandOf q3038 (fun _ h => h.get 0 rfl) (metX6_bandOf _ _ hG b _ _ _ (b 1) _   (rowOK_of ht hm)) (fun _ h => h.in.sub [0, 1, 2] rfl rfl) ⟨rfl, rfl⟩ 0 0 rfl rfl (Nat.le_of_ble_eq_true rfl) (Nat.le_of_ble_eq_true rfl) rfl (Nat.le_of_ble_eq_true rfl) dX6_runsOne_5 8 rfl ?_
  refine r_lstore_n hC 1 [(1, .long (bandQ t r)), (0, .ref (b 0))] dX6_runsOne_8 rfl (Nat.le_of_ble_eq_true rfl) rfl 9 rfl ?_
  refine r_aload_n hC 1 dX6_runsOne_9 rfl 10 rfl ?_
  refine r_aload_n hC 1 dX6_runsOne_10 rfl 11 rfl ?_
  refine r_get (v := .ref (b 1)) hC kX6 1 rfl q2754 (fun _ h => h.get 0 rfl) rfl dX6_runsOne_11 14 rfl ?_
  refine r_iconst hC 0 dX6_runsOne_14 ic_0 15 rfl ?_
  refine r_invVw hC kX6 (b 0) [.ref (b 1), .int 0] [(b 12, .inl (1, 6, .inr (.inl mm)))] mVX6_steps q3078 0 rfl (metX6_steps0 _ _ hG b _ _ _ (b 1) _ _ _ ht hm) [0, 1, 2, 3, 4] [5] rfl rfl rfl rfl (by decide) ⟨rfl, rfl⟩ 0 0 rfl rfl (Nat.le_of_ble_eq_true rfl) (Nat.le_of_ble_eq_true rfl) rfl (Nat.le_of_ble_eq_true rfl) dX6_runsOne_15 18 rfl (fun v3 w4 h5 => ?_) (fun _ _ h => h.elim)
  obtain ⟨g1, h2, rfl, rfl⟩ := h5
  show rn C (xSt F V0 [(b 12, .inl (1, 6, .inr (.inl mm))), (b 0, .inr (5, mF b i j)), (b 7, .inl (1, 5, .inr (.inl t))), (b 1, .inl (1, 111, .inr (.inl ((stepQ t r false).getD r)))), (b 23, .inl (1, 6, .inr (.inl g1))), (b 24, .inl (1, 21, .inr (.inl h2)))]) 0 0 18 [(1, .long (bandQ t r)), (0, .ref (b 0))] [.int (bI (stepQ t r false).isSome)]
  refine r_ifne hC 23 dX6_runsOne_18 (by decide) 21 rfl (fun c6 => ?_) (fun c6 => ?_)
  · obtain ⟨r1, hr1⟩ := Option.isSome_iff_exists.mp (bI_n0.mp c6)
    have hm1 := stepQ_mOK hm hr1
    have hA1 := stepQ_rowA hA hr1
    rw [hr1]
    show rn C (xSt F V0 [(b 12, .inl (1, 6, .inr (.inl mm))), (b 0, .inr (5, mF b i j)), (b 7, .inl (1, 5, .inr (.inl t))), (b 1, .inl (1, 111, .inr (.inl r1))), (b 23, .inl (1, 6, .inr (.inl g1))), (b 24, .inl (1, 21, .inr (.inl h2)))]) 0 0 23 [(1, .long (bandQ t r)), (0, .ref (b 0))] []
    refine r_aload_n hC 1 dX6_runsOne_23 rfl 24 rfl ?_
    refine r_aload_n hC 1 dX6_runsOne_24 rfl 25 rfl ?_
    refine r_get (v := .ref (b 1)) hC kX6 1 rfl q2754 (fun _ h => h.get 1 rfl) rfl dX6_runsOne_25 28 rfl ?_
    refine r_invVr hC kX6 (b 0) [.ref (b 1)] (.long (enQ t r1)) mVX6_energy q2721 (fun _ h => h.get 1 rfl) (metX6_energy _ _ hG b _ _ _ (b 1) _   (rowOK_of ht hm1)) (fun _ h => h.in.sub [1, 2, 3] rfl rfl) ⟨rfl, rfl⟩ 0 0 rfl rfl (Nat.le_of_ble_eq_true rfl) (Nat.le_of_ble_eq_true rfl) rfl (Nat.le_of_ble_eq_true rfl) dX6_runsOne_28 31 rfl ?_
    refine r_lstore_n hC 3 [(3, .long (enQ t r1)), (1, .long (bandQ t r)), (0, .ref (b 0))] dX6_runsOne_31 rfl (Nat.le_of_ble_eq_true rfl) rfl 32 rfl ?_
    refine r_aload_n hC 2 dX6_runsOne_32 rfl 33 rfl ?_
    refine r_get (v := .ref (b 1)) hC kX6 1 rfl q2754 (fun _ h => h.get 1 rfl) rfl dX6_runsOne_33 36 rfl ?_
    refine r_iconst hC 3 dX6_runsOne_36 ic_3 37 rfl ?_
    refine r_lload_n hC 0 dX6_runsOne_37 rfl 38 rfl ?_
    refine r_aload_n hC 2 dX6_runsOne_38 rfl 39 rfl ?_
    refine r_get (v := .ref (b 1)) hC kX6 1 rfl q2754 (fun _ h => h.get 1 rfl) rfl dX6_runsOne_39 42 rfl ?_
    refine r_iconst hC 3 dX6_runsOne_42 ic_3 43 rfl ?_
    refine r_lald hC 3 (xix_n 3 (Nat.le_of_ble_eq_true rfl) (Nat.le_of_ble_eq_true rfl)) (fun _ h => h.get 3 rfl) (r1 3) (rfl) dX6_runsOne_43 44 rfl ?_
    have J7 : rn C (xSt F V0 [(b 12, .inl (1, 6, .inr (.inl mm))), (b 0, .inr (5, mF b i j)), (b 7, .inl (1, 5, .inr (.inl t))), (b 1, .inl (1, 111, .inr (.inl r1))), (b 23, .inl (1, 6, .inr (.inl g1))), (b 24, .inl (1, 21, .inr (.inl h2)))]) 0 0 58 [(3, .long (enQ t r1)), (1, .long (bandQ t r)), (0, .ref (b 0))] [.long (if (enQ t r1) ≤ (r1 3) then r1 3 else enQ t r1), .int 3, .ref (b 1)] → rn C (xSt F V0 [(b 12, .inl (1, 6, .inr (.inl mm))), (b 0, .inr (5, mF b i j)), (b 7, .inl (1, 5, .inr (.inl t))), (b 1, .inl (1, 111, .inr (.inl r1))), (b 23, .inl (1, 6, .inr (.inl g1))), (b 24, .inl (1, 21, .inr (.inl h2)))]) 0 0 44 [(3, .long (enQ t r1)), (1, .long (bandQ t r)), (0, .ref (b 0))] [.long (r1 3), .long (enQ t r1), .int 3, .ref (b 1)] := by
      intro kJ
      refine r_lcle hC 52 dX6_runsOne_44 dX6_runsOne_45 (by decide) 48 rfl (fun c8 => ?_) (fun c8 => ?_)
      · rw [if_pos c8] at kJ
        refine r_aload_n hC 2 dX6_runsOne_52 rfl 53 rfl ?_
        refine r_get (v := .ref (b 1)) hC kX6 1 rfl q2754 (fun _ h => h.get 1 rfl) rfl dX6_runsOne_53 56 rfl ?_
        refine r_iconst hC 3 dX6_runsOne_56 ic_3 57 rfl ?_
        refine r_lald hC 3 (xix_n 3 (Nat.le_of_ble_eq_true rfl) (Nat.le_of_ble_eq_true rfl)) (fun _ h => h.get 3 rfl) (r1 3) (rfl) dX6_runsOne_57 58 rfl ?_
        exact kJ
      · rw [if_neg c8] at kJ
        refine r_lload_n hC 0 dX6_runsOne_48 rfl 49 rfl ?_
        refine r_goto hC 58 dX6_runsOne_49 (by decide) ?_
        exact kJ
    refine J7 ?_
    clear J7
    refine r_last (J := xSt F V0 [(b 12, .inl (1, 6, .inr (.inl mm))), (b 0, .inr (5, mF b i j)), (b 7, .inl (1, 5, .inr (.inl t))), (b 1, .inl (1, 111, .inr (.inl (va_up r1 3 (if (enQ t r1) ≤ (r1 3) then r1 3 else enQ t r1))))), (b 23, .inl (1, 6, .inr (.inl g1))), (b 24, .inl (1, 21, .inr (.inl h2)))]) hC 3 (xix_n 3 (Nat.le_of_ble_eq_true rfl) (Nat.le_of_ble_eq_true rfl)) (fun _ h => h.get 3 rfl) dX6_runsOne_58 (fun _ h => h.set 3 _ rfl) 59 rfl ?_
    generalize hu9 : va_up r1 3 (if (enQ t r1) ≤ (r1 3) then r1 3 else enQ t r1) = u9
    refine r_aload_n hC 2 dX6_runsOne_59 rfl 60 rfl ?_
    refine r_get (v := .ref (b 1)) hC kX6 1 rfl q2754 (fun _ h => h.get 1 rfl) rfl dX6_runsOne_60 63 rfl ?_
    refine r_iconst hC 4 dX6_runsOne_63 ic_4 64 rfl ?_
    refine r_lload_n hC 0 dX6_runsOne_64 rfl 65 rfl ?_
    refine r_aload_n hC 2 dX6_runsOne_65 rfl 66 rfl ?_
    refine r_get (v := .ref (b 1)) hC kX6 1 rfl q2754 (fun _ h => h.get 1 rfl) rfl dX6_runsOne_66 69 rfl ?_
    refine r_iconst hC 4 dX6_runsOne_69 ic_4 70 rfl ?_
    refine r_lald hC 4 (xix_n 4 (Nat.le_of_ble_eq_true rfl) (Nat.le_of_ble_eq_true rfl)) (fun _ h => h.get 3 rfl) (r1 4) (by rw [← hu9]; rfl) dX6_runsOne_70 71 rfl ?_
    have J10 : rn C (xSt F V0 [(b 12, .inl (1, 6, .inr (.inl mm))), (b 0, .inr (5, mF b i j)), (b 7, .inl (1, 5, .inr (.inl t))), (b 1, .inl (1, 111, .inr (.inl u9))), (b 23, .inl (1, 6, .inr (.inl g1))), (b 24, .inl (1, 21, .inr (.inl h2)))]) 0 0 85 [(3, .long (enQ t r1)), (1, .long (bandQ t r)), (0, .ref (b 0))] [.long (if (r1 4) ≤ (enQ t r1) then r1 4 else enQ t r1), .int 4, .ref (b 1)] → rn C (xSt F V0 [(b 12, .inl (1, 6, .inr (.inl mm))), (b 0, .inr (5, mF b i j)), (b 7, .inl (1, 5, .inr (.inl t))), (b 1, .inl (1, 111, .inr (.inl u9))), (b 23, .inl (1, 6, .inr (.inl g1))), (b 24, .inl (1, 21, .inr (.inl h2)))]) 0 0 71 [(3, .long (enQ t r1)), (1, .long (bandQ t r)), (0, .ref (b 0))] [.long (r1 4), .long (enQ t r1), .int 4, .ref (b 1)] := by
      intro kJ
      refine r_lcge hC 79 dX6_runsOne_71 dX6_runsOne_72 (by decide) 75 rfl (fun c11 => ?_) (fun c11 => ?_)
      · rw [if_pos c11] at kJ
        refine r_aload_n hC 2 dX6_runsOne_79 rfl 80 rfl ?_
        refine r_get (v := .ref (b 1)) hC kX6 1 rfl q2754 (fun _ h => h.get 1 rfl) rfl dX6_runsOne_80 83 rfl ?_
        refine r_iconst hC 4 dX6_runsOne_83 ic_4 84 rfl ?_
        refine r_lald hC 4 (xix_n 4 (Nat.le_of_ble_eq_true rfl) (Nat.le_of_ble_eq_true rfl)) (fun _ h => h.get 3 rfl) (r1 4) (by rw [← hu9]; rfl) dX6_runsOne_84 85 rfl ?_
        exact kJ
      · rw [if_neg c11] at kJ
        refine r_lload_n hC 0 dX6_runsOne_75 rfl 76 rfl ?_
        refine r_goto hC 85 dX6_runsOne_76 (by decide) ?_
        exact kJ
    refine J10 ?_
    clear J10
    refine r_last (J := xSt F V0 [(b 12, .inl (1, 6, .inr (.inl mm))), (b 0, .inr (5, mF b i j)), (b 7, .inl (1, 5, .inr (.inl t))), (b 1, .inl (1, 111, .inr (.inl (va_up u9 4 (if (r1 4) ≤ (enQ t r1) then r1 4 else enQ t r1))))), (b 23, .inl (1, 6, .inr (.inl g1))), (b 24, .inl (1, 21, .inr (.inl h2)))]) hC 4 (xix_n 4 (Nat.le_of_ble_eq_true rfl) (Nat.le_of_ble_eq_true rfl)) (fun _ h => h.get 3 rfl) dX6_runsOne_85 (fun _ h => h.set 3 _ rfl) 86 rfl ?_
    generalize hu12 : va_up u9 4 (if (r1 4) ≤ (enQ t r1) then r1 4 else enQ t r1) = u12
    refine r_aload_n hC 2 dX6_runsOne_86 rfl 87 rfl ?_
    refine r_get (v := .ref (b 1)) hC kX6 1 rfl q2754 (fun _ h => h.get 1 rfl) rfl dX6_runsOne_87 90 rfl ?_
    refine r_iconst hC 2 dX6_runsOne_90 ic_2 91 rfl ?_
    refine r_dup2 hC dX6_runsOne_91 rfl rfl 92 rfl ?_
    refine r_lald hC 2 (xix_n 2 (Nat.le_of_ble_eq_true rfl) (Nat.le_of_ble_eq_true rfl)) (fun _ h => h.get 3 rfl) (r1 2) (by rw [← hu12, ← hu9]; rfl) dX6_runsOne_92 93 rfl ?_
    refine r_aload_n hC 2 dX6_runsOne_93 rfl 94 rfl ?_
    refine r_aload_n hC 2 dX6_runsOne_94 rfl 95 rfl ?_
    refine r_get (v := .ref (b 1)) hC kX6 1 rfl q2754 (fun _ h => h.get 1 rfl) rfl dX6_runsOne_95 98 rfl ?_
    refine r_invVr hC kX6 (b 0) [.ref (b 1)] (.long (bandQ t u12)) mVX6_bandOf q3038 (fun _ h => h.get 1 rfl) (metX6_bandOf _ _ hG b _ _ _ (b 1) _   (rowOK_of ht (by rw [← hu12, ← hu9]; exact mOK_eq (up_ne (by omega)) (up_ne (by omega)) (up_ne (by omega)) (mOK_eq (up_ne (by omega)) (up_ne (by omega)) (up_ne (by omega)) hm1)))) (fun _ h => h.in.sub [1, 2, 3] rfl rfl) ⟨rfl, rfl⟩ 0 0 rfl rfl (Nat.le_of_ble_eq_true rfl) (Nat.le_of_ble_eq_true rfl) rfl (Nat.le_of_ble_eq_true rfl) dX6_runsOne_98 101 rfl ?_
    refine r_lload_n hC 1 dX6_runsOne_101 rfl 102 rfl ?_
    have J13 : rn C (xSt F V0 [(b 12, .inl (1, 6, .inr (.inl mm))), (b 0, .inr (5, mF b i j)), (b 7, .inl (1, 5, .inr (.inl t))), (b 1, .inl (1, 111, .inr (.inl u12))), (b 23, .inl (1, 6, .inr (.inl g1))), (b 24, .inl (1, 21, .inr (.inl h2)))]) 0 0 111 [(3, .long (enQ t r1)), (1, .long (bandQ t r)), (0, .ref (b 0))] [.long (if (bandQ t u12) = (bandQ t r) then 0 else 1), .long (r1 2), .int 2, .ref (b 1)] → rn C (xSt F V0 [(b 12, .inl (1, 6, .inr (.inl mm))), (b 0, .inr (5, mF b i j)), (b 7, .inl (1, 5, .inr (.inl t))), (b 1, .inl (1, 111, .inr (.inl u12))), (b 23, .inl (1, 6, .inr (.inl g1))), (b 24, .inl (1, 21, .inr (.inl h2)))]) 0 0 102 [(3, .long (enQ t r1)), (1, .long (bandQ t r)), (0, .ref (b 0))] [.long (bandQ t r), .long (bandQ t u12), .long (r1 2), .int 2, .ref (b 1)] := by
      intro kJ
      refine r_lceq hC 110 dX6_runsOne_102 dX6_runsOne_103 (by decide) 106 rfl (fun c14 => ?_) (fun c14 => ?_)
      · rw [if_pos c14] at kJ
        refine r_lconst hC 0 dX6_runsOne_110 lc_0 111 rfl ?_
        exact kJ
      · rw [if_neg c14] at kJ
        refine r_lconst hC 1 dX6_runsOne_106 lc_1 107 rfl ?_
        refine r_goto hC 111 dX6_runsOne_107 (by decide) ?_
        exact kJ
    refine J13 ?_
    clear J13
    refine r_ladd hC ((r1 2) + (if (bandQ t u12) = (bandQ t r) then 0 else 1)) dX6_runsOne_111  (rfl) 112 rfl ?_
    refine r_last (J := xSt F V0 [(b 12, .inl (1, 6, .inr (.inl mm))), (b 0, .inr (5, mF b i j)), (b 7, .inl (1, 5, .inr (.inl t))), (b 1, .inl (1, 111, .inr (.inl (va_up u12 2 ((r1 2) + (if (bandQ t u12) = (bandQ t r) then 0 else 1)))))), (b 23, .inl (1, 6, .inr (.inl g1))), (b 24, .inl (1, 21, .inr (.inl h2)))]) hC 2 (xix_n 2 (Nat.le_of_ble_eq_true rfl) (Nat.le_of_ble_eq_true rfl)) (fun _ h => h.get 3 rfl) dX6_runsOne_112 (fun _ h => h.set 3 _ rfl) 113 rfl ?_
    generalize hu15 : va_up u12 2 ((r1 2) + (if (bandQ t u12) = (bandQ t r) then 0 else 1)) = u15
    refine r_aload_n hC 2 dX6_runsOne_113 rfl 114 rfl ?_
    subst hu15
    subst hu12
    subst hu9
    show rn C (xSt F V0 [(b 12, .inl (1, 6, .inr (.inl mm))), (b 0, .inr (5, mF b i j)), (b 7, .inl (1, 5, .inr (.inl t))), (b 1, .inl (1, 111, .inr (.inl (seeQ t r r1)))), (b 23, .inl (1, 6, .inr (.inl g1))), (b 24, .inl (1, 21, .inr (.inl h2)))]) 0 0 114 [(3, .long (enQ t r1)), (1, .long (bandQ t r)), (0, .ref (b 0))] [.ref (b 0)]
    refine r_invVw hC kX6 (b 0) [] [(b 23, .inl (1, 6, .inr (.inl g1))), (b 24, .inl (1, 21, .inr (.inl h2)))] mVX6_looks q3101 1 rfl (metX6_looks _ _ hG b i _ _ _ _ m (by omega) ((show _ = _ from hi)) (rowA_see (r := r) hA1)) [1, 2, 3, 0] [4, 5] rfl rfl rfl rfl (by decide) ⟨rfl, rfl⟩ 0 0 rfl rfl (Nat.le_of_ble_eq_true rfl) (Nat.le_of_ble_eq_true rfl) rfl (Nat.le_of_ble_eq_true rfl) dX6_runsOne_114 117 rfl (fun v16 w17 h18 => ?_) (fun _ _ h => h.elim)
    obtain ⟨rfl, rfl⟩ := h18
    show rn C (xSt F V0 [(b 23, .inl (1, 6, .inr (.inl g1))), (b 24, .inl (1, 21, .inr (.inl h2))), (b 0, .inr (5, mF b (va_up i 11 (nI (remN m))) j)), (b 7, .inl (1, 5, .inr (.inl t))), (b 1, .inl (1, 111, .inr (.inl (lookQ t mm (seeQ t r r1) m)))), (b 12, .inl (1, 6, .inr (.inl (remQ mm (lookQ t mm (seeQ t r r1) m) m))))]) 0 0 117 [(3, .long (enQ t r1)), (1, .long (bandQ t r)), (0, .ref (b 0))] []
    refine r_iconst hC 1 dX6_runsOne_117 ic_1 118 rfl ?_
    exact r_zret hC (by decide) (Nat.le_of_ble_eq_true rfl) (Nat.le_of_ble_eq_true rfl) (fun V9 h => hQ _ _ ⟨[(b 0, .inr (5, mF b (va_up i 11 (nI (remN m))) j)), (b 7, .inl (1, 5, .inr (.inl t))), (b 1, .inl (1, 111, .inr (.inl (lookQ t mm (seeQ t r r1) m)))), (b 23, .inl (1, 6, .inr (.inl g1))), (b 24, .inl (1, 21, .inr (.inl h2))), (b 12, .inl (1, 6, .inr (.inl (remQ mm (lookQ t mm (seeQ t r r1) m) m))))], ⟨g1, h2, by rw [oneQ, hr1]; try rfl, by rw [oneQ, hr1]; try rfl⟩, by rw [← hV0, ← hF]; exact (h.sub [2, 3, 4, 0, 1, 5] rfl rfl)⟩) dX6_runsOne_118
  · have hr1 : stepQ t r false = none := Option.not_isSome_iff_eq_none.mp (by rw [bI_0.mp c6]; decide)
    rw [hr1]
    show rn C (xSt F V0 [(b 12, .inl (1, 6, .inr (.inl mm))), (b 0, .inr (5, mF b i j)), (b 7, .inl (1, 5, .inr (.inl t))), (b 1, .inl (1, 111, .inr (.inl r))), (b 23, .inl (1, 6, .inr (.inl g1))), (b 24, .inl (1, 21, .inr (.inl h2)))]) 0 0 21 [(1, .long (bandQ t r)), (0, .ref (b 0))] []
    refine r_iconst hC 0 dX6_runsOne_21 ic_0 22 rfl ?_
    exact r_zret hC (by decide) (Nat.le_of_ble_eq_true rfl) (Nat.le_of_ble_eq_true rfl) (fun V9 h => hQ _ _ ⟨[(b 0, .inr (5, mF b i j)), (b 7, .inl (1, 5, .inr (.inl t))), (b 1, .inl (1, 111, .inr (.inl r))), (b 23, .inl (1, 6, .inr (.inl g1))), (b 24, .inl (1, 21, .inr (.inl h2))), (b 12, .inl (1, 6, .inr (.inl mm)))], ⟨g1, h2, by rw [oneQ, hr1]; try rfl, by rw [oneQ, hr1]; try rfl⟩, by rw [← hV0, ← hF]; exact (h.sub [1, 2, 3, 4, 5, 0] rfl rfl)⟩) dX6_runsOne_22
set_option maxHeartbeats 4000000 in
set_option maxRecDepth 100000 in
theorem xMet.imp {l : Launch} {G : xG} {y : MethodName} {ws : List Cond} {rm : Room} {As : List Value} {V : xV} {Q Q' : Option Value → xV → Prop} {X X' : Nat → xV → Prop} (h : xMet l G y ws rm As V Q X) (hQ : ∀ v V', Q v V' → Q' v V') (hX : ∀ q V', X q V' → X' q V') : xMet l G y ws rm As V Q' X' := by
  intro p e a1 a2 a3 s m args below a4 a5 a6 a7
  obtain ⟨n, o, b1, b2, b3, V', L, c1, c2, c3, c4, c5⟩ := h p e a1 a2 a3 s m args below a4 a5 a6 a7
  refine ⟨n, o, b1, b2, b3, V', L, c1, c2, c3, c4, ?_⟩
  rcases c5 with ⟨v, d1, d2⟩ | ⟨q, d1, d2, d3⟩
  · exact Or.inl ⟨v, d1, hQ _ _ d2⟩
  · exact Or.inr ⟨q, d1, hX _ _ d2, d3⟩
theorem xWm.imp {l : Launch} {G : xG} {y : MethodName} {w : Cond} {rm : Room} {As : List Value} {wc : xW} {Q Q' : Option Value → xW → Prop} {X : Nat → xW → Prop} (h : xWm l G y w rm As wc Q X) (hQ : ∀ v w', Q v w' → Q' v w') : xWm l G y w rm As wc Q' X :=
  fun V hV => (h V hV).imp (fun v V' ⟨w', h1, h2⟩ => ⟨w', hQ v w' h1, h2⟩) (fun _ _ h => h)
theorem metX6_runsOneN (l : Launch) (G : xG) (hG : xGood G) (b : Nat → Nat) (i : Nat → Int32) (j : Nat → Int64) (t r g h0 mm : Nat → Int64) (m : Nat) (ht : tOK t) (hm : mOK r) (hA : rowA r) (hm2 : m ≤ 2) (hi : i 11 = nI m) (ho : oneQ t mm r m = none) : xWm l G yX6_runsOne (Cond.code yX6_runsOne cX6_runsOne 5 (some .boolean)) { frames := 7, locals := 178, cells := 0, slots := 0 } [.ref (b 0)] [(b 0, .inr (5, mF b i j)), (b 7, .inl (1, 5, .inr (.inl t))), (b 1, .inl (1, 111, .inr (.inl r))), (b 23, .inl (1, 6, .inr (.inl g))), (b 24, .inl (1, 21, .inr (.inl h0))), (b 12, .inl (1, 6, .inr (.inl mm)))] (fun v w' => ∃ g' h' : Nat → Int64, v = some (.int 0) ∧ w' = [(b 0, .inr (5, mF b i j)), (b 7, .inl (1, 5, .inr (.inl t))), (b 1, .inl (1, 111, .inr (.inl r))), (b 23, .inl (1, 6, .inr (.inl g'))), (b 24, .inl (1, 21, .inr (.inl h'))), (b 12, .inl (1, 6, .inr (.inl mm)))]) (fun _ _ => False) :=
  (metX6_runsOne l G hG b i j t r g h0 mm m ht hm hA hm2 hi).imp fun v w' ⟨g', h', e1, e2⟩ => ⟨g', h', by rw [e1, ho]; rfl, by rw [e2, ho]⟩
theorem metX6_runsOneS (l : Launch) (G : xG) (hG : xGood G) (b : Nat → Nat) (i : Nat → Int32) (j : Nat → Int64) (t r g h0 mm : Nat → Int64) (m : Nat) (ht : tOK t) (hm : mOK r) (hA : rowA r) (hm2 : m ≤ 2) (hi : i 11 = nI m) (q : (Nat → Int64) × (Nat → Int64)) (ho : oneQ t mm r m = some q) : xWm l G yX6_runsOne (Cond.code yX6_runsOne cX6_runsOne 5 (some .boolean)) { frames := 7, locals := 178, cells := 0, slots := 0 } [.ref (b 0)] [(b 0, .inr (5, mF b i j)), (b 7, .inl (1, 5, .inr (.inl t))), (b 1, .inl (1, 111, .inr (.inl r))), (b 23, .inl (1, 6, .inr (.inl g))), (b 24, .inl (1, 21, .inr (.inl h0))), (b 12, .inl (1, 6, .inr (.inl mm)))] (fun v w' => ∃ g' h' : Nat → Int64, v = some (.int 1) ∧ w' = [(b 0, .inr (5, mF b (va_up i 11 (nI (remN m))) j)), (b 7, .inl (1, 5, .inr (.inl t))), (b 1, .inl (1, 111, .inr (.inl q.1))), (b 23, .inl (1, 6, .inr (.inl g'))), (b 24, .inl (1, 21, .inr (.inl h'))), (b 12, .inl (1, 6, .inr (.inl q.2)))]) (fun _ _ => False) :=
  (metX6_runsOne l G hG b i j t r g h0 mm m ht hm hA hm2 hi).imp fun v w' ⟨g', h', e1, e2⟩ => ⟨g', h', by rw [e1, ho]; rfl, by rw [e2, ho]⟩
theorem oneQ_ok {t mm r : Nat → Int64} {m : Nat} {q : (Nat → Int64) × (Nat → Int64)} (hm : mOK r) (hA : rowA r) (ho : oneQ t mm r m = some q) : mOK q.1 ∧ rowA q.1 := by
  unfold oneQ at ho
  cases h : stepQ t r false with
  | none => rw [h] at ho; cases ho
  | some r1 =>
    rw [h] at ho
    cases ho
    exact ⟨mOK_lookQ (mOK_see (stepQ_mOK hm h)), rowA_lookQ (rowA_see (stepQ_rowA hA h))⟩
def runL (t : Nat → Int64) : Nat → (Nat → Int64) → (Nat → Int64) → Nat → Nat × (Nat → Int64) × (Nat → Int64) × Nat
  | 0, r, mm, m => (0, r, mm, m)
  | f + 1, r, mm, m => match oneQ t mm r m with
    | none => (0, r, mm, m)
    | some q => ((runL t f q.1 q.2 (remN m)).1 + 1, (runL t f q.1 q.2 (remN m)).2)
theorem runL_le {t : Nat → Int64} : ∀ {f : Nat} {r mm : Nat → Int64} {m : Nat}, (runL t f r mm m).1 ≤ f := by
  intro f
  induction f with
  | zero => intro r mm m; exact Nat.le_refl 0
  | succ f ih =>
    intro r mm m
    rw [runL]
    split
    · exact Nat.zero_le _
    · exact Nat.succ_le_succ ih
set_option maxHeartbeats 4000000 in
set_option maxRecDepth 100000 in
theorem lpX6_run {C : xC} {F : Nat → Prop} {V0 : xV} {k n : Nat} {rm : Room} (hG : xGood (xGG C)) (hfr : (8 : Nat).ble rm.frames = true) (hlo : (202 : Nat).ble rm.locals = true) (hC : xCtx C RX6 cX6_run 3 (some .int) rm) (hk0 : k = 0) (hn0 : n = 0) (N : Nat) (hN : N ≤ 500) (b : Nat → Nat) (i : Nat → Int32) (j : Nat → Int64) (t hz : Nat → Int64) (ht : tOK t) : ∀ (f c : Nat) (r mm : Nat → Int64) (m : Nat) (g h0 : Nat → Int64), c + f = N → mOK r → rowA r → m ≤ 2 → (∀ g' h' : Nat → Int64, rn C (xSt F V0 [(b 0, .inr (5, mF b (va_up i 11 (nI (runL t f r mm m).2.2.2)) j)), (b 7, .inl (1, 5, .inr (.inl t))), (b 1, .inl (1, 111, .inr (.inl ((runL t f r mm m).2.1)))), (b 23, .inl (1, 6, .inr (.inl g'))), (b 24, .inl (1, 21, .inr (.inl h'))), (b 12, .inl (1, 6, .inr (.inl ((runL t f r mm m).2.2.1)))), (b 6, .inl (1, 1110, .inr (.inl hz)))]) k n 59 [(2, .int (nI (c + (runL t f r mm m).1))), (0, .ref (b 0))] []) → rn C (xSt F V0 [(b 0, .inr (5, mF b (va_up i 11 (nI m)) j)), (b 7, .inl (1, 5, .inr (.inl t))), (b 1, .inl (1, 111, .inr (.inl r))), (b 23, .inl (1, 6, .inr (.inl g))), (b 24, .inl (1, 21, .inr (.inl h0))), (b 12, .inl (1, 6, .inr (.inl mm))), (b 6, .inl (1, 1110, .inr (.inl hz)))]) k n 41 [(2, .int (nI c)), (0, .ref (b 0)), (1, .int (nI N))] [] := by
  subst hk0 hn0
  intro f
  induction f with
  | zero =>
    intro c r mm m g h0 hc hm hA hm2 kx
    have hc : c = N := by omega
    subst hc
    refine r_iload_n hC 0 dX6_run_41 rfl 42 rfl ?_
    refine r_iload_n hC 2 dX6_run_42 rfl 43 rfl ?_
    refine r_icge hC 59 dX6_run_43 (by decide) 46 rfl (fun _ => ?_) (fun h => absurd (Int32.le_refl _) h)
    refine rn.sub (lv' := [(2, .int (nI c)), (0, .ref (b 0))]) [0, 1] rfl ?_
    exact kx _ _
  | succ f ih =>
    intro c r mm m g h0 hc hm hA hm2 kx
    refine r_iload_n hC 0 dX6_run_41 rfl 42 rfl ?_
    refine r_iload_n hC 2 dX6_run_42 rfl 43 rfl ?_
    refine r_icge hC 59 dX6_run_43 (by decide) 46 rfl (fun h => absurd h (nI_ge (by omega) (by omega))) (fun _ => ?_)
    refine r_aload_n hC 1 dX6_run_46 rfl 47 rfl ?_
    cases ho : oneQ t mm r m with
    | none =>
      skip
      refine r_invVw hC kX6 (b 0) [] [(b 6, .inl (1, 1110, .inr (.inl hz)))] mVX6_runsOne q3074 0 rfl (metX6_runsOneN _ _ hG b (va_up i 11 (nI m)) _ _ _ _ _ _ m ht hm hA hm2 rfl ho) [0, 1, 2, 3, 4, 5] [6] rfl rfl rfl rfl (by decide) ⟨hfr, hlo⟩ 0 0 rfl rfl (Nat.le_of_ble_eq_true rfl) (Nat.le_of_ble_eq_true rfl) rfl (Nat.le_of_ble_eq_true rfl) dX6_run_47 50 rfl (fun v3 w4 h5 => ?_) (fun _ _ h => h.elim)
      obtain ⟨g1, h2, rfl, rfl⟩ := h5
      show rn C (xSt F V0 [(b 6, .inl (1, 1110, .inr (.inl hz))), (b 0, .inr (5, mF b (va_up i 11 (nI m)) j)), (b 7, .inl (1, 5, .inr (.inl t))), (b 1, .inl (1, 111, .inr (.inl r))), (b 23, .inl (1, 6, .inr (.inl g1))), (b 24, .inl (1, 21, .inr (.inl h2))), (b 12, .inl (1, 6, .inr (.inl mm)))]) 0 0 50 [(2, .int (nI c)), (0, .ref (b 0)), (1, .int (nI N))] [.int 0]
      refine r_ifeq hC 59 dX6_run_50 (by decide) 53 rfl (fun _ => ?_) (fun h => absurd h (by decide))
      refine rn.sub (lv' := [(2, .int (nI c)), (0, .ref (b 0))]) [0, 1] rfl ?_
      refine rn.mono (J := xSt F V0 [(b 0, .inr (5, mF b (va_up i 11 (nI m)) j)), (b 7, .inl (1, 5, .inr (.inl t))), (b 1, .inl (1, 111, .inr (.inl r))), (b 23, .inl (1, 6, .inr (.inl g1))), (b 24, .inl (1, 21, .inr (.inl h2))), (b 12, .inl (1, 6, .inr (.inl mm))), (b 6, .inl (1, 1110, .inr (.inl hz)))]) (fun _ h => h.sub [1, 2, 3, 4, 5, 6, 0] rfl rfl) ?_
      have hrl : runL t (f + 1) r mm m = (0, r, mm, m) := by rw [runL, ho]
      rw [hrl] at kx
      exact kx _ _
    | some q =>
      skip
      refine r_invVw hC kX6 (b 0) [] [(b 6, .inl (1, 1110, .inr (.inl hz)))] mVX6_runsOne q3074 0 rfl (metX6_runsOneS _ _ hG b (va_up i 11 (nI m)) _ _ _ _ _ _ m ht hm hA hm2 rfl q ho) [0, 1, 2, 3, 4, 5] [6] rfl rfl rfl rfl (by decide) ⟨hfr, hlo⟩ 0 0 rfl rfl (Nat.le_of_ble_eq_true rfl) (Nat.le_of_ble_eq_true rfl) rfl (Nat.le_of_ble_eq_true rfl) dX6_run_47 50 rfl (fun v8 w9 h10 => ?_) (fun _ _ h => h.elim)
      obtain ⟨g6, h7, rfl, rfl⟩ := h10
      show rn C (xSt F V0 [(b 6, .inl (1, 1110, .inr (.inl hz))), (b 0, .inr (5, mF b (va_up (va_up i 11 (nI m)) 11 (nI (remN m))) j)), (b 7, .inl (1, 5, .inr (.inl t))), (b 1, .inl (1, 111, .inr (.inl q.1))), (b 23, .inl (1, 6, .inr (.inl g6))), (b 24, .inl (1, 21, .inr (.inl h7))), (b 12, .inl (1, 6, .inr (.inl q.2)))]) 0 0 50 [(2, .int (nI c)), (0, .ref (b 0)), (1, .int (nI N))] [.int 1]
      refine r_ifeq hC 59 dX6_run_50 (by decide) 53 rfl (fun h => absurd h (by decide)) (fun _ => ?_)
      refine r_iinc hC (nI (c + 1)) 2 0 [(2, .int (nI (c + 1))), (0, .ref (b 0)), (1, .int (nI N))] dX6_run_53 rfl (nI_add c 1) (Nat.le_of_ble_eq_true rfl) rfl 56 rfl ?_
      refine r_goto hC 41 dX6_run_56 (by decide) ?_
      refine rn.sub (lv' := [(2, .int (nI (c + 1))), (0, .ref (b 0)), (1, .int (nI N))]) [0, 1, 2] rfl ?_
      refine rn.mono (J := xSt F V0 [(b 0, .inr (5, mF b (va_up i 11 (nI (remN m))) j)), (b 7, .inl (1, 5, .inr (.inl t))), (b 1, .inl (1, 111, .inr (.inl q.1))), (b 23, .inl (1, 6, .inr (.inl g6))), (b 24, .inl (1, 21, .inr (.inl h7))), (b 12, .inl (1, 6, .inr (.inl q.2))), (b 6, .inl (1, 1110, .inr (.inl hz)))]) (fun _ h => by rw [bx_uu] at h; exact h.sub [1, 2, 3, 4, 5, 6, 0] rfl rfl) ?_
      have hrl : runL t (f + 1) r mm m = ((runL t f q.1 q.2 (remN m)).1 + 1, (runL t f q.1 q.2 (remN m)).2) := by rw [runL, ho]
      rw [hrl] at kx
      have hk := oneQ_ok hm hA ho
      refine ih (c + 1) q.1 q.2 (remN m) _ _ (by omega) hk.1 hk.2 (by unfold remN; split <;> omega) (fun g9 h9 => ?_)
      have := kx g9 h9
      rw [show c + ((runL t f q.1 q.2 (remN m)).1 + 1) = c + 1 + (runL t f q.1 q.2 (remN m)).1 by omega] at this
      exact this
theorem up_self {i : Nat → Int32} {x y : Int32} {rcn : Int32} (h : i 11 = y) : va_up (va_up i 0 x) 10 rcn = va_up (va_up (va_up i 0 x) 10 rcn) 11 y := by
  funext k
  by_cases h11 : k = 11
  · subst h11; rw [up_same, up_ne (by omega), up_ne (by omega)]; exact h
  · rw [up_ne h11]
/-- what is remembered where a run begins -/
def startQ (mm r : Nat → Int64) (m : Nat) : (Nat → Int64) × Nat := if m = 0 then (remQ mm r 0, 1) else (mm, m)
def runQ (t mm r : Nat → Int64) (m N : Nat) : Nat × (Nat → Int64) × (Nat → Int64) × Nat := runL t N r (startQ mm r m).1 (startQ mm r m).2
set_option maxHeartbeats 4000000 in
set_option maxRecDepth 100000 in
theorem metX6_runG (l : Launch) (G : xG) (hG : xGood G) (b : Nat → Nat) (i : Nat → Int32) (j : Nat → Int64) (t r g h0 mm hy : Nat → Int64) (m rc N : Nat) (ht : tOK t) (hm : mOK r) (hA : rowA r) (hm2 : m ≤ 2) (hi11 : i 11 = nI m) (hrc : rc ≤ 10) (hi : i 10 = nI rc) (hN : N ≤ 500) : xWm l G yX6_run (Cond.code yX6_run cX6_run 3 (some .int)) { frames := 8, locals := 202, cells := 0, slots := 0 } [.ref (b 0), .int (nI N)] [(b 0, .inr (5, mF b i j)), (b 7, .inl (1, 5, .inr (.inl t))), (b 1, .inl (1, 111, .inr (.inl r))), (b 23, .inl (1, 6, .inr (.inl g))), (b 24, .inl (1, 21, .inr (.inl h0))), (b 12, .inl (1, 6, .inr (.inl mm))), (b 6, .inl (1, 1110, .inr (.inl hy)))] (fun v w' => ∃ g' h' : Nat → Int64, v = some (.int (nI (runQ t mm r m N).1)) ∧ w' = [(b 0, .inr (5, mF b (va_up (va_up (va_up i 0 0) 10 (nI (recN rc))) 11 (nI (runQ t mm r m N).2.2.2)) j)), (b 7, .inl (1, 5, .inr (.inl t))), (b 1, .inl (1, 111, .inr (.inl ((runQ t mm r m N).2.1)))), (b 23, .inl (1, 6, .inr (.inl g'))), (b 24, .inl (1, 21, .inr (.inl h'))), (b 12, .inl (1, 6, .inr (.inl ((runQ t mm r m N).2.2.1)))), (b 6, .inl (1, 1110, .inr (.inl (recH hy r rc))))]) (fun _ _ => False) := by
  intro V hV
  refine xMet_of RX6 hG rfl (by decide) (Nat.le_of_ble_eq_true rfl) fun C hC hQ hX hl hg _ => ?_
  subst hl hg
  obtain ⟨V0, hV0⟩ : ∃ V0, V0 = V := ⟨_, rfl⟩
  obtain ⟨F, hF⟩ : ∃ F, F = xF [(b 0, .inr (5, mF b i j)), (b 7, .inl (1, 5, .inr (.inl t))), (b 1, .inl (1, 111, .inr (.inl r))), (b 23, .inl (1, 6, .inr (.inl g))), (b 24, .inl (1, 21, .inr (.inl h0))), (b 12, .inl (1, 6, .inr (.inl mm))), (b 6, .inl (1, 1110, .inr (.inl hy)))] := ⟨_, rfl⟩
  refine rn.mono (J := xSt F V0 [(b 0, .inr (5, mF b i j)), (b 7, .inl (1, 5, .inr (.inl t))), (b 1, .inl (1, 111, .inr (.inl r))), (b 23, .inl (1, 6, .inr (.inl g))), (b 24, .inl (1, 21, .inr (.inl h0))), (b 12, .inl (1, 6, .inr (.inl mm))), (b 6, .inl (1, 1110, .inr (.inl hy)))]) (fun V9 h => by rw [h, hV0, hF]; exact hV.st) ?_
  show rn C (xSt F V0 [(b 0, .inr (5, mF b i j)), (b 7, .inl (1, 5, .inr (.inl t))), (b 1, .inl (1, 111, .inr (.inl r))), (b 23, .inl (1, 6, .inr (.inl g))), (b 24, .inl (1, 21, .inr (.inl h0))), (b 12, .inl (1, 6, .inr (.inl mm))), (b 6, .inl (1, 1110, .inr (.inl hy)))]) 0 0 0 [(0, .ref (b 0)), (1, .int (nI N))] []
  refine r_aload_n hC 0 dX6_run_0 rfl 1 rfl ?_
  refine r_iconst hC 0 dX6_run_1 ic_0 2 rfl ?_
  refine r_put (J := xSt F V0 [(b 0, .inr (5, mF b (va_up i 0 0) j)), (b 7, .inl (1, 5, .inr (.inl t))), (b 1, .inl (1, 111, .inr (.inl r))), (b 23, .inl (1, 6, .inr (.inl g))), (b 24, .inl (1, 21, .inr (.inl h0))), (b 12, .inl (1, 6, .inr (.inl mm))), (b 6, .inl (1, 1110, .inr (.inl hy)))]) hC kX6 0 rfl q2753 rfl (fun _ h => h.get 0 rfl) (Nat.le_of_ble_eq_true rfl) rfl rfl dX6_run_2 (fun _ h => h.set 0 _ rfl) 5 rfl ?_
  refine r_aload_n hC 0 dX6_run_5 rfl 6 rfl ?_
  refine r_iload_n hC 1 dX6_run_6 rfl 7 rfl ?_
  refine r_i2l hC ((nI N).toInt64) dX6_run_7 (rfl) 8 rfl ?_
  refine r_lconst hC 0 dX6_run_8 lc_0 9 rfl ?_
  refine r_ldc2 hC q3065 dX6_run_9 12 rfl ?_
  refine r_invSr hC [.long ((nI N).toInt64), .long 0, .long 500] (.int 1) mSX6_in q2891 (metX6_inB _ _ hG ((nI N).toInt64) 0 500 1 (in_n (N := 500) (by omega) rfl (by decide))) (fun _ _ => xIn.nil) ⟨rfl, rfl⟩ 0 0 rfl rfl (Nat.le_of_ble_eq_true rfl) (Nat.le_of_ble_eq_true rfl) rfl (Nat.le_of_ble_eq_true rfl) dX6_run_12 15 rfl ?_
  refine r_iconst hC 1 dX6_run_15 ic_1 16 rfl ?_
  refine r_invVr hC kX6 (b 0) [.int 1, .int 1] (.int 0) mVX6_fails q2894 (fun _ h => h.get 0 rfl) (metX6_fails1 _ _ hG b _ _ 1) (fun _ h => h.in.sub [0] rfl rfl) ⟨rfl, rfl⟩ 0 0 rfl rfl (Nat.le_of_ble_eq_true rfl) (Nat.le_of_ble_eq_true rfl) rfl (Nat.le_of_ble_eq_true rfl) dX6_run_16 19 rfl ?_
  refine r_ifeq hC 24 dX6_run_19 (by decide) 22 rfl (fun _ => ?_) (fun h => absurd h (by decide))
  refine r_aload_n hC 0 dX6_run_24 rfl 25 rfl ?_
  refine r_invVw hC kX6 (b 0) [] [(b 7, .inl (1, 5, .inr (.inl t))), (b 23, .inl (1, 6, .inr (.inl g))), (b 24, .inl (1, 21, .inr (.inl h0))), (b 12, .inl (1, 6, .inr (.inl mm)))] mVX6_records q3066 0 rfl (metX6_rec _ _ hG b (va_up i 0 0) _ _ _ rc hrc (show (va_up i 0 0) 10 = nI rc from hi)) [0, 2, 6] [1, 3, 4, 5] rfl rfl rfl rfl (by decide) ⟨rfl, rfl⟩ 0 0 rfl rfl (Nat.le_of_ble_eq_true rfl) (Nat.le_of_ble_eq_true rfl) rfl (Nat.le_of_ble_eq_true rfl) dX6_run_25 28 rfl (fun v1 w2 h3 => ?_) (fun _ _ h => h.elim)
  obtain ⟨rfl, rfl⟩ := h3
  show rn C (xSt F V0 [(b 7, .inl (1, 5, .inr (.inl t))), (b 23, .inl (1, 6, .inr (.inl g))), (b 24, .inl (1, 21, .inr (.inl h0))), (b 12, .inl (1, 6, .inr (.inl mm))), (b 0, .inr (5, mF b (va_up (va_up i 0 0) 10 (nI (recN rc))) j)), (b 1, .inl (1, 111, .inr (.inl r))), (b 6, .inl (1, 1110, .inr (.inl (recH hy r rc))))]) 0 0 28 [(0, .ref (b 0)), (1, .int (nI N))] []
  refine r_aload_n hC 0 dX6_run_28 rfl 29 rfl ?_
  refine r_get (v := .int (i 11)) hC kX6 11 rfl q2764 (fun _ h => h.get 4 rfl) rfl dX6_run_29 32 rfl ?_
  refine r_eqi (y := nI m) (hi11) ?_
  refine r_ifne hC 39 dX6_run_32 (by decide) 35 rfl (fun c4 => ?_) (fun c4 => ?_)
  · have h110 : ¬ m = 0 := fun e => c4 (by rw [e]; rfl)
    refine r_iconst hC 0 dX6_run_39 ic_0 40 rfl ?_
    refine r_istore_n hC 2 [(2, .int 0), (0, .ref (b 0)), (1, .int (nI N))] dX6_run_40 rfl (Nat.le_of_ble_eq_true rfl) rfl 41 rfl ?_
    refine rn.mono (J := xSt F V0 [(b 0, .inr (5, mF b (va_up (va_up (va_up i 0 0) 10 (nI (recN rc))) 11 (nI m)) j)), (b 7, .inl (1, 5, .inr (.inl t))), (b 1, .inl (1, 111, .inr (.inl r))), (b 23, .inl (1, 6, .inr (.inl g))), (b 24, .inl (1, 21, .inr (.inl h0))), (b 12, .inl (1, 6, .inr (.inl mm))), (b 6, .inl (1, 1110, .inr (.inl (recH hy r rc))))]) (fun _ h => by rw [show (va_up (va_up i 0 0) 10 (nI (recN rc)) : Nat → Int32) = va_up (va_up (va_up i 0 0) 10 (nI (recN rc))) 11 (nI m) from up_self hi11] at h; exact h.sub [4, 0, 5, 1, 2, 3, 6] rfl rfl) ?_
    refine rn.sub (lv' := [(2, .int 0), (0, .ref (b 0)), (1, .int (nI N))]) [0, 1, 2] rfl ?_
    refine lpX6_run hG rfl rfl hC rfl rfl N hN b (va_up (va_up i 0 0) 10 (nI (recN rc))) j t (recH hy r rc) ht N 0 r mm m g h0 (by omega) hm hA (by omega) (fun g9 h9 => ?_)
    rw [Nat.zero_add]
    show rn C (xSt F V0 [(b 0, .inr (5, mF b (va_up (va_up (va_up i 0 0) 10 (nI (recN rc))) 11 (nI (runL t N r mm m).2.2.2)) j)), (b 7, .inl (1, 5, .inr (.inl t))), (b 1, .inl (1, 111, .inr (.inl ((runL t N r mm m).2.1)))), (b 23, .inl (1, 6, .inr (.inl g9))), (b 24, .inl (1, 21, .inr (.inl h9))), (b 12, .inl (1, 6, .inr (.inl ((runL t N r mm m).2.2.1)))), (b 6, .inl (1, 1110, .inr (.inl (recH hy r rc))))]) 0 0 59 [(2, .int (nI ((runL t N r mm m).1))), (0, .ref (b 0))] []
    refine r_iload_n hC 0 dX6_run_59 rfl 60 rfl ?_
    have hz : startQ mm r m = (mm, m) := by rw [startQ, if_neg h110]
    exact r_iret hC (Nat.le_of_ble_eq_true rfl) (Nat.le_of_ble_eq_true rfl) (fun V9 h => hQ _ _ ⟨[(b 0, .inr (5, mF b (va_up (va_up (va_up i 0 0) 10 (nI (recN rc))) 11 (nI (runL t N r mm m).2.2.2)) j)), (b 7, .inl (1, 5, .inr (.inl t))), (b 1, .inl (1, 111, .inr (.inl ((runL t N r mm m).2.1)))), (b 23, .inl (1, 6, .inr (.inl g9))), (b 24, .inl (1, 21, .inr (.inl h9))), (b 12, .inl (1, 6, .inr (.inl ((runL t N r mm m).2.2.1)))), (b 6, .inl (1, 1110, .inr (.inl (recH hy r rc))))], ⟨g9, h9, by rw [runQ, hz], by rw [runQ, hz]⟩, by rw [← hV0, ← hF]; exact h⟩) dX6_run_60
  · have h110 : m = 0 := (nI_eq (by omega) (by decide)).mp (show nI m = nI 0 from c4)
    have hz11 : i 11 = nI 0 := by rw [hi11, h110]
    refine r_aload_n hC 0 dX6_run_35 rfl 36 rfl ?_
    refine r_invVw hC kX6 (b 0) [] [(b 7, .inl (1, 5, .inr (.inl t))), (b 23, .inl (1, 6, .inr (.inl g))), (b 24, .inl (1, 21, .inr (.inl h0))), (b 6, .inl (1, 1110, .inr (.inl (recH hy r rc))))] mVX6_remembers q3070 4 rfl (metX6_remembers _ _ hG b (va_up (va_up i 0 0) 10 (nI (recN rc))) _ _ _ 0 (by omega) (hz11)) [4, 5, 3] [0, 1, 2, 6] rfl rfl rfl rfl (by decide) ⟨rfl, rfl⟩ 0 0 rfl rfl (Nat.le_of_ble_eq_true rfl) (Nat.le_of_ble_eq_true rfl) rfl (Nat.le_of_ble_eq_true rfl) dX6_run_36 39 rfl (fun v5 w6 h7 => ?_) (fun _ _ h => h.elim)
    obtain ⟨rfl, rfl⟩ := h7
    show rn C (xSt F V0 [(b 7, .inl (1, 5, .inr (.inl t))), (b 23, .inl (1, 6, .inr (.inl g))), (b 24, .inl (1, 21, .inr (.inl h0))), (b 6, .inl (1, 1110, .inr (.inl (recH hy r rc)))), (b 0, .inr (5, mF b (va_up (va_up (va_up i 0 0) 10 (nI (recN rc))) 11 (nI (remN 0))) j)), (b 1, .inl (1, 111, .inr (.inl r))), (b 12, .inl (1, 6, .inr (.inl (remQ mm r 0))))]) 0 0 39 [(0, .ref (b 0)), (1, .int (nI N))] []
    refine r_iconst hC 0 dX6_run_39 ic_0 40 rfl ?_
    refine r_istore_n hC 2 [(2, .int 0), (0, .ref (b 0)), (1, .int (nI N))] dX6_run_40 rfl (Nat.le_of_ble_eq_true rfl) rfl 41 rfl ?_
    refine rn.mono (J := xSt F V0 [(b 0, .inr (5, mF b (va_up (va_up (va_up i 0 0) 10 (nI (recN rc))) 11 (nI 1)) j)), (b 7, .inl (1, 5, .inr (.inl t))), (b 1, .inl (1, 111, .inr (.inl r))), (b 23, .inl (1, 6, .inr (.inl g))), (b 24, .inl (1, 21, .inr (.inl h0))), (b 12, .inl (1, 6, .inr (.inl (remQ mm r 0)))), (b 6, .inl (1, 1110, .inr (.inl (recH hy r rc))))]) (fun _ h => by rw [show (va_up (va_up (va_up i 0 0) 10 (nI (recN rc))) 11 (nI (remN 0)) : Nat → Int32) = va_up (va_up (va_up i 0 0) 10 (nI (recN rc))) 11 (nI 1) from rfl] at h; exact h.sub [4, 0, 5, 1, 2, 6, 3] rfl rfl) ?_
    refine rn.sub (lv' := [(2, .int 0), (0, .ref (b 0)), (1, .int (nI N))]) [0, 1, 2] rfl ?_
    refine lpX6_run hG rfl rfl hC rfl rfl N hN b (va_up (va_up i 0 0) 10 (nI (recN rc))) j t (recH hy r rc) ht N 0 r (remQ mm r 0) 1 g h0 (by omega) hm hA (by omega) (fun g9 h9 => ?_)
    rw [Nat.zero_add]
    show rn C (xSt F V0 [(b 0, .inr (5, mF b (va_up (va_up (va_up i 0 0) 10 (nI (recN rc))) 11 (nI (runL t N r (remQ mm r 0) 1).2.2.2)) j)), (b 7, .inl (1, 5, .inr (.inl t))), (b 1, .inl (1, 111, .inr (.inl ((runL t N r (remQ mm r 0) 1).2.1)))), (b 23, .inl (1, 6, .inr (.inl g9))), (b 24, .inl (1, 21, .inr (.inl h9))), (b 12, .inl (1, 6, .inr (.inl ((runL t N r (remQ mm r 0) 1).2.2.1)))), (b 6, .inl (1, 1110, .inr (.inl (recH hy r rc))))]) 0 0 59 [(2, .int (nI ((runL t N r (remQ mm r 0) 1).1))), (0, .ref (b 0))] []
    refine r_iload_n hC 0 dX6_run_59 rfl 60 rfl ?_
    have hz : startQ mm r m = (remQ mm r 0, 1) := by rw [startQ, if_pos h110]
    exact r_iret hC (Nat.le_of_ble_eq_true rfl) (Nat.le_of_ble_eq_true rfl) (fun V9 h => hQ _ _ ⟨[(b 0, .inr (5, mF b (va_up (va_up (va_up i 0 0) 10 (nI (recN rc))) 11 (nI (runL t N r (remQ mm r 0) 1).2.2.2)) j)), (b 7, .inl (1, 5, .inr (.inl t))), (b 1, .inl (1, 111, .inr (.inl ((runL t N r (remQ mm r 0) 1).2.1)))), (b 23, .inl (1, 6, .inr (.inl g9))), (b 24, .inl (1, 21, .inr (.inl h9))), (b 12, .inl (1, 6, .inr (.inl ((runL t N r (remQ mm r 0) 1).2.2.1)))), (b 6, .inl (1, 1110, .inr (.inl (recH hy r rc))))], ⟨g9, h9, by rw [runQ, hz], by rw [runQ, hz]⟩, by rw [← hV0, ← hF]; exact h⟩) dX6_run_60
