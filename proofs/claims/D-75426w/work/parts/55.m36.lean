/-! ===== the reference: comparisons, closing, reading ===== -/
set_option maxRecDepth 100000
theorem setT_opn {k : Nat} : ∀ (W L : List Int32), opnQ (setT k L W).2 ≤ opnQ W := by
  intro W
  induction W with
  | nil => intro L; exact Nat.le_refl _
  | cons x W ih =>
    intro L
    rw [setT]
    split
    · rw [opnQ]; exact Nat.le_trans (ih _) (Nat.le_add_right _ _)
    · exact Nat.le_refl _
def wtOK (W : List Int32) : Prop := ∀ x ∈ W, x = 1 ∨ x = 23 ∨ x = 24 ∨ x = 25
def qW (L W : List Int32) (ps : PS) : Prop := leP (L.length + W.length) ps ∧ wtOK W ∧ opnQ W ≤ 6
section QW
variable {bf : Nat → Int32} {e : Nat} {L W : List Int32} {ps : PS}
theorem wtOK_cons {x : Int32} (hx : x = 1 ∨ x = 23 ∨ x = 24 ∨ x = 25) (h : wtOK W) : wtOK (x :: W) := fun y hy => (List.mem_cons.mp hy).elim (fun e => e ▸ hx) (h y)
theorem opn_cons {x : Int32} : opnQ (x :: W) ≤ opnQ W + 1 := by
  rw [opnQ]; split <;> omega
theorem qW_pushW {w : Int64} {x : Int32} (h : qW L W ps) (hw : isW bf e w ps = true) (hx : x = 1 ∨ x = 23 ∨ x = 24 ∨ x = 25) (h6 : decide (opnQ W = 6) = false) : qW L (x :: W) (nxP bf e ps) := by
  have h6 := of_decide_eq_false h6
  refine ⟨(leP_nxW hw h.1).mono (by simp only [List.length_cons]; omega), wtOK_cons hx h.2.1, ?_⟩
  have := @opn_cons W x
  have := h.2.2
  omega
theorem qW_pushB {w x : Int32} (h : qW L W ps) (hw : isB bf e w ps = true) (hx : x = 1 ∨ x = 23 ∨ x = 24 ∨ x = 25) (h6 : decide (opnQ W = 6) = false) : qW L (x :: W) (nxP bf e ps) := by
  have h6 := of_decide_eq_false h6
  refine ⟨(leP_nxB hw h.1).mono (by simp only [List.length_cons]; omega), wtOK_cons hx h.2.1, ?_⟩
  have := @opn_cons W x
  have := h.2.2
  omega
theorem qW_join {w : Int64} {k : Nat} {x : Int32} (h : qW L W ps) (hw : isW bf e w ps = true) (hx : x = 24 ∨ x = 25) : qW (setT k L W).1 (x :: (setT k L W).2) (nxP bf e ps) := by
  have hl := setT_len (k := k) W L
  refine ⟨(leP_nxW hw h.1).mono (by simp only [List.length_cons]; omega), wtOK_cons (hx.elim (fun e => Or.inr (Or.inr (Or.inl e))) (fun e => Or.inr (Or.inr (Or.inr e)))) (setT_all W L h.2.1), ?_⟩
  have h1 : opnQ (x :: (setT k L W).2) = opnQ (setT k L W).2 := by
    rw [opnQ, if_neg (by rcases hx with rfl | rfl <;> decide)]; rfl
  have := setT_opn (k := k) W L
  have := h.2.2
  omega
theorem qW_close {W2 : List Int32} (h : qW L W ps) (hw : isB bf e 41 ps = true) (h2 : (setT 1 L W).2 = 1 :: W2) : qW (setT 3 (setT 1 L W).1 W2).1 (setT 3 (setT 1 L W).1 W2).2 (nxP bf e ps) := by
  have hl := setT_len (k := 1) W L
  have hl2 := setT_len (k := 3) W2 (setT 1 L W).1
  rw [h2, List.length_cons] at hl
  have ha := setT_all (k := 1) W L h.2.1
  rw [h2] at ha
  refine ⟨(leP_nxB hw h.1).mono (by omega), setT_all W2 _ (fun x hx => ha x (List.mem_cons_of_mem _ hx)), ?_⟩
  have h3 := setT_opn (k := 1) W L
  rw [h2, opnQ] at h3
  have h4 := setT_opn (k := 3) W2 (setT 1 L W).1
  have := h.2.2
  omega
theorem qW_3 (h : qW L W ps) : qW (setT 3 L W).1 (setT 3 L W).2 ps := by
  have hl := setT_len (k := 3) W L
  have h4 := setT_opn (k := 3) W L
  exact ⟨h.1.mono (by omega), setT_all W L h.2.1, Nat.le_trans h4 h.2.2⟩
theorem cmp_L {c : Int32} (hoc : opC bf e (valP bf e ps) = c) : L ++ valC bf e ps ++ valC bf e (nxP bf e (opP bf e (valP bf e ps))) ++ [c] = L ++ cmpC bf e ps := by
  rw [cmpC, cmpM, hoc]; simp
theorem cmp_bad (h : okP (opP bf e (valP bf e ps)) = false) : cmpP bf e ps = opP bf e (valP bf e ps) := by
  have h1 : nxP bf e (opP bf e (valP bf e ps)) = opP bf e (valP bf e ps) := by
    cases hx : opP bf e (valP bf e ps) with
    | ok g => rw [hx] at h; exact absurd h (by simp [okP])
    | error x => rfl
  rw [cmpP, cmpM, h1, val_bad h]
theorem cmp_len {c : Int32} : (L ++ valC bf e ps ++ valC bf e (nxP bf e (opP bf e (valP bf e ps))) ++ [c]).length ≤ L.length + 3 := by
  have h1 := @valC_le bf e ps
  have h2 := @valC_le bf e (nxP bf e (opP bf e (valP bf e ps)))
  simp only [List.length_append, List.length_cons, List.length_nil]
  omega
theorem cmp_len2 : (L ++ valC bf e ps ++ valC bf e (nxP bf e (opP bf e (valP bf e ps)))).length ≤ L.length + 2 := by
  have h1 := @valC_le bf e ps
  have h2 := @valC_le bf e (nxP bf e (opP bf e (valP bf e ps)))
  simp only [List.length_append]
  omega
theorem cmp_le (h : leP (L.length + W.length) ps) : leP (L.length + W.length + 3) (cmpP bf e ps) := leP_val (leP_op (leP_val h))
theorem cmp_le1 (h : leP (L.length + W.length) ps) : leP ((L ++ valC bf e ps).length + W.length) (nxP bf e (opP bf e (valP bf e ps))) := by
  have h1 := @valC_le bf e ps
  exact (leP_op (leP_val h)).mono (by simp only [List.length_append]; omega)
end QW
/-- what a comparison leaves -/
def cmpO (bf : Nat → Int32) (e : Nat) (L W : List Int32) (ps : PS) (i' co' wt' : Nat → Int32) (L' W' : List Int32) (ps' : PS) : Prop :=
  (okP ps' = true ∧ qS i' co' wt' L' W' ∧ qW L' W' ps' ∧ muP e ps' < muP e ps ∧ mch bf e true L W ps = mch bf e false L' W' ps') ∨ (okP ps' = false ∧ (mch bf e true L W ps).2 = ps')
def cloO (bf : Nat → Int32) (e : Nat) (L W : List Int32) (ps : PS) (i' co' wt' : Nat → Int32) (L' W' : List Int32) (ps' : PS) : Prop :=
  okP ps' = true ∧ qS i' co' wt' L' W' ∧ qW L' W' ps' ∧ muP e ps' ≤ muP e ps ∧ mch bf e false L W ps = mch bf e false L' W' ps' ∧ topN W' = false ∧ ¬ (isB bf e 41 ps' = true ∧ insQ W' = true)
def rdsO (bf : Nat → Int32) (e : Nat) (ps : PS) (i' co' : Nat → Int32) (L' : List Int32) (ps' : PS) : Prop :=
  (mch bf e true [] [] ps).2 = ps' ∧ (okP ps' = true → i' 36 = nI L'.length ∧ lsR L' co' ∧ L' = (mch bf e true [] [] ps).1 ∧ L'.length ≤ 200)
set_option maxHeartbeats 4000000 in
set_option maxRecDepth 100000 in
theorem lpX6_cmp {CC : xC} {F : Nat → Prop} {V0 : xV} (hG : xGood (xGG CC)) (hC : xCtx CC RX6 cX6_comparisonRead 2 none { frames := 5, locals := 108, cells := 0, slots := 0 }) (b : Nat → Nat) (i0 : Nat → Int32) (j0 : Nat → Int64) (bf : Nat → Int32) (e : Nat) (he : e ≤ 600) (he2 : e ≤ 200) (L : List Int32) (R : List Int32 × PS) (mu : Nat) (kE : ∀ (i : Nat → Int32) (j : Nat → Int64) (co wt : Nat → Int32) (L9 W : List Int32) (ps : PS), okP ps = false → R.2 = ps → rdP bf e i j ps → qI i0 i → fJ j0 j → rn CC (xSt F V0 [(b 0, .inr (5, mF b i j)), (b 13, .inl (0, 600, .inl bf)), (b 33, .inl (0, 200, .inl co)), (b 34, .inl (0, 200, .inl wt))]) 0 0 42 [] []) (kV : ∀ (i : Nat → Int32) (j : Nat → Int64) (co wt : Nat → Int32) (W : List Int32) (ps : PS), okP ps = true → isW bf e 10631 ps = false → isB bf e 40 ps = false → R = mch bf e true L W ps → rdP bf e i j ps → qS i co wt L W → qW L W ps → qI i0 i → fJ j0 j → muP e ps ≤ mu → rn CC (xSt F V0 [(b 0, .inr (5, mF b i j)), (b 13, .inl (0, 600, .inl bf)), (b 33, .inl (0, 200, .inl co)), (b 34, .inl (0, 200, .inl wt))]) 0 0 43 [(0, .ref (b 0))] []) : ∀ (n : Nat), ∀ (i : Nat → Int32) (j : Nat → Int64) (co wt : Nat → Int32) (W : List Int32) (ps : PS), muP e ps ≤ n → okP ps = true → rdP bf e i j ps → qS i co wt L W → qW L W ps → qI i0 i → fJ j0 j → R = mch bf e true L W ps → muP e ps ≤ mu → rn CC (xSt F V0 [(b 0, .inr (5, mF b i j)), (b 13, .inl (0, 600, .inl bf)), (b 33, .inl (0, 200, .inl co)), (b 34, .inl (0, 200, .inl wt))]) 0 0 0 [(0, .ref (b 0))] [] := by
  intro n
  induction n with
  | zero =>
    intro i j co wt W ps hn ho
    exact absurd ho (nt (okP_mu (e := e) (by omega)))
  | succ n ih =>
    intro i j co wt W ps hn ho hr hq hw hi hj hR hmu
    refine r_aload_n hC 0 dX6_comparisonRead_0 rfl 1 rfl ?_
    refine r_ldc2 hC q3314 dX6_comparisonRead_1 4 rfl ?_
    rcases Bool.eq_false_or_eq_true (isW bf e 10631 ps) with hk1 | hk1
    · skip
      refine r_invVr hC kX6 (b 0) [.long 10631] (.int 1) mVX6_isWord q2941 (fun _ h => h.get 0 rfl) (xRm_v (metX6_isWord _ _ hG b i j bf e he ps hr 10631) (show _ = some (Value.int 1) by rw [hk1]; rfl)) (fun _ h => h.in.sub [0, 1] rfl rfl) ⟨rfl, rfl⟩ 0 0 rfl rfl (Nat.le_of_ble_eq_true rfl) (Nat.le_of_ble_eq_true rfl) rfl (Nat.le_of_ble_eq_true rfl) dX6_comparisonRead_4 7 rfl ?_
      refine r_ifne hC 19 dX6_comparisonRead_7 (by decide) 10 rfl (fun _ => ?_) (fun h => absurd h (by decide))
      refine r_aload_n hC 0 dX6_comparisonRead_19 rfl 20 rfl ?_
      refine r_aload_n hC 0 dX6_comparisonRead_20 rfl 21 rfl ?_
      refine r_ldc2 hC q3314 dX6_comparisonRead_21 24 rfl ?_
      refine r_invVr hC kX6 (b 0) [.long 10631] (.int 1) mVX6_isWord q2941 (fun _ h => h.get 0 rfl) (xRm_v (metX6_isWord _ _ hG b i j bf e he ps hr 10631) (show _ = some (Value.int 1) by rw [hk1]; rfl)) (fun _ h => h.in.sub [0, 1] rfl rfl) ⟨rfl, rfl⟩ 0 0 rfl rfl (Nat.le_of_ble_eq_true rfl) (Nat.le_of_ble_eq_true rfl) rfl (Nat.le_of_ble_eq_true rfl) dX6_comparisonRead_24 27 rfl ?_
      refine r_ifeq hC 35 dX6_comparisonRead_27 (by decide) 30 rfl (fun h => absurd h (by decide)) (fun _ => ?_)
      refine r_bipush hC 23 dX6_comparisonRead_30 bp_23 32 rfl ?_
      refine r_goto hC 36 dX6_comparisonRead_32 (by decide) ?_
      rcases Bool.eq_false_or_eq_true (decide (opnQ W = 6)) with hk2 | hk2
      · skip
        refine r_invVw hC kX6 (b 0) [.int 23] [] mVX6_goesIn q3315 0 rfl (metX6_goesIn6 _ _ hG b i j bf co wt e he ps L W hr hq ho 23 (Or.inl rfl) hk2) [0, 1, 2, 3] [] rfl rfl rfl rfl (by decide) ⟨rfl, rfl⟩ 0 0 rfl rfl (Nat.le_of_ble_eq_true rfl) (Nat.le_of_ble_eq_true rfl) rfl (Nat.le_of_ble_eq_true rfl) dX6_comparisonRead_36 39 rfl (fun v4 w5 h6 => ?_) (fun _ _ h => h.elim)
        obtain ⟨rfl, i3, j3, co3, wt3, rfl, hr3, hq3, gi3, fj3⟩ := h6
        show rn CC (xSt F V0 [(b 0, .inr (5, mF b i3 j3)), (b 13, .inl (0, 600, .inl bf)), (b 33, .inl (0, 200, .inl co3)), (b 34, .inl (0, 200, .inl wt3))]) 0 0 39 [(0, .ref (b 0))] [.int 0]
        refine r_ifne hC 0 dX6_comparisonRead_39 (by decide) 42 rfl (fun h => absurd h (by decide)) (fun _ => ?_)
        refine rn.sub (lv' := []) [] rfl ?_
        exact kE _ _ _ _ L W _ okP_wr (by rw [hR, (mch_n6 hk1 (of_decide_eq_true hk2))]) hr3 (hi.tr gi3) (hj.trans fj3)
      · skip
        refine r_invVw hC kX6 (b 0) [.int 23] [] mVX6_goesIn q3315 0 rfl (metX6_goesInG _ _ hG b i j bf co wt e he ps L W hr hq ho 23 (Or.inl rfl) (by have := leP_ltW hk1 hw.1; omega) (hw.2.2) hk2) [0, 1, 2, 3] [] rfl rfl rfl rfl (by decide) ⟨rfl, rfl⟩ 0 0 rfl rfl (Nat.le_of_ble_eq_true rfl) (Nat.le_of_ble_eq_true rfl) rfl (Nat.le_of_ble_eq_true rfl) dX6_comparisonRead_36 39 rfl (fun v8 w9 h10 => ?_) (fun _ _ h => h.elim)
        obtain ⟨rfl, i7, j7, co7, wt7, rfl, hr7, hq7, gi7, fj7⟩ := h10
        show rn CC (xSt F V0 [(b 0, .inr (5, mF b i7 j7)), (b 13, .inl (0, 600, .inl bf)), (b 33, .inl (0, 200, .inl co7)), (b 34, .inl (0, 200, .inl wt7))]) 0 0 39 [(0, .ref (b 0))] [.int 1]
        refine r_ifne hC 0 dX6_comparisonRead_39 (by decide) 42 rfl (fun _ => ?_) (fun h => absurd h (by decide))
        refine rn.sub (lv' := [(0, .ref (b 0))]) [0] rfl ?_
        have hmu2 := mu_nxW hk1
        exact ih _ _ _ _ _ _ (by omega) (okP_nx.trans ho) hr7 hq7 (qW_pushW hw hk1 (Or.inr (Or.inl rfl)) hk2) (hi.tr gi7) (hj.trans fj7) (hR.trans (mch_n hk1 (of_decide_eq_false hk2))) (Nat.le_trans (Nat.le_of_lt hmu2) hmu)
    · skip
      refine r_invVr hC kX6 (b 0) [.long 10631] (.int 0) mVX6_isWord q2941 (fun _ h => h.get 0 rfl) (xRm_v (metX6_isWord _ _ hG b i j bf e he ps hr 10631) (show _ = some (Value.int 0) by rw [hk1]; rfl)) (fun _ h => h.in.sub [0, 1] rfl rfl) ⟨rfl, rfl⟩ 0 0 rfl rfl (Nat.le_of_ble_eq_true rfl) (Nat.le_of_ble_eq_true rfl) rfl (Nat.le_of_ble_eq_true rfl) dX6_comparisonRead_4 7 rfl ?_
      refine r_ifne hC 19 dX6_comparisonRead_7 (by decide) 10 rfl (fun h => absurd h (by decide)) (fun _ => ?_)
      refine r_aload_n hC 0 dX6_comparisonRead_10 rfl 11 rfl ?_
      refine r_bipush hC 40 dX6_comparisonRead_11 bp_40 13 rfl ?_
      rcases Bool.eq_false_or_eq_true (isB bf e 40 ps) with hk11 | hk11
      · skip
        refine r_invVr hC kX6 (b 0) [.int 40] (.int 1) mVX6_isByte q2961 (fun _ h => h.get 0 rfl) (xRm_v (metX6_isByte _ _ hG b i j bf e he ps hr 40) (show _ = some (Value.int 1) by rw [hk11]; rfl)) (fun _ h => h.in.sub [0, 1] rfl rfl) ⟨rfl, rfl⟩ 0 0 rfl rfl (Nat.le_of_ble_eq_true rfl) (Nat.le_of_ble_eq_true rfl) rfl (Nat.le_of_ble_eq_true rfl) dX6_comparisonRead_13 16 rfl ?_
        refine r_ifeq hC 43 dX6_comparisonRead_16 (by decide) 19 rfl (fun h => absurd h (by decide)) (fun _ => ?_)
        refine r_aload_n hC 0 dX6_comparisonRead_19 rfl 20 rfl ?_
        refine r_aload_n hC 0 dX6_comparisonRead_20 rfl 21 rfl ?_
        refine r_ldc2 hC q3314 dX6_comparisonRead_21 24 rfl ?_
        refine r_invVr hC kX6 (b 0) [.long 10631] (.int 0) mVX6_isWord q2941 (fun _ h => h.get 0 rfl) (xRm_v (metX6_isWord _ _ hG b i j bf e he ps hr 10631) (show _ = some (Value.int 0) by rw [hk1]; rfl)) (fun _ h => h.in.sub [0, 1] rfl rfl) ⟨rfl, rfl⟩ 0 0 rfl rfl (Nat.le_of_ble_eq_true rfl) (Nat.le_of_ble_eq_true rfl) rfl (Nat.le_of_ble_eq_true rfl) dX6_comparisonRead_24 27 rfl ?_
        refine r_ifeq hC 35 dX6_comparisonRead_27 (by decide) 30 rfl (fun _ => ?_) (fun h => absurd h (by decide))
        refine r_iconst hC 1 dX6_comparisonRead_35 ic_1 36 rfl ?_
        rcases Bool.eq_false_or_eq_true (decide (opnQ W = 6)) with hk12 | hk12
        · skip
          refine r_invVw hC kX6 (b 0) [.int 1] [] mVX6_goesIn q3315 0 rfl (metX6_goesIn6 _ _ hG b i j bf co wt e he ps L W hr hq ho 1 (Or.inr rfl) hk12) [0, 1, 2, 3] [] rfl rfl rfl rfl (by decide) ⟨rfl, rfl⟩ 0 0 rfl rfl (Nat.le_of_ble_eq_true rfl) (Nat.le_of_ble_eq_true rfl) rfl (Nat.le_of_ble_eq_true rfl) dX6_comparisonRead_36 39 rfl (fun v14 w15 h16 => ?_) (fun _ _ h => h.elim)
          obtain ⟨rfl, i13, j13, co13, wt13, rfl, hr13, hq13, gi13, fj13⟩ := h16
          show rn CC (xSt F V0 [(b 0, .inr (5, mF b i13 j13)), (b 13, .inl (0, 600, .inl bf)), (b 33, .inl (0, 200, .inl co13)), (b 34, .inl (0, 200, .inl wt13))]) 0 0 39 [(0, .ref (b 0))] [.int 0]
          refine r_ifne hC 0 dX6_comparisonRead_39 (by decide) 42 rfl (fun h => absurd h (by decide)) (fun _ => ?_)
          refine rn.sub (lv' := []) [] rfl ?_
          exact kE _ _ _ _ L W _ okP_wr (by rw [hR, (mch_p6 hk1 hk11 (of_decide_eq_true hk12))]) hr13 (hi.tr gi13) (hj.trans fj13)
        · skip
          refine r_invVw hC kX6 (b 0) [.int 1] [] mVX6_goesIn q3315 0 rfl (metX6_goesInG _ _ hG b i j bf co wt e he ps L W hr hq ho 1 (Or.inr rfl) (by have := leP_ltB hk11 hw.1; omega) (hw.2.2) hk12) [0, 1, 2, 3] [] rfl rfl rfl rfl (by decide) ⟨rfl, rfl⟩ 0 0 rfl rfl (Nat.le_of_ble_eq_true rfl) (Nat.le_of_ble_eq_true rfl) rfl (Nat.le_of_ble_eq_true rfl) dX6_comparisonRead_36 39 rfl (fun v18 w19 h20 => ?_) (fun _ _ h => h.elim)
          obtain ⟨rfl, i17, j17, co17, wt17, rfl, hr17, hq17, gi17, fj17⟩ := h20
          show rn CC (xSt F V0 [(b 0, .inr (5, mF b i17 j17)), (b 13, .inl (0, 600, .inl bf)), (b 33, .inl (0, 200, .inl co17)), (b 34, .inl (0, 200, .inl wt17))]) 0 0 39 [(0, .ref (b 0))] [.int 1]
          refine r_ifne hC 0 dX6_comparisonRead_39 (by decide) 42 rfl (fun _ => ?_) (fun h => absurd h (by decide))
          refine rn.sub (lv' := [(0, .ref (b 0))]) [0] rfl ?_
          have hmu2 := mu_nxB hk11
          exact ih _ _ _ _ _ _ (by omega) (okP_nx.trans ho) hr17 hq17 (qW_pushB hw hk11 (Or.inl rfl) hk12) (hi.tr gi17) (hj.trans fj17) (hR.trans (mch_p hk1 hk11 (of_decide_eq_false hk12))) (Nat.le_trans (Nat.le_of_lt hmu2) hmu)
      · skip
        refine r_invVr hC kX6 (b 0) [.int 40] (.int 0) mVX6_isByte q2961 (fun _ h => h.get 0 rfl) (xRm_v (metX6_isByte _ _ hG b i j bf e he ps hr 40) (show _ = some (Value.int 0) by rw [hk11]; rfl)) (fun _ h => h.in.sub [0, 1] rfl rfl) ⟨rfl, rfl⟩ 0 0 rfl rfl (Nat.le_of_ble_eq_true rfl) (Nat.le_of_ble_eq_true rfl) rfl (Nat.le_of_ble_eq_true rfl) dX6_comparisonRead_13 16 rfl ?_
        refine r_ifeq hC 43 dX6_comparisonRead_16 (by decide) 19 rfl (fun _ => ?_) (fun h => absurd h (by decide))
        refine rn.sub (lv' := [(0, .ref (b 0))]) [0] rfl ?_
        exact kV _ _ _ _ _ _ ho hk1 hk11 hR hr hq hw hi hj hmu
set_option maxHeartbeats 4000000 in
set_option maxRecDepth 100000 in
theorem metX6_comparisonRead (l : Launch) (G : xG) (hG : xGood G) (b : Nat → Nat) (i : Nat → Int32) (j : Nat → Int64) (bf co wt : Nat → Int32) (e : Nat) (he : e ≤ 600) (ps : PS) (L W : List Int32) (hr : rdP bf e i j ps) (hq : qS i co wt L W) (he2 : e ≤ 200) (ho : okP ps = true) (hw : qW L W ps) : xWm l G yX6_comparisonRead (Cond.code yX6_comparisonRead cX6_comparisonRead 2 none) { frames := 5, locals := 108, cells := 0, slots := 0 } [.ref (b 0)] [(b 0, .inr (5, mF b i j)), (b 13, .inl (0, 600, .inl bf)), (b 33, .inl (0, 200, .inl co)), (b 34, .inl (0, 200, .inl wt))] (fun v w' => v = none ∧ ∃ (i' : Nat → Int32) (j' : Nat → Int64) (co' wt' : Nat → Int32) (L' W' : List Int32) (ps' : PS), w' = [(b 0, .inr (5, mF b i' j')), (b 13, .inl (0, 600, .inl bf)), (b 33, .inl (0, 200, .inl co')), (b 34, .inl (0, 200, .inl wt'))] ∧ rdP bf e i' j' ps' ∧ qI i i' ∧ fJ j j' ∧ cmpO bf e L W ps i' co' wt' L' W' ps') (fun _ _ => False) := by
  intro V hV
  refine xMet_of RX6 hG rfl (by decide) (Nat.le_of_ble_eq_true rfl) fun C hC hQ hX hl hg _ => ?_
  subst hl hg
  obtain ⟨V0, hV0⟩ : ∃ V0, V0 = V := ⟨_, rfl⟩
  obtain ⟨F, hF⟩ : ∃ F, F = xF [(b 0, .inr (5, mF b i j)), (b 13, .inl (0, 600, .inl bf)), (b 33, .inl (0, 200, .inl co)), (b 34, .inl (0, 200, .inl wt))] := ⟨_, rfl⟩
  refine rn.mono (J := xSt F V0 [(b 0, .inr (5, mF b i j)), (b 13, .inl (0, 600, .inl bf)), (b 33, .inl (0, 200, .inl co)), (b 34, .inl (0, 200, .inl wt))]) (fun V9 h => by rw [h, hV0, hF]; exact hV.st) ?_
  show rn C (xSt F V0 [(b 0, .inr (5, mF b i j)), (b 13, .inl (0, 600, .inl bf)), (b 33, .inl (0, 200, .inl co)), (b 34, .inl (0, 200, .inl wt))]) 0 0 0 [(0, .ref (b 0))] []
  refine lpX6_cmp hG hC b i j bf e he he2 L (mch bf e true L W ps) (muP e ps) (fun i9 j9 co9 wt9 L9 W9 p ho9 hR9 hr9 hi9 hj9 => ?_) (fun i9 j9 co9 wt9 W9 p ho9 hn9 hp9 hR9 hr9 hq9 hw9 hi9 hj9 hmu9 => ?_) (muP e ps) i j co wt W ps (Nat.le_refl _) ho hr hq hw (qI_refl i) (fJ_refl j) rfl (Nat.le_refl _)
  · skip
    exact r_vret hC (Nat.le_of_ble_eq_true rfl) (Nat.le_of_ble_eq_true rfl) (fun V9 h => hQ _ _ ⟨[(b 0, .inr (5, mF b i9 j9)), (b 13, .inl (0, 600, .inl bf)), (b 33, .inl (0, 200, .inl co9)), (b 34, .inl (0, 200, .inl wt9))], ⟨rfl, _, _, _, _, L9, W9, _, rfl, hr9, hi9, hj9, Or.inr ⟨ho9, hR9⟩⟩, by rw [← hV0, ← hF]; exact h⟩) dX6_comparisonRead_42
  · skip
    refine r_aload_n hC 0 dX6_comparisonRead_43 rfl 44 rfl ?_
    refine r_invVw hC kX6 (b 0) [] [] mVX6_valueRead q3319 0 rfl (metX6_valueRead _ _ hG b i9 j9 bf co9 wt9 e he p L W9 hr9 hq9 he2 (hw9.1)) [0, 1, 2, 3] [] rfl rfl rfl rfl (by decide) ⟨rfl, rfl⟩ 0 0 rfl rfl (Nat.le_of_ble_eq_true rfl) (Nat.le_of_ble_eq_true rfl) rfl (Nat.le_of_ble_eq_true rfl) dX6_comparisonRead_44 47 rfl (fun v2 w3 h4 => ?_) (fun _ _ h => h.elim)
    obtain ⟨rfl, i1, j1, co1, wt1, rfl, hr1, hq1, gi1, fj1⟩ := h4
    show rn C (xSt F V0 [(b 0, .inr (5, mF b i1 j1)), (b 13, .inl (0, 600, .inl bf)), (b 33, .inl (0, 200, .inl co1)), (b 34, .inl (0, 200, .inl wt1))]) 0 0 47 [(0, .ref (b 0))] []
    refine r_aload_n hC 0 dX6_comparisonRead_47 rfl 48 rfl ?_
    refine r_bipush hC 60 dX6_comparisonRead_48 bp_60 50 rfl ?_
    rcases Bool.eq_false_or_eq_true (isB bf e 60 (valP bf e p)) with hk5 | hk5
    · skip
      refine r_invVr hC kX6 (b 0) [.int 60] (.int 1) mVX6_isByte q2961 (fun _ h => h.get 0 rfl) (xRm_v (metX6_isByte _ _ hG b i1 j1 bf e he (valP bf e p) hr1 60) (show _ = some (Value.int 1) by rw [hk5]; rfl)) (fun _ h => h.in.sub [0, 1] rfl rfl) ⟨rfl, rfl⟩ 0 0 rfl rfl (Nat.le_of_ble_eq_true rfl) (Nat.le_of_ble_eq_true rfl) rfl (Nat.le_of_ble_eq_true rfl) dX6_comparisonRead_50 53 rfl ?_
      refine r_ifeq hC 61 dX6_comparisonRead_53 (by decide) 56 rfl (fun h => absurd h (by decide)) (fun _ => ?_)
      refine r_bipush hC 20 dX6_comparisonRead_56 bp_20 58 rfl ?_
      refine r_goto hC 77 dX6_comparisonRead_58 (by decide) ?_
      refine r_istore_n hC 1 [(1, .int 20), (0, .ref (b 0))] dX6_comparisonRead_77 rfl (Nat.le_of_ble_eq_true rfl) rfl 78 rfl ?_
      refine r_iload_n hC 0 dX6_comparisonRead_78 rfl 79 rfl ?_
      refine r_bipush hC 21 dX6_comparisonRead_79 bp_21 81 rfl ?_
      refine r_icne hC 99 dX6_comparisonRead_81 (by decide) 84 rfl (fun _ => ?_) (fun h => absurd h (by decide))
      have hop : opP bf e (valP bf e p) = valP bf e p := by rw [opP, if_pos hk5]
      have hoc : opC bf e (valP bf e p) = 20 := by rw [opC, if_pos hk5]
      have hr99 : rdP bf e i1 j1 (opP bf e (valP bf e p)) := by rw [hop]; exact hr1
      refine r_aload_n hC 1 dX6_comparisonRead_99 rfl 100 rfl ?_
      refine r_invVr hC kX6 (b 0) [] (.int 1) mVX6_isGood q2945 (fun _ h => h.get 0 rfl) (metX6_isGood _ _ hG b i1 _ 1 (by rw [rd_good hr99, (show okP (opP bf e (valP bf e p)) = true by rw [hop]; exact isB_ok hk5)]; rfl)) (fun _ h => h.in.sub [0] rfl rfl) ⟨rfl, rfl⟩ 0 0 rfl rfl (Nat.le_of_ble_eq_true rfl) (Nat.le_of_ble_eq_true rfl) rfl (Nat.le_of_ble_eq_true rfl) dX6_comparisonRead_100 103 rfl ?_
      refine r_ifne hC 107 dX6_comparisonRead_103 (by decide) 106 rfl (fun _ => ?_) (fun h => absurd h (by decide))
      refine r_aload_n hC 1 dX6_comparisonRead_107 rfl 108 rfl ?_
      refine r_invVw hC kX6 (b 0) [] [(b 33, .inl (0, 200, .inl co1)), (b 34, .inl (0, 200, .inl wt1))] mVX6_next q2902 0 rfl (metX6_nextP _ _ hG b i1 j1 bf e he (opP bf e (valP bf e p)) hr99 (show okP (opP bf e (valP bf e p)) = true by rw [hop]; exact isB_ok hk5)) [0, 1] [2, 3] rfl rfl rfl rfl (by decide) ⟨rfl, rfl⟩ 0 0 rfl rfl (Nat.le_of_ble_eq_true rfl) (Nat.le_of_ble_eq_true rfl) rfl (Nat.le_of_ble_eq_true rfl) dX6_comparisonRead_108 111 rfl (fun v7 w8 h9 => ?_) (fun _ _ h => h.elim)
      obtain ⟨rfl, i6, j6, rfl, hr6, gi6, fj6⟩ := h9
      show rn C (xSt F V0 [(b 33, .inl (0, 200, .inl co1)), (b 34, .inl (0, 200, .inl wt1)), (b 0, .inr (5, mF b i6 j6)), (b 13, .inl (0, 600, .inl bf))]) 0 0 111 [(1, .int 20), (0, .ref (b 0))] []
      refine r_aload_n hC 1 dX6_comparisonRead_111 rfl 112 rfl ?_
      refine r_invVw hC kX6 (b 0) [] [] mVX6_valueRead q3319 2 rfl (metX6_valueRead _ _ hG b i6 j6 bf co1 wt1 e he (nxP bf e (opP bf e (valP bf e p))) (L ++ valC bf e p) W9 hr6 (hq1.g gi6) he2 (cmp_le1 hw9.1)) [2, 3, 0, 1] [] rfl rfl rfl rfl (by decide) ⟨rfl, rfl⟩ 0 0 rfl rfl (Nat.le_of_ble_eq_true rfl) (Nat.le_of_ble_eq_true rfl) rfl (Nat.le_of_ble_eq_true rfl) dX6_comparisonRead_112 115 rfl (fun v11 w12 h13 => ?_) (fun _ _ h => h.elim)
      obtain ⟨rfl, i10, j10, co10, wt10, rfl, hr10, hq10, gi10, fj10⟩ := h13
      show rn C (xSt F V0 [(b 0, .inr (5, mF b i10 j10)), (b 13, .inl (0, 600, .inl bf)), (b 33, .inl (0, 200, .inl co10)), (b 34, .inl (0, 200, .inl wt10))]) 0 0 115 [(1, .int 20), (0, .ref (b 0))] []
      refine r_aload_n hC 1 dX6_comparisonRead_115 rfl 116 rfl ?_
      rcases Bool.eq_false_or_eq_true (okP (valP bf e (nxP bf e (opP bf e (valP bf e p))))) with hk14 | hk14
      · skip
        refine r_invVr hC kX6 (b 0) [] (.int 1) mVX6_isGood q2945 (fun _ h => h.get 0 rfl) (metX6_isGood _ _ hG b i10 _ 1 (by rw [rd_good hr10, hk14]; rfl)) (fun _ h => h.in.sub [0] rfl rfl) ⟨rfl, rfl⟩ 0 0 rfl rfl (Nat.le_of_ble_eq_true rfl) (Nat.le_of_ble_eq_true rfl) rfl (Nat.le_of_ble_eq_true rfl) dX6_comparisonRead_116 119 rfl ?_
        refine r_ifeq hC 127 dX6_comparisonRead_119 (by decide) 122 rfl (fun h => absurd h (by decide)) (fun _ => ?_)
        refine r_aload_n hC 1 dX6_comparisonRead_122 rfl 123 rfl ?_
        refine r_iload_n hC 0 dX6_comparisonRead_123 rfl 124 rfl ?_
        refine r_invVw hC kX6 (b 0) [.int 20] [(b 13, .inl (0, 600, .inl bf)), (b 34, .inl (0, 200, .inl wt10))] mVX6_adds q3324 0 rfl (metX6_addsH _ _ hG b i10 j10 co10 ((L ++ valC bf e p) ++ valC bf e (nxP bf e (opP bf e (valP bf e p)))).length (by have h1 := leP_lt (cmp_le (bf := bf) (e := e) hw9.1) hr10 hk14; have h2 := @cmp_len2 bf e L p; omega) 20 hq10.1) [0, 2] [1, 3] rfl rfl rfl rfl (by decide) ⟨rfl, rfl⟩ 0 0 rfl rfl (Nat.le_of_ble_eq_true rfl) (Nat.le_of_ble_eq_true rfl) rfl (Nat.le_of_ble_eq_true rfl) dX6_comparisonRead_124 127 rfl (fun v15 w16 h17 => ?_) (fun _ _ h => h.elim)
        obtain ⟨rfl, rfl⟩ := h17
        show rn C (xSt F V0 [(b 13, .inl (0, 600, .inl bf)), (b 34, .inl (0, 200, .inl wt10)), (b 0, .inr (5, mF b (va_up i10 36 (nI (((L ++ valC bf e p) ++ valC bf e (nxP bf e (opP bf e (valP bf e p)))).length + 1))) j10)), (b 33, .inl (0, 200, .inl (va_up co10 ((L ++ valC bf e p) ++ valC bf e (nxP bf e (opP bf e (valP bf e p)))).length 20)))]) 0 0 127 [(1, .int 20), (0, .ref (b 0))] []
        exact r_vret hC (Nat.le_of_ble_eq_true rfl) (Nat.le_of_ble_eq_true rfl) (fun V9 h => hQ _ _ ⟨[(b 0, .inr (5, mF b (va_up i10 36 (nI (((L ++ valC bf e p) ++ valC bf e (nxP bf e (opP bf e (valP bf e p)))).length + 1))) j10)), (b 13, .inl (0, 600, .inl bf)), (b 33, .inl (0, 200, .inl (va_up co10 ((L ++ valC bf e p) ++ valC bf e (nxP bf e (opP bf e (valP bf e p)))).length 20))), (b 34, .inl (0, 200, .inl wt10))], ⟨rfl, _, _, _, _, (((L ++ valC bf e p) ++ valC bf e (nxP bf e (opP bf e (valP bf e p)))) ++ [20]), W9, _, rfl, (rd36 hr10), ((((hi9.tr gi1).trans gi6).tr gi10).u36), (((hj9.trans fj1).trans fj6).trans fj10), Or.inl ⟨hk14, (qS_add (c := 20) hq10), ⟨(cmp_le (bf := bf) (e := e) hw9.1).mono (by have h2 := @cmp_len bf e L p 20; omega), hw9.2⟩, Nat.lt_of_lt_of_le (mu_cmp hk14) hmu9, by rw [hR9, mch_c hn9 hp9 hk14, ← cmp_L hoc]; rfl⟩⟩, by rw [← hV0, ← hF]; exact (h.sub [2, 0, 3, 1] rfl rfl)⟩) dX6_comparisonRead_127
      · skip
        refine r_invVr hC kX6 (b 0) [] (.int 0) mVX6_isGood q2945 (fun _ h => h.get 0 rfl) (metX6_isGood _ _ hG b i10 _ 0 (by rw [rd_good hr10, hk14]; rfl)) (fun _ h => h.in.sub [0] rfl rfl) ⟨rfl, rfl⟩ 0 0 rfl rfl (Nat.le_of_ble_eq_true rfl) (Nat.le_of_ble_eq_true rfl) rfl (Nat.le_of_ble_eq_true rfl) dX6_comparisonRead_116 119 rfl ?_
        refine r_ifeq hC 127 dX6_comparisonRead_119 (by decide) 122 rfl (fun _ => ?_) (fun h => absurd h (by decide))
        exact r_vret hC (Nat.le_of_ble_eq_true rfl) (Nat.le_of_ble_eq_true rfl) (fun V9 h => hQ _ _ ⟨[(b 0, .inr (5, mF b i10 j10)), (b 13, .inl (0, 600, .inl bf)), (b 33, .inl (0, 200, .inl co10)), (b 34, .inl (0, 200, .inl wt10))], ⟨rfl, _, _, _, _, ((L ++ valC bf e p) ++ valC bf e (nxP bf e (opP bf e (valP bf e p)))), W9, _, rfl, hr10, (((hi9.tr gi1).trans gi6).tr gi10), (((hj9.trans fj1).trans fj6).trans fj10), Or.inr ⟨hk14, by rw [hR9, mch_c0 ho9 hn9 hp9 hk14]; rfl⟩⟩, by rw [← hV0, ← hF]; exact h⟩) dX6_comparisonRead_127
    · skip
      refine r_invVr hC kX6 (b 0) [.int 60] (.int 0) mVX6_isByte q2961 (fun _ h => h.get 0 rfl) (xRm_v (metX6_isByte _ _ hG b i1 j1 bf e he (valP bf e p) hr1 60) (show _ = some (Value.int 0) by rw [hk5]; rfl)) (fun _ h => h.in.sub [0, 1] rfl rfl) ⟨rfl, rfl⟩ 0 0 rfl rfl (Nat.le_of_ble_eq_true rfl) (Nat.le_of_ble_eq_true rfl) rfl (Nat.le_of_ble_eq_true rfl) dX6_comparisonRead_50 53 rfl ?_
      refine r_ifeq hC 61 dX6_comparisonRead_53 (by decide) 56 rfl (fun _ => ?_) (fun h => absurd h (by decide))
      refine r_aload_n hC 0 dX6_comparisonRead_61 rfl 62 rfl ?_
      refine r_bipush hC 62 dX6_comparisonRead_62 bp_62 64 rfl ?_
      rcases Bool.eq_false_or_eq_true (isB bf e 62 (valP bf e p)) with hk18 | hk18
      · skip
        refine r_invVr hC kX6 (b 0) [.int 62] (.int 1) mVX6_isByte q2961 (fun _ h => h.get 0 rfl) (xRm_v (metX6_isByte _ _ hG b i1 j1 bf e he (valP bf e p) hr1 62) (show _ = some (Value.int 1) by rw [hk18]; rfl)) (fun _ h => h.in.sub [0, 1] rfl rfl) ⟨rfl, rfl⟩ 0 0 rfl rfl (Nat.le_of_ble_eq_true rfl) (Nat.le_of_ble_eq_true rfl) rfl (Nat.le_of_ble_eq_true rfl) dX6_comparisonRead_64 67 rfl ?_
        refine r_ifeq hC 75 dX6_comparisonRead_67 (by decide) 70 rfl (fun h => absurd h (by decide)) (fun _ => ?_)
        refine r_bipush hC 22 dX6_comparisonRead_70 bp_22 72 rfl ?_
        refine r_goto hC 77 dX6_comparisonRead_72 (by decide) ?_
        refine r_istore_n hC 1 [(1, .int 22), (0, .ref (b 0))] dX6_comparisonRead_77 rfl (Nat.le_of_ble_eq_true rfl) rfl 78 rfl ?_
        refine r_iload_n hC 0 dX6_comparisonRead_78 rfl 79 rfl ?_
        refine r_bipush hC 21 dX6_comparisonRead_79 bp_21 81 rfl ?_
        refine r_icne hC 99 dX6_comparisonRead_81 (by decide) 84 rfl (fun _ => ?_) (fun h => absurd h (by decide))
        have hop : opP bf e (valP bf e p) = valP bf e p := by rw [opP, if_neg (nt hk5), if_pos hk18]
        have hoc : opC bf e (valP bf e p) = 22 := by rw [opC, if_neg (nt hk5), if_pos hk18]
        have hr99 : rdP bf e i1 j1 (opP bf e (valP bf e p)) := by rw [hop]; exact hr1
        refine r_aload_n hC 1 dX6_comparisonRead_99 rfl 100 rfl ?_
        refine r_invVr hC kX6 (b 0) [] (.int 1) mVX6_isGood q2945 (fun _ h => h.get 0 rfl) (metX6_isGood _ _ hG b i1 _ 1 (by rw [rd_good hr99, (show okP (opP bf e (valP bf e p)) = true by rw [hop]; exact isB_ok hk18)]; rfl)) (fun _ h => h.in.sub [0] rfl rfl) ⟨rfl, rfl⟩ 0 0 rfl rfl (Nat.le_of_ble_eq_true rfl) (Nat.le_of_ble_eq_true rfl) rfl (Nat.le_of_ble_eq_true rfl) dX6_comparisonRead_100 103 rfl ?_
        refine r_ifne hC 107 dX6_comparisonRead_103 (by decide) 106 rfl (fun _ => ?_) (fun h => absurd h (by decide))
        refine r_aload_n hC 1 dX6_comparisonRead_107 rfl 108 rfl ?_
        refine r_invVw hC kX6 (b 0) [] [(b 33, .inl (0, 200, .inl co1)), (b 34, .inl (0, 200, .inl wt1))] mVX6_next q2902 0 rfl (metX6_nextP _ _ hG b i1 j1 bf e he (opP bf e (valP bf e p)) hr99 (show okP (opP bf e (valP bf e p)) = true by rw [hop]; exact isB_ok hk18)) [0, 1] [2, 3] rfl rfl rfl rfl (by decide) ⟨rfl, rfl⟩ 0 0 rfl rfl (Nat.le_of_ble_eq_true rfl) (Nat.le_of_ble_eq_true rfl) rfl (Nat.le_of_ble_eq_true rfl) dX6_comparisonRead_108 111 rfl (fun v20 w21 h22 => ?_) (fun _ _ h => h.elim)
        obtain ⟨rfl, i19, j19, rfl, hr19, gi19, fj19⟩ := h22
        show rn C (xSt F V0 [(b 33, .inl (0, 200, .inl co1)), (b 34, .inl (0, 200, .inl wt1)), (b 0, .inr (5, mF b i19 j19)), (b 13, .inl (0, 600, .inl bf))]) 0 0 111 [(1, .int 22), (0, .ref (b 0))] []
        refine r_aload_n hC 1 dX6_comparisonRead_111 rfl 112 rfl ?_
        refine r_invVw hC kX6 (b 0) [] [] mVX6_valueRead q3319 2 rfl (metX6_valueRead _ _ hG b i19 j19 bf co1 wt1 e he (nxP bf e (opP bf e (valP bf e p))) (L ++ valC bf e p) W9 hr19 (hq1.g gi19) he2 (cmp_le1 hw9.1)) [2, 3, 0, 1] [] rfl rfl rfl rfl (by decide) ⟨rfl, rfl⟩ 0 0 rfl rfl (Nat.le_of_ble_eq_true rfl) (Nat.le_of_ble_eq_true rfl) rfl (Nat.le_of_ble_eq_true rfl) dX6_comparisonRead_112 115 rfl (fun v24 w25 h26 => ?_) (fun _ _ h => h.elim)
        obtain ⟨rfl, i23, j23, co23, wt23, rfl, hr23, hq23, gi23, fj23⟩ := h26
        show rn C (xSt F V0 [(b 0, .inr (5, mF b i23 j23)), (b 13, .inl (0, 600, .inl bf)), (b 33, .inl (0, 200, .inl co23)), (b 34, .inl (0, 200, .inl wt23))]) 0 0 115 [(1, .int 22), (0, .ref (b 0))] []
        refine r_aload_n hC 1 dX6_comparisonRead_115 rfl 116 rfl ?_
        rcases Bool.eq_false_or_eq_true (okP (valP bf e (nxP bf e (opP bf e (valP bf e p))))) with hk27 | hk27
        · skip
          refine r_invVr hC kX6 (b 0) [] (.int 1) mVX6_isGood q2945 (fun _ h => h.get 0 rfl) (metX6_isGood _ _ hG b i23 _ 1 (by rw [rd_good hr23, hk27]; rfl)) (fun _ h => h.in.sub [0] rfl rfl) ⟨rfl, rfl⟩ 0 0 rfl rfl (Nat.le_of_ble_eq_true rfl) (Nat.le_of_ble_eq_true rfl) rfl (Nat.le_of_ble_eq_true rfl) dX6_comparisonRead_116 119 rfl ?_
          refine r_ifeq hC 127 dX6_comparisonRead_119 (by decide) 122 rfl (fun h => absurd h (by decide)) (fun _ => ?_)
          refine r_aload_n hC 1 dX6_comparisonRead_122 rfl 123 rfl ?_
          refine r_iload_n hC 0 dX6_comparisonRead_123 rfl 124 rfl ?_
          refine r_invVw hC kX6 (b 0) [.int 22] [(b 13, .inl (0, 600, .inl bf)), (b 34, .inl (0, 200, .inl wt23))] mVX6_adds q3324 0 rfl (metX6_addsH _ _ hG b i23 j23 co23 ((L ++ valC bf e p) ++ valC bf e (nxP bf e (opP bf e (valP bf e p)))).length (by have h1 := leP_lt (cmp_le (bf := bf) (e := e) hw9.1) hr23 hk27; have h2 := @cmp_len2 bf e L p; omega) 22 hq23.1) [0, 2] [1, 3] rfl rfl rfl rfl (by decide) ⟨rfl, rfl⟩ 0 0 rfl rfl (Nat.le_of_ble_eq_true rfl) (Nat.le_of_ble_eq_true rfl) rfl (Nat.le_of_ble_eq_true rfl) dX6_comparisonRead_124 127 rfl (fun v28 w29 h30 => ?_) (fun _ _ h => h.elim)
          obtain ⟨rfl, rfl⟩ := h30
          show rn C (xSt F V0 [(b 13, .inl (0, 600, .inl bf)), (b 34, .inl (0, 200, .inl wt23)), (b 0, .inr (5, mF b (va_up i23 36 (nI (((L ++ valC bf e p) ++ valC bf e (nxP bf e (opP bf e (valP bf e p)))).length + 1))) j23)), (b 33, .inl (0, 200, .inl (va_up co23 ((L ++ valC bf e p) ++ valC bf e (nxP bf e (opP bf e (valP bf e p)))).length 22)))]) 0 0 127 [(1, .int 22), (0, .ref (b 0))] []
          exact r_vret hC (Nat.le_of_ble_eq_true rfl) (Nat.le_of_ble_eq_true rfl) (fun V9 h => hQ _ _ ⟨[(b 0, .inr (5, mF b (va_up i23 36 (nI (((L ++ valC bf e p) ++ valC bf e (nxP bf e (opP bf e (valP bf e p)))).length + 1))) j23)), (b 13, .inl (0, 600, .inl bf)), (b 33, .inl (0, 200, .inl (va_up co23 ((L ++ valC bf e p) ++ valC bf e (nxP bf e (opP bf e (valP bf e p)))).length 22))), (b 34, .inl (0, 200, .inl wt23))], ⟨rfl, _, _, _, _, (((L ++ valC bf e p) ++ valC bf e (nxP bf e (opP bf e (valP bf e p)))) ++ [22]), W9, _, rfl, (rd36 hr23), ((((hi9.tr gi1).trans gi19).tr gi23).u36), (((hj9.trans fj1).trans fj19).trans fj23), Or.inl ⟨hk27, (qS_add (c := 22) hq23), ⟨(cmp_le (bf := bf) (e := e) hw9.1).mono (by have h2 := @cmp_len bf e L p 22; omega), hw9.2⟩, Nat.lt_of_lt_of_le (mu_cmp hk27) hmu9, by rw [hR9, mch_c hn9 hp9 hk27, ← cmp_L hoc]; rfl⟩⟩, by rw [← hV0, ← hF]; exact (h.sub [2, 0, 3, 1] rfl rfl)⟩) dX6_comparisonRead_127
        · skip
          refine r_invVr hC kX6 (b 0) [] (.int 0) mVX6_isGood q2945 (fun _ h => h.get 0 rfl) (metX6_isGood _ _ hG b i23 _ 0 (by rw [rd_good hr23, hk27]; rfl)) (fun _ h => h.in.sub [0] rfl rfl) ⟨rfl, rfl⟩ 0 0 rfl rfl (Nat.le_of_ble_eq_true rfl) (Nat.le_of_ble_eq_true rfl) rfl (Nat.le_of_ble_eq_true rfl) dX6_comparisonRead_116 119 rfl ?_
          refine r_ifeq hC 127 dX6_comparisonRead_119 (by decide) 122 rfl (fun _ => ?_) (fun h => absurd h (by decide))
          exact r_vret hC (Nat.le_of_ble_eq_true rfl) (Nat.le_of_ble_eq_true rfl) (fun V9 h => hQ _ _ ⟨[(b 0, .inr (5, mF b i23 j23)), (b 13, .inl (0, 600, .inl bf)), (b 33, .inl (0, 200, .inl co23)), (b 34, .inl (0, 200, .inl wt23))], ⟨rfl, _, _, _, _, ((L ++ valC bf e p) ++ valC bf e (nxP bf e (opP bf e (valP bf e p)))), W9, _, rfl, hr23, (((hi9.tr gi1).trans gi19).tr gi23), (((hj9.trans fj1).trans fj19).trans fj23), Or.inr ⟨hk27, by rw [hR9, mch_c0 ho9 hn9 hp9 hk27]; rfl⟩⟩, by rw [← hV0, ← hF]; exact h⟩) dX6_comparisonRead_127
      · skip
        refine r_invVr hC kX6 (b 0) [.int 62] (.int 0) mVX6_isByte q2961 (fun _ h => h.get 0 rfl) (xRm_v (metX6_isByte _ _ hG b i1 j1 bf e he (valP bf e p) hr1 62) (show _ = some (Value.int 0) by rw [hk18]; rfl)) (fun _ h => h.in.sub [0, 1] rfl rfl) ⟨rfl, rfl⟩ 0 0 rfl rfl (Nat.le_of_ble_eq_true rfl) (Nat.le_of_ble_eq_true rfl) rfl (Nat.le_of_ble_eq_true rfl) dX6_comparisonRead_64 67 rfl ?_
        refine r_ifeq hC 75 dX6_comparisonRead_67 (by decide) 70 rfl (fun _ => ?_) (fun h => absurd h (by decide))
        refine r_bipush hC 21 dX6_comparisonRead_75 bp_21 77 rfl ?_
        refine r_istore_n hC 1 [(1, .int 21), (0, .ref (b 0))] dX6_comparisonRead_77 rfl (Nat.le_of_ble_eq_true rfl) rfl 78 rfl ?_
        refine r_iload_n hC 0 dX6_comparisonRead_78 rfl 79 rfl ?_
        refine r_bipush hC 21 dX6_comparisonRead_79 bp_21 81 rfl ?_
        refine r_icne hC 99 dX6_comparisonRead_81 (by decide) 84 rfl (fun h => absurd h (by decide)) (fun _ => ?_)
        refine r_aload_n hC 1 dX6_comparisonRead_84 rfl 85 rfl ?_
        refine r_bipush hC 61 dX6_comparisonRead_85 bp_61 87 rfl ?_
        rcases Bool.eq_false_or_eq_true (isB bf e 61 (valP bf e p)) with hk31 | hk31
        · skip
          refine r_invVr hC kX6 (b 0) [.int 61] (.int 1) mVX6_isByte q2961 (fun _ h => h.get 0 rfl) (xRm_v (metX6_isByte _ _ hG b i1 j1 bf e he (valP bf e p) hr1 61) (show _ = some (Value.int 1) by rw [hk31]; rfl)) (fun _ h => h.in.sub [0, 1] rfl rfl) ⟨rfl, rfl⟩ 0 0 rfl rfl (Nat.le_of_ble_eq_true rfl) (Nat.le_of_ble_eq_true rfl) rfl (Nat.le_of_ble_eq_true rfl) dX6_comparisonRead_87 90 rfl ?_
          refine r_ifne hC 99 dX6_comparisonRead_90 (by decide) 93 rfl (fun _ => ?_) (fun h => absurd h (by decide))
          have hop : opP bf e (valP bf e p) = valP bf e p := by rw [opP, if_neg (nt hk5), if_neg (nt hk18), if_pos hk31]
          have hoc : opC bf e (valP bf e p) = 21 := by rw [opC, if_neg (nt hk5), if_neg (nt hk18)]
          have hr99 : rdP bf e i1 j1 (opP bf e (valP bf e p)) := by rw [hop]; exact hr1
          refine r_aload_n hC 1 dX6_comparisonRead_99 rfl 100 rfl ?_
          refine r_invVr hC kX6 (b 0) [] (.int 1) mVX6_isGood q2945 (fun _ h => h.get 0 rfl) (metX6_isGood _ _ hG b i1 _ 1 (by rw [rd_good hr99, (show okP (opP bf e (valP bf e p)) = true by rw [hop]; exact isB_ok hk31)]; rfl)) (fun _ h => h.in.sub [0] rfl rfl) ⟨rfl, rfl⟩ 0 0 rfl rfl (Nat.le_of_ble_eq_true rfl) (Nat.le_of_ble_eq_true rfl) rfl (Nat.le_of_ble_eq_true rfl) dX6_comparisonRead_100 103 rfl ?_
          refine r_ifne hC 107 dX6_comparisonRead_103 (by decide) 106 rfl (fun _ => ?_) (fun h => absurd h (by decide))
          refine r_aload_n hC 1 dX6_comparisonRead_107 rfl 108 rfl ?_
          refine r_invVw hC kX6 (b 0) [] [(b 33, .inl (0, 200, .inl co1)), (b 34, .inl (0, 200, .inl wt1))] mVX6_next q2902 0 rfl (metX6_nextP _ _ hG b i1 j1 bf e he (opP bf e (valP bf e p)) hr99 (show okP (opP bf e (valP bf e p)) = true by rw [hop]; exact isB_ok hk31)) [0, 1] [2, 3] rfl rfl rfl rfl (by decide) ⟨rfl, rfl⟩ 0 0 rfl rfl (Nat.le_of_ble_eq_true rfl) (Nat.le_of_ble_eq_true rfl) rfl (Nat.le_of_ble_eq_true rfl) dX6_comparisonRead_108 111 rfl (fun v33 w34 h35 => ?_) (fun _ _ h => h.elim)
          obtain ⟨rfl, i32, j32, rfl, hr32, gi32, fj32⟩ := h35
          show rn C (xSt F V0 [(b 33, .inl (0, 200, .inl co1)), (b 34, .inl (0, 200, .inl wt1)), (b 0, .inr (5, mF b i32 j32)), (b 13, .inl (0, 600, .inl bf))]) 0 0 111 [(1, .int 21), (0, .ref (b 0))] []
          refine r_aload_n hC 1 dX6_comparisonRead_111 rfl 112 rfl ?_
          refine r_invVw hC kX6 (b 0) [] [] mVX6_valueRead q3319 2 rfl (metX6_valueRead _ _ hG b i32 j32 bf co1 wt1 e he (nxP bf e (opP bf e (valP bf e p))) (L ++ valC bf e p) W9 hr32 (hq1.g gi32) he2 (cmp_le1 hw9.1)) [2, 3, 0, 1] [] rfl rfl rfl rfl (by decide) ⟨rfl, rfl⟩ 0 0 rfl rfl (Nat.le_of_ble_eq_true rfl) (Nat.le_of_ble_eq_true rfl) rfl (Nat.le_of_ble_eq_true rfl) dX6_comparisonRead_112 115 rfl (fun v37 w38 h39 => ?_) (fun _ _ h => h.elim)
          obtain ⟨rfl, i36, j36, co36, wt36, rfl, hr36, hq36, gi36, fj36⟩ := h39
          show rn C (xSt F V0 [(b 0, .inr (5, mF b i36 j36)), (b 13, .inl (0, 600, .inl bf)), (b 33, .inl (0, 200, .inl co36)), (b 34, .inl (0, 200, .inl wt36))]) 0 0 115 [(1, .int 21), (0, .ref (b 0))] []
          refine r_aload_n hC 1 dX6_comparisonRead_115 rfl 116 rfl ?_
          rcases Bool.eq_false_or_eq_true (okP (valP bf e (nxP bf e (opP bf e (valP bf e p))))) with hk40 | hk40
          · skip
            refine r_invVr hC kX6 (b 0) [] (.int 1) mVX6_isGood q2945 (fun _ h => h.get 0 rfl) (metX6_isGood _ _ hG b i36 _ 1 (by rw [rd_good hr36, hk40]; rfl)) (fun _ h => h.in.sub [0] rfl rfl) ⟨rfl, rfl⟩ 0 0 rfl rfl (Nat.le_of_ble_eq_true rfl) (Nat.le_of_ble_eq_true rfl) rfl (Nat.le_of_ble_eq_true rfl) dX6_comparisonRead_116 119 rfl ?_
            refine r_ifeq hC 127 dX6_comparisonRead_119 (by decide) 122 rfl (fun h => absurd h (by decide)) (fun _ => ?_)
            refine r_aload_n hC 1 dX6_comparisonRead_122 rfl 123 rfl ?_
            refine r_iload_n hC 0 dX6_comparisonRead_123 rfl 124 rfl ?_
            refine r_invVw hC kX6 (b 0) [.int 21] [(b 13, .inl (0, 600, .inl bf)), (b 34, .inl (0, 200, .inl wt36))] mVX6_adds q3324 0 rfl (metX6_addsH _ _ hG b i36 j36 co36 ((L ++ valC bf e p) ++ valC bf e (nxP bf e (opP bf e (valP bf e p)))).length (by have h1 := leP_lt (cmp_le (bf := bf) (e := e) hw9.1) hr36 hk40; have h2 := @cmp_len2 bf e L p; omega) 21 hq36.1) [0, 2] [1, 3] rfl rfl rfl rfl (by decide) ⟨rfl, rfl⟩ 0 0 rfl rfl (Nat.le_of_ble_eq_true rfl) (Nat.le_of_ble_eq_true rfl) rfl (Nat.le_of_ble_eq_true rfl) dX6_comparisonRead_124 127 rfl (fun v41 w42 h43 => ?_) (fun _ _ h => h.elim)
            obtain ⟨rfl, rfl⟩ := h43
            show rn C (xSt F V0 [(b 13, .inl (0, 600, .inl bf)), (b 34, .inl (0, 200, .inl wt36)), (b 0, .inr (5, mF b (va_up i36 36 (nI (((L ++ valC bf e p) ++ valC bf e (nxP bf e (opP bf e (valP bf e p)))).length + 1))) j36)), (b 33, .inl (0, 200, .inl (va_up co36 ((L ++ valC bf e p) ++ valC bf e (nxP bf e (opP bf e (valP bf e p)))).length 21)))]) 0 0 127 [(1, .int 21), (0, .ref (b 0))] []
            exact r_vret hC (Nat.le_of_ble_eq_true rfl) (Nat.le_of_ble_eq_true rfl) (fun V9 h => hQ _ _ ⟨[(b 0, .inr (5, mF b (va_up i36 36 (nI (((L ++ valC bf e p) ++ valC bf e (nxP bf e (opP bf e (valP bf e p)))).length + 1))) j36)), (b 13, .inl (0, 600, .inl bf)), (b 33, .inl (0, 200, .inl (va_up co36 ((L ++ valC bf e p) ++ valC bf e (nxP bf e (opP bf e (valP bf e p)))).length 21))), (b 34, .inl (0, 200, .inl wt36))], ⟨rfl, _, _, _, _, (((L ++ valC bf e p) ++ valC bf e (nxP bf e (opP bf e (valP bf e p)))) ++ [21]), W9, _, rfl, (rd36 hr36), ((((hi9.tr gi1).trans gi32).tr gi36).u36), (((hj9.trans fj1).trans fj32).trans fj36), Or.inl ⟨hk40, (qS_add (c := 21) hq36), ⟨(cmp_le (bf := bf) (e := e) hw9.1).mono (by have h2 := @cmp_len bf e L p 21; omega), hw9.2⟩, Nat.lt_of_lt_of_le (mu_cmp hk40) hmu9, by rw [hR9, mch_c hn9 hp9 hk40, ← cmp_L hoc]; rfl⟩⟩, by rw [← hV0, ← hF]; exact (h.sub [2, 0, 3, 1] rfl rfl)⟩) dX6_comparisonRead_127
          · skip
            refine r_invVr hC kX6 (b 0) [] (.int 0) mVX6_isGood q2945 (fun _ h => h.get 0 rfl) (metX6_isGood _ _ hG b i36 _ 0 (by rw [rd_good hr36, hk40]; rfl)) (fun _ h => h.in.sub [0] rfl rfl) ⟨rfl, rfl⟩ 0 0 rfl rfl (Nat.le_of_ble_eq_true rfl) (Nat.le_of_ble_eq_true rfl) rfl (Nat.le_of_ble_eq_true rfl) dX6_comparisonRead_116 119 rfl ?_
            refine r_ifeq hC 127 dX6_comparisonRead_119 (by decide) 122 rfl (fun _ => ?_) (fun h => absurd h (by decide))
            exact r_vret hC (Nat.le_of_ble_eq_true rfl) (Nat.le_of_ble_eq_true rfl) (fun V9 h => hQ _ _ ⟨[(b 0, .inr (5, mF b i36 j36)), (b 13, .inl (0, 600, .inl bf)), (b 33, .inl (0, 200, .inl co36)), (b 34, .inl (0, 200, .inl wt36))], ⟨rfl, _, _, _, _, ((L ++ valC bf e p) ++ valC bf e (nxP bf e (opP bf e (valP bf e p)))), W9, _, rfl, hr36, (((hi9.tr gi1).trans gi32).tr gi36), (((hj9.trans fj1).trans fj32).trans fj36), Or.inr ⟨hk40, by rw [hR9, mch_c0 ho9 hn9 hp9 hk40]; rfl⟩⟩, by rw [← hV0, ← hF]; exact h⟩) dX6_comparisonRead_127
        · skip
          refine r_invVr hC kX6 (b 0) [.int 61] (.int 0) mVX6_isByte q2961 (fun _ h => h.get 0 rfl) (xRm_v (metX6_isByte _ _ hG b i1 j1 bf e he (valP bf e p) hr1 61) (show _ = some (Value.int 0) by rw [hk31]; rfl)) (fun _ h => h.in.sub [0, 1] rfl rfl) ⟨rfl, rfl⟩ 0 0 rfl rfl (Nat.le_of_ble_eq_true rfl) (Nat.le_of_ble_eq_true rfl) rfl (Nat.le_of_ble_eq_true rfl) dX6_comparisonRead_87 90 rfl ?_
          refine r_ifne hC 99 dX6_comparisonRead_90 (by decide) 93 rfl (fun h => absurd h (by decide)) (fun _ => ?_)
          refine r_aload_n hC 1 dX6_comparisonRead_93 rfl 94 rfl ?_
          refine r_iconst hC 1 dX6_comparisonRead_94 ic_1 95 rfl ?_
          refine r_invVw hC kX6 (b 0) [.int 1] [(b 13, .inl (0, 600, .inl bf)), (b 33, .inl (0, 200, .inl co1)), (b 34, .inl (0, 200, .inl wt1))] mVX6_wrongs q2953 0 rfl (metX6_wrongsP _ _ hG b i1 j1 bf e he (valP bf e p) hr1 1 (by decide)) [0] [1, 2, 3] rfl rfl rfl rfl (by decide) ⟨rfl, rfl⟩ 0 0 rfl rfl (Nat.le_of_ble_eq_true rfl) (Nat.le_of_ble_eq_true rfl) rfl (Nat.le_of_ble_eq_true rfl) dX6_comparisonRead_95 98 rfl (fun v45 w46 h47 => ?_) (fun _ _ h => h.elim)
          obtain ⟨rfl, i44, j44, rfl, hr44, gi44, fj44⟩ := h47
          show rn C (xSt F V0 [(b 13, .inl (0, 600, .inl bf)), (b 33, .inl (0, 200, .inl co1)), (b 34, .inl (0, 200, .inl wt1)), (b 0, .inr (5, mF b i44 j44))]) 0 0 98 [(1, .int 21), (0, .ref (b 0))] [.int 0]
          refine r_pop hC dX6_comparisonRead_98 rfl 99 rfl ?_
          have hop : opP bf e (valP bf e p) = wrP 1 (valP bf e p) := by rw [opP, if_neg (nt hk5), if_neg (nt hk18), if_neg (nt hk31)]
          have hoc : opC bf e (valP bf e p) = 21 := by rw [opC, if_neg (nt hk5), if_neg (nt hk18)]
          have hr99 : rdP bf e i44 j44 (opP bf e (valP bf e p)) := by rw [hop]; exact hr44
          refine r_aload_n hC 1 dX6_comparisonRead_99 rfl 100 rfl ?_
          refine r_invVr hC kX6 (b 0) [] (.int 0) mVX6_isGood q2945 (fun _ h => h.get 3 rfl) (metX6_isGood _ _ hG b i44 _ 0 (by rw [rd_good hr99, (show okP (opP bf e (valP bf e p)) = false by rw [hop]; exact okP_wr)]; rfl)) (fun _ h => h.in.sub [3] rfl rfl) ⟨rfl, rfl⟩ 0 0 rfl rfl (Nat.le_of_ble_eq_true rfl) (Nat.le_of_ble_eq_true rfl) rfl (Nat.le_of_ble_eq_true rfl) dX6_comparisonRead_100 103 rfl ?_
          refine r_ifne hC 107 dX6_comparisonRead_103 (by decide) 106 rfl (fun h => absurd h (by decide)) (fun _ => ?_)
          exact r_vret hC (Nat.le_of_ble_eq_true rfl) (Nat.le_of_ble_eq_true rfl) (fun V9 h => hQ _ _ ⟨[(b 0, .inr (5, mF b i44 j44)), (b 13, .inl (0, 600, .inl bf)), (b 33, .inl (0, 200, .inl co1)), (b 34, .inl (0, 200, .inl wt1))], ⟨rfl, _, _, _, _, (L ++ valC bf e p), W9, _, rfl, hr99, ((hi9.tr gi1).trans gi44), ((hj9.trans fj1).trans fj44), Or.inr ⟨(show okP (opP bf e (valP bf e p)) = false by rw [hop]; exact okP_wr), by rw [hR9, mch_c0 ho9 hn9 hp9 (by rw [cmp_bad (show okP (opP bf e (valP bf e p)) = false by rw [hop]; exact okP_wr)]; exact (show okP (opP bf e (valP bf e p)) = false by rw [hop]; exact okP_wr)), cmp_bad (show okP (opP bf e (valP bf e p)) = false by rw [hop]; exact okP_wr)]⟩⟩, by rw [← hV0, ← hF]; exact (h.sub [3, 0, 1, 2] rfl rfl)⟩) dX6_comparisonRead_106
theorem leP_lt200 {bf : Nat → Int32} {e n : Nat} {i : Nat → Int32} {j : Nat → Int64} {ps : PS} (h : leP n ps) (hr : rdP bf e i j ps) (ho : okP ps = true) (he : e ≤ 200) : n ≤ 200 := Nat.le_trans (leP_lt h hr ho) he
set_option maxHeartbeats 4000000 in
set_option maxRecDepth 100000 in
theorem lpX6_closes {CC : xC} {F : Nat → Prop} {V0 : xV} (hG : xGood (xGG CC)) (hC : xCtx CC RX6 cX6_closes 1 none { frames := 3, locals := 61, cells := 0, slots := 0 }) (b : Nat → Nat) (i0 : Nat → Int32) (j0 : Nat → Int64) (bf : Nat → Int32) (e : Nat) (he : e ≤ 600) (he2 : e ≤ 200) (R : List Int32 × PS) (mu : Nat) (kx : ∀ (i : Nat → Int32) (j : Nat → Int64) (co wt : Nat → Int32) (L W : List Int32) (ps : PS), rdP bf e i j ps → qI i0 i → fJ j0 j → okP ps = true → qS i co wt L W → qW L W ps → muP e ps ≤ mu → R = mch bf e false L W ps → topN W = false → ¬ (isB bf e 41 ps = true ∧ insQ W = true) → rn CC (xSt F V0 [(b 0, .inr (5, mF b i j)), (b 13, .inl (0, 600, .inl bf)), (b 33, .inl (0, 200, .inl co)), (b 34, .inl (0, 200, .inl wt))]) 0 0 58 [] []) : ∀ (n : Nat), ∀ (i : Nat → Int32) (j : Nat → Int64) (co wt : Nat → Int32) (L W : List Int32) (ps : PS), muP e ps ≤ n → okP ps = true → rdP bf e i j ps → qS i co wt L W → qW L W ps → qI i0 i → fJ j0 j → topN W = false → R = mch bf e false L W ps → muP e ps ≤ mu → rn CC (xSt F V0 [(b 0, .inr (5, mF b i j)), (b 13, .inl (0, 600, .inl bf)), (b 33, .inl (0, 200, .inl co)), (b 34, .inl (0, 200, .inl wt))]) 0 0 5 [(0, .ref (b 0))] [] := by
  intro n
  induction n with
  | zero =>
    intro i j co wt L W ps hn ho
    exact absurd ho (nt (okP_mu (e := e) (by omega)))
  | succ n ih =>
    intro i j co wt L W ps hn ho hr hq hw hi hj htop hR hmu
    refine r_aload_n hC 0 dX6_closes_5 rfl 6 rfl ?_
    refine r_bipush hC 41 dX6_closes_6 bp_41 8 rfl ?_
    rcases Bool.eq_false_or_eq_true (isB bf e 41 ps) with hk1 | hk1
    · skip
      refine r_invVr hC kX6 (b 0) [.int 41] (.int 1) mVX6_isByte q2961 (fun _ h => h.get 0 rfl) (xRm_v (metX6_isByte _ _ hG b i j bf e he ps hr 41) (show _ = some (Value.int 1) by rw [hk1]; rfl)) (fun _ h => h.in.sub [0, 1] rfl rfl) ⟨rfl, rfl⟩ 0 0 rfl rfl (Nat.le_of_ble_eq_true rfl) (Nat.le_of_ble_eq_true rfl) rfl (Nat.le_of_ble_eq_true rfl) dX6_closes_8 11 rfl ?_
      refine r_ifeq hC 58 dX6_closes_11 (by decide) 14 rfl (fun h => absurd h (by decide)) (fun _ => ?_)
      refine r_aload_n hC 0 dX6_closes_14 rfl 15 rfl ?_
      rcases Bool.eq_false_or_eq_true (insQ W) with hk2 | hk2
      · skip
        refine r_invVr hC kX6 (b 0) [] (.int 1) mVX6_isInside q3347 (fun _ h => h.get 0 rfl) (xRm_v (metX6_isInside _ _ hG b i j bf co wt L W hq (by have h1 := leP_lt200 hw.1 hr ho he2; omega)) (show _ = some (Value.int 1) by rw [hk2]; rfl)) (fun _ h => h.in.sub [0, 1, 2, 3] rfl rfl) ⟨rfl, rfl⟩ 0 0 rfl rfl (Nat.le_of_ble_eq_true rfl) (Nat.le_of_ble_eq_true rfl) rfl (Nat.le_of_ble_eq_true rfl) dX6_closes_15 18 rfl ?_
        refine r_ifeq hC 58 dX6_closes_18 (by decide) 21 rfl (fun h => absurd h (by decide)) (fun _ => ?_)
        refine r_aload_n hC 0 dX6_closes_21 rfl 22 rfl ?_
        refine r_iconst hC 1 dX6_closes_22 ic_1 23 rfl ?_
        refine r_invVw hC kX6 (b 0) [.int 1] [] mVX6_settles q3340 0 rfl (metX6_settlesG _ _ hG b i j bf co wt e he ps L W hr hq 1 (by decide) (by decide) ho (leP_lt200 hw.1 hr ho he2)) [0, 1, 2, 3] [] rfl rfl rfl rfl (by decide) ⟨rfl, rfl⟩ 0 0 rfl rfl (Nat.le_of_ble_eq_true rfl) (Nat.le_of_ble_eq_true rfl) rfl (Nat.le_of_ble_eq_true rfl) dX6_closes_23 26 rfl (fun v4 w5 h6 => ?_) (fun _ _ h => h.elim)
        obtain ⟨rfl, i3, j3, co3, wt3, rfl, hr3, hq3, gi3, fj3⟩ := h6
        show rn CC (xSt F V0 [(b 0, .inr (5, mF b i3 j3)), (b 13, .inl (0, 600, .inl bf)), (b 33, .inl (0, 200, .inl co3)), (b 34, .inl (0, 200, .inl wt3))]) 0 0 26 [(0, .ref (b 0))] []
        obtain ⟨W2, hW2⟩ := setT_top1 W L hk2 hw.2.1
        have hq26 : qS i3 co3 wt3 (setT 1 L W).1 (1 :: W2) := by rw [← hW2]; exact hq3
        refine r_aload_n hC 0 dX6_closes_26 rfl 27 rfl ?_
        refine r_dup hC dX6_closes_27 rfl 28 rfl ?_
        refine r_get (v := .int (i3 37)) hC kX6 37 rfl q2790 (fun _ h => h.get 0 rfl) rfl dX6_closes_28 31 rfl ?_
        refine r_eqi (y := nI (W2.length + 1)) (hq26.2.1) ?_
        refine r_iconst hC 1 dX6_closes_31 ic_1 32 rfl ?_
        refine r_isub hC (nI W2.length) dX6_closes_32  (pk_sub (a := W2.length + 1) (b := 1) (by omega)) 33 rfl ?_
        refine r_put (J := xSt F V0 [(b 0, .inr (5, mF b (va_up i3 37 (nI W2.length)) j3)), (b 13, .inl (0, 600, .inl bf)), (b 33, .inl (0, 200, .inl co3)), (b 34, .inl (0, 200, .inl wt3))]) hC kX6 37 rfl q2790 rfl (fun _ h => h.get 0 rfl) (Nat.le_of_ble_eq_true rfl) rfl rfl dX6_closes_33 (fun _ h => h.set 0 _ rfl) 36 rfl ?_
        refine r_aload_n hC 0 dX6_closes_36 rfl 37 rfl ?_
        refine r_dup hC dX6_closes_37 rfl 38 rfl ?_
        refine r_get (v := .int (i3 38)) hC kX6 38 rfl q2791 (fun _ h => h.get 0 rfl) rfl dX6_closes_38 41 rfl ?_
        refine r_eqi (y := nI (opnQ W2 + 1)) (hq26.2.2.1.trans (by rw [opnQ, if_pos (Or.inr rfl)])) ?_
        refine r_iconst hC 1 dX6_closes_41 ic_1 42 rfl ?_
        refine r_isub hC (nI (opnQ W2)) dX6_closes_42  (pk_sub (a := opnQ W2 + 1) (b := 1) (by omega)) 43 rfl ?_
        refine r_put (J := xSt F V0 [(b 0, .inr (5, mF b (va_up (va_up i3 37 (nI W2.length)) 38 (nI (opnQ W2))) j3)), (b 13, .inl (0, 600, .inl bf)), (b 33, .inl (0, 200, .inl co3)), (b 34, .inl (0, 200, .inl wt3))]) hC kX6 38 rfl q2791 rfl (fun _ h => h.get 0 rfl) (Nat.le_of_ble_eq_true rfl) rfl rfl dX6_closes_43 (fun _ h => h.set 0 _ rfl) 46 rfl ?_
        refine r_aload_n hC 0 dX6_closes_46 rfl 47 rfl ?_
        refine r_invVw hC kX6 (b 0) [] [(b 33, .inl (0, 200, .inl co3)), (b 34, .inl (0, 200, .inl wt3))] mVX6_next q2902 0 rfl (metX6_nextP _ _ hG b (va_up (va_up i3 37 (nI W2.length)) 38 (nI (opnQ W2))) j3 bf e he ps (rd38 (rd37 hr3)) ho) [0, 1] [2, 3] rfl rfl rfl rfl (by decide) ⟨rfl, rfl⟩ 0 0 rfl rfl (Nat.le_of_ble_eq_true rfl) (Nat.le_of_ble_eq_true rfl) rfl (Nat.le_of_ble_eq_true rfl) dX6_closes_47 50 rfl (fun v8 w9 h10 => ?_) (fun _ _ h => h.elim)
        obtain ⟨rfl, i7, j7, rfl, hr7, gi7, fj7⟩ := h10
        show rn CC (xSt F V0 [(b 33, .inl (0, 200, .inl co3)), (b 34, .inl (0, 200, .inl wt3)), (b 0, .inr (5, mF b i7 j7)), (b 13, .inl (0, 600, .inl bf))]) 0 0 50 [(0, .ref (b 0))] []
        refine r_aload_n hC 0 dX6_closes_50 rfl 51 rfl ?_
        refine r_iconst hC 3 dX6_closes_51 ic_3 52 rfl ?_
        refine r_invVw hC kX6 (b 0) [.int 3] [] mVX6_settles q3340 2 rfl (metX6_settlesG _ _ hG b i7 j7 bf co3 wt3 e he (nxP bf e ps) ((setT 1 L W).1) W2 hr7 ((qS_popP hq26).g gi7) 3 (by decide) (by decide) (okP_nx.trans ho) (by have h1 := leP_lt200 hw.1 hr ho he2; have h2 := setT_len (k := 1) W L; rw [hW2, List.length_cons] at h2; omega)) [2, 3, 0, 1] [] rfl rfl rfl rfl (by decide) ⟨rfl, rfl⟩ 0 0 rfl rfl (Nat.le_of_ble_eq_true rfl) (Nat.le_of_ble_eq_true rfl) rfl (Nat.le_of_ble_eq_true rfl) dX6_closes_52 55 rfl (fun v12 w13 h14 => ?_) (fun _ _ h => h.elim)
        obtain ⟨rfl, i11, j11, co11, wt11, rfl, hr11, hq11, gi11, fj11⟩ := h14
        show rn CC (xSt F V0 [(b 0, .inr (5, mF b i11 j11)), (b 13, .inl (0, 600, .inl bf)), (b 33, .inl (0, 200, .inl co11)), (b 34, .inl (0, 200, .inl wt11))]) 0 0 55 [(0, .ref (b 0))] []
        refine r_goto hC 5 dX6_closes_55 (by decide) ?_
        refine rn.sub (lv' := [(0, .ref (b 0))]) [0] rfl ?_
        have hmu2 := mu_nxB hk1
        exact ih _ _ _ _ _ _ _ (by omega) (okP_nx.trans ho) hr11 hq11 (qW_close hw hk1 hW2) (((((hi.tr gi3).u37).u38).trans gi7).tr gi11) (((hj.trans fj3).trans fj7).trans fj11) (topN_3 _ _) (hR.trans ((mch_r htop hk1 hk2).trans (by rw [hW2]; exact mch_s3 (okP_nx.trans ho) W2 _))) (Nat.le_trans (Nat.le_of_lt hmu2) hmu)
      · skip
        refine r_invVr hC kX6 (b 0) [] (.int 0) mVX6_isInside q3347 (fun _ h => h.get 0 rfl) (xRm_v (metX6_isInside _ _ hG b i j bf co wt L W hq (by have h1 := leP_lt200 hw.1 hr ho he2; omega)) (show _ = some (Value.int 0) by rw [hk2]; rfl)) (fun _ h => h.in.sub [0, 1, 2, 3] rfl rfl) ⟨rfl, rfl⟩ 0 0 rfl rfl (Nat.le_of_ble_eq_true rfl) (Nat.le_of_ble_eq_true rfl) rfl (Nat.le_of_ble_eq_true rfl) dX6_closes_15 18 rfl ?_
        refine r_ifeq hC 58 dX6_closes_18 (by decide) 21 rfl (fun _ => ?_) (fun h => absurd h (by decide))
        refine rn.sub (lv' := []) [] rfl ?_
        exact kx _ _ _ _ _ _ _ hr hi hj ho hq hw hmu hR htop (fun h => nt hk2 h.2)
    · skip
      refine r_invVr hC kX6 (b 0) [.int 41] (.int 0) mVX6_isByte q2961 (fun _ h => h.get 0 rfl) (xRm_v (metX6_isByte _ _ hG b i j bf e he ps hr 41) (show _ = some (Value.int 0) by rw [hk1]; rfl)) (fun _ h => h.in.sub [0, 1] rfl rfl) ⟨rfl, rfl⟩ 0 0 rfl rfl (Nat.le_of_ble_eq_true rfl) (Nat.le_of_ble_eq_true rfl) rfl (Nat.le_of_ble_eq_true rfl) dX6_closes_8 11 rfl ?_
      refine r_ifeq hC 58 dX6_closes_11 (by decide) 14 rfl (fun _ => ?_) (fun h => absurd h (by decide))
      refine rn.sub (lv' := []) [] rfl ?_
      exact kx _ _ _ _ _ _ _ hr hi hj ho hq hw hmu hR htop (fun h => nt hk1 h.1)
set_option maxHeartbeats 4000000 in
set_option maxRecDepth 100000 in
theorem metX6_closes (l : Launch) (G : xG) (hG : xGood G) (b : Nat → Nat) (i : Nat → Int32) (j : Nat → Int64) (bf co wt : Nat → Int32) (e : Nat) (he : e ≤ 600) (ps : PS) (L W : List Int32) (hr : rdP bf e i j ps) (hq : qS i co wt L W) (he2 : e ≤ 200) (ho : okP ps = true) (hw : qW L W ps) : xWm l G yX6_closes (Cond.code yX6_closes cX6_closes 1 none) { frames := 3, locals := 61, cells := 0, slots := 0 } [.ref (b 0)] [(b 0, .inr (5, mF b i j)), (b 13, .inl (0, 600, .inl bf)), (b 33, .inl (0, 200, .inl co)), (b 34, .inl (0, 200, .inl wt))] (fun v w' => v = none ∧ ∃ (i' : Nat → Int32) (j' : Nat → Int64) (co' wt' : Nat → Int32) (L' W' : List Int32) (ps' : PS), w' = [(b 0, .inr (5, mF b i' j')), (b 13, .inl (0, 600, .inl bf)), (b 33, .inl (0, 200, .inl co')), (b 34, .inl (0, 200, .inl wt'))] ∧ rdP bf e i' j' ps' ∧ qI i i' ∧ fJ j j' ∧ cloO bf e L W ps i' co' wt' L' W' ps') (fun _ _ => False) := by
  intro V hV
  refine xMet_of RX6 hG rfl (by decide) (Nat.le_of_ble_eq_true rfl) fun C hC hQ hX hl hg _ => ?_
  subst hl hg
  obtain ⟨V0, hV0⟩ : ∃ V0, V0 = V := ⟨_, rfl⟩
  obtain ⟨F, hF⟩ : ∃ F, F = xF [(b 0, .inr (5, mF b i j)), (b 13, .inl (0, 600, .inl bf)), (b 33, .inl (0, 200, .inl co)), (b 34, .inl (0, 200, .inl wt))] := ⟨_, rfl⟩
  refine rn.mono (J := xSt F V0 [(b 0, .inr (5, mF b i j)), (b 13, .inl (0, 600, .inl bf)), (b 33, .inl (0, 200, .inl co)), (b 34, .inl (0, 200, .inl wt))]) (fun V9 h => by rw [h, hV0, hF]; exact hV.st) ?_
  show rn C (xSt F V0 [(b 0, .inr (5, mF b i j)), (b 13, .inl (0, 600, .inl bf)), (b 33, .inl (0, 200, .inl co)), (b 34, .inl (0, 200, .inl wt))]) 0 0 0 [(0, .ref (b 0))] []
  refine r_aload_n hC 0 dX6_closes_0 rfl 1 rfl ?_
  refine r_iconst hC 3 dX6_closes_1 ic_3 2 rfl ?_
  refine r_invVw hC kX6 (b 0) [.int 3] [] mVX6_settles q3340 0 rfl (metX6_settlesG _ _ hG b i j bf co wt e he ps L W hr hq 3 (by decide) (by decide) ho (leP_lt200 hw.1 hr ho he2)) [0, 1, 2, 3] [] rfl rfl rfl rfl (by decide) ⟨rfl, rfl⟩ 0 0 rfl rfl (Nat.le_of_ble_eq_true rfl) (Nat.le_of_ble_eq_true rfl) rfl (Nat.le_of_ble_eq_true rfl) dX6_closes_2 5 rfl (fun v2 w3 h4 => ?_) (fun _ _ h => h.elim)
  obtain ⟨rfl, i1, j1, co1, wt1, rfl, hr1, hq1, gi1, fj1⟩ := h4
  show rn C (xSt F V0 [(b 0, .inr (5, mF b i1 j1)), (b 13, .inl (0, 600, .inl bf)), (b 33, .inl (0, 200, .inl co1)), (b 34, .inl (0, 200, .inl wt1))]) 0 0 5 [(0, .ref (b 0))] []
  refine rn.sub (lv' := [(0, .ref (b 0))]) [0] rfl ?_
  refine lpX6_closes hG hC b i j bf e he he2 (mch bf e false L W ps) (muP e ps) (fun i9 j9 co9 wt9 L9 W9 p hr9 hi9 hj9 ho9 hq9 hw9 hmu9 hR9 ht9 hn9 => ?_) (muP e ps) i1 j1 co1 wt1 _ _ ps (Nat.le_refl _) ho hr1 hq1 (qW_3 hw) ((qI_refl i).tr gi1) ((fJ_refl j).trans fj1) (topN_3 _ _) (mch_s3 ho W L) (Nat.le_refl _)
  exact r_vret hC (Nat.le_of_ble_eq_true rfl) (Nat.le_of_ble_eq_true rfl) (fun V9 h => hQ _ _ ⟨[(b 0, .inr (5, mF b i9 j9)), (b 13, .inl (0, 600, .inl bf)), (b 33, .inl (0, 200, .inl co9)), (b 34, .inl (0, 200, .inl wt9))], ⟨rfl, _, _, _, _, L9, W9, _, rfl, hr9, hi9, hj9, ⟨ho9, hq9, hw9, hmu9, hR9, ht9, hn9⟩⟩, by rw [← hV0, ← hF]; exact h⟩) dX6_closes_58
set_option maxHeartbeats 4000000 in
set_option maxRecDepth 100000 in
theorem lpX6_reads {CC : xC} {F : Nat → Prop} {V0 : xV} (hG : xGood (xGG CC)) (hC : xCtx CC RX6 cX6_reads 3 none { frames := 6, locals := 129, cells := 0, slots := 0 }) (b : Nat → Nat) (i0 : Nat → Int32) (j0 : Nat → Int64) (bf : Nat → Int32) (e : Nat) (he : e ≤ 600) (he2 : e ≤ 200) (R : List Int32 × PS) (kE : ∀ (i : Nat → Int32) (j : Nat → Int64) (co wt : Nat → Int32) (L9 W9 : List Int32) (ps : PS), okP ps = false → R.2 = ps → rdP bf e i j ps → qI i0 i → fJ j0 j → rn CC (xSt F V0 [(b 0, .inr (5, mF b i j)), (b 13, .inl (0, 600, .inl bf)), (b 33, .inl (0, 200, .inl co)), (b 34, .inl (0, 200, .inl wt))]) 0 0 35 [] []) (kx : ∀ (i : Nat → Int32) (j : Nat → Int64) (co wt : Nat → Int32) (L W : List Int32) (ps : PS), rdP bf e i j ps → qI i0 i → fJ j0 j → okP ps = true → qS i co wt L W → qW L W ps → R = mch bf e false L W ps → topN W = false → ¬ (isB bf e 41 ps = true ∧ insQ W = true) → isW bf e 1111 ps = false → isW bf e 423 ps = false → rn CC (xSt F V0 [(b 0, .inr (5, mF b i j)), (b 13, .inl (0, 600, .inl bf)), (b 33, .inl (0, 200, .inl co)), (b 34, .inl (0, 200, .inl wt))]) 0 0 124 [(0, .ref (b 0))] []) : ∀ (n : Nat), ∀ (i : Nat → Int32) (j : Nat → Int64) (co wt : Nat → Int32) (L W : List Int32) (ps : PS), muP e ps ≤ n → okP ps = true → rdP bf e i j ps → qS i co wt L W → qW L W ps → qI i0 i → fJ j0 j → R = mch bf e true L W ps → rn CC (xSt F V0 [(b 0, .inr (5, mF b i j)), (b 13, .inl (0, 600, .inl bf)), (b 33, .inl (0, 200, .inl co)), (b 34, .inl (0, 200, .inl wt))]) 0 0 20 [(1, .int 1), (0, .ref (b 0))] [] := by
  intro n
  induction n with
  | zero =>
    intro i j co wt L W ps hn ho
    exact absurd ho (nt (okP_mu (e := e) (by omega)))
  | succ n ih =>
    intro i j co wt L W ps hn ho hr hq hw hi hj hR
    refine r_iload_n hC 0 dX6_reads_20 rfl 21 rfl ?_
    refine r_ifeq hC 124 dX6_reads_21 (by decide) 24 rfl (fun h => absurd h (by decide)) (fun _ => ?_)
    refine r_aload_n hC 1 dX6_reads_24 rfl 25 rfl ?_
    refine r_invVw hC kX6 (b 0) [] [] mVX6_comparisonRead q3310 0 rfl (metX6_comparisonRead _ _ hG b i j bf co wt e he ps L W hr hq he2 ho hw) [0, 1, 2, 3] [] rfl rfl rfl rfl (by decide) ⟨rfl, rfl⟩ 0 0 rfl rfl (Nat.le_of_ble_eq_true rfl) (Nat.le_of_ble_eq_true rfl) rfl (Nat.le_of_ble_eq_true rfl) dX6_reads_25 28 rfl (fun v2 w3 h4 => ?_) (fun _ _ h => h.elim)
    obtain ⟨rfl, i1, j1, co1, wt1, L1, W1, p1, rfl, hr1, gi1, fj1, hO1⟩ := h4
    show rn CC (xSt F V0 [(b 0, .inr (5, mF b i1 j1)), (b 13, .inl (0, 600, .inl bf)), (b 33, .inl (0, 200, .inl co1)), (b 34, .inl (0, 200, .inl wt1))]) 0 0 28 [(1, .int 1), (0, .ref (b 0))] []
    rcases hO1 with ⟨ho1, hq1, hw1, hmu1, hm1⟩ | ⟨ho1, hm1⟩
    · skip
      refine r_aload_n hC 1 dX6_reads_28 rfl 29 rfl ?_
      refine r_invVr hC kX6 (b 0) [] (.int 1) mVX6_isGood q2945 (fun _ h => h.get 0 rfl) (metX6_isGood _ _ hG b i1 _ 1 (by rw [rd_good hr1, ho1]; rfl)) (fun _ h => h.in.sub [0] rfl rfl) ⟨rfl, rfl⟩ 0 0 rfl rfl (Nat.le_of_ble_eq_true rfl) (Nat.le_of_ble_eq_true rfl) rfl (Nat.le_of_ble_eq_true rfl) dX6_reads_29 32 rfl ?_
      refine r_ifne hC 36 dX6_reads_32 (by decide) 35 rfl (fun _ => ?_) (fun h => absurd h (by decide))
      refine r_aload_n hC 1 dX6_reads_36 rfl 37 rfl ?_
      refine r_invVw hC kX6 (b 0) [] [] mVX6_closes q3336 0 rfl (metX6_closes _ _ hG b i1 j1 bf co1 wt1 e he p1 L1 W1 hr1 hq1 he2 ho1 hw1) [0, 1, 2, 3] [] rfl rfl rfl rfl (by decide) ⟨rfl, rfl⟩ 0 0 rfl rfl (Nat.le_of_ble_eq_true rfl) (Nat.le_of_ble_eq_true rfl) rfl (Nat.le_of_ble_eq_true rfl) dX6_reads_37 40 rfl (fun v6 w7 h8 => ?_) (fun _ _ h => h.elim)
      obtain ⟨rfl, i5, j5, co5, wt5, L5, W5, p5, rfl, hr5, gi5, fj5, hO5⟩ := h8
      show rn CC (xSt F V0 [(b 0, .inr (5, mF b i5 j5)), (b 13, .inl (0, 600, .inl bf)), (b 33, .inl (0, 200, .inl co5)), (b 34, .inl (0, 200, .inl wt5))]) 0 0 40 [(1, .int 1), (0, .ref (b 0))] []
      obtain ⟨ho5, hq5, hw5, hmu5, hm5, ht5, hn5⟩ := hO5
      refine r_aload_n hC 1 dX6_reads_40 rfl 41 rfl ?_
      refine r_ldc2 hC q3351 dX6_reads_41 44 rfl ?_
      rcases Bool.eq_false_or_eq_true (isW bf e 1111 p5) with hk9 | hk9
      · skip
        refine r_invVr hC kX6 (b 0) [.long 1111] (.int 1) mVX6_isWord q2941 (fun _ h => h.get 0 rfl) (xRm_v (metX6_isWord _ _ hG b i5 j5 bf e he p5 hr5 1111) (show _ = some (Value.int 1) by rw [hk9]; rfl)) (fun _ h => h.in.sub [0, 1] rfl rfl) ⟨rfl, rfl⟩ 0 0 rfl rfl (Nat.le_of_ble_eq_true rfl) (Nat.le_of_ble_eq_true rfl) rfl (Nat.le_of_ble_eq_true rfl) dX6_reads_44 47 rfl ?_
        refine r_ifeq hC 55 dX6_reads_47 (by decide) 50 rfl (fun h => absurd h (by decide)) (fun _ => ?_)
        refine r_bipush hC 24 dX6_reads_50 bp_24 52 rfl ?_
        refine r_goto hC 71 dX6_reads_52 (by decide) ?_
        refine r_istore_n hC 2 [(2, .int 24), (1, .int 1), (0, .ref (b 0))] dX6_reads_71 rfl (Nat.le_of_ble_eq_true rfl) rfl 72 rfl ?_
        refine r_iload_n hC 0 dX6_reads_72 rfl 73 rfl ?_
        refine r_ifeq hC 80 dX6_reads_73 (by decide) 76 rfl (fun h => absurd h (by decide)) (fun _ => ?_)
        refine r_iconst hC 1 dX6_reads_76 ic_1 77 rfl ?_
        refine r_goto hC 81 dX6_reads_77 (by decide) ?_
        refine r_istore_n hC 1 [(1, .int 1), (2, .int 24), (0, .ref (b 0))] dX6_reads_81 rfl (Nat.le_of_ble_eq_true rfl) rfl 82 rfl ?_
        refine r_iload_n hC 0 dX6_reads_82 rfl 83 rfl ?_
        refine r_ifne hC 89 dX6_reads_83 (by decide) 86 rfl (fun _ => ?_) (fun h => absurd h (by decide))
        refine r_aload_n hC 2 dX6_reads_89 rfl 90 rfl ?_
        refine r_iload_n hC 1 dX6_reads_90 rfl 91 rfl ?_
        refine r_invSr hC [.int 24] (.int 2) mSX6_strength q3344 (xRm_v (metX6_strength _ _ hG 24) (show _ = some (Value.int 2) from rfl)) (fun _ _ => xIn.nil) ⟨rfl, rfl⟩ 0 0 rfl rfl (Nat.le_of_ble_eq_true rfl) (Nat.le_of_ble_eq_true rfl) rfl (Nat.le_of_ble_eq_true rfl) dX6_reads_91 94 rfl ?_
        refine r_invVw hC kX6 (b 0) [.int 2] [] mVX6_settles q3340 0 rfl (metX6_settlesG _ _ hG b i5 j5 bf co5 wt5 e he p5 L5 W5 hr5 hq5 2 (by decide) (by decide) ho5 (leP_lt200 hw5.1 hr5 ho5 he2)) [0, 1, 2, 3] [] rfl rfl rfl rfl (by decide) ⟨rfl, rfl⟩ 0 0 rfl rfl (Nat.le_of_ble_eq_true rfl) (Nat.le_of_ble_eq_true rfl) rfl (Nat.le_of_ble_eq_true rfl) dX6_reads_94 97 rfl (fun v11 w12 h13 => ?_) (fun _ _ h => h.elim)
        obtain ⟨rfl, i10, j10, co10, wt10, rfl, hr10, hq10, gi10, fj10⟩ := h13
        show rn CC (xSt F V0 [(b 0, .inr (5, mF b i10 j10)), (b 13, .inl (0, 600, .inl bf)), (b 33, .inl (0, 200, .inl co10)), (b 34, .inl (0, 200, .inl wt10))]) 0 0 97 [(1, .int 1), (2, .int 24), (0, .ref (b 0))] []
        refine r_aload_n hC 2 dX6_reads_97 rfl 98 rfl ?_
        refine r_get (v := .ref (b 34)) hC kX6 34 rfl q2787 (fun _ h => h.get 0 rfl) rfl dX6_reads_98 101 rfl ?_
        refine r_aload_n hC 2 dX6_reads_101 rfl 102 rfl ?_
        refine r_get (v := .int (i10 37)) hC kX6 37 rfl q2790 (fun _ h => h.get 0 rfl) rfl dX6_reads_102 105 rfl ?_
        refine r_eqi (y := nI (((setT 2 L5 W5).2).length)) (hq10.2.1) ?_
        refine r_iload_n hC 1 dX6_reads_105 rfl 106 rfl ?_
        refine r_iast (J := xSt F V0 [(b 0, .inr (5, mF b i10 j10)), (b 13, .inl (0, 600, .inl bf)), (b 33, .inl (0, 200, .inl co10)), (b 34, .inl (0, 200, .inl (va_up wt10 (((setT 2 L5 W5).2).length) 24)))]) hC (((setT 2 L5 W5).2).length) (xix_n ((setT 2 L5 W5).2).length (by have h1 := leP_ltW hk9 hw5.1; have h2 := setT_len (k := 2) W5 L5; omega) (Nat.le_of_ble_eq_true rfl)) (fun _ h => h.get 3 rfl) dX6_reads_106 (fun _ h => h.set 3 _ rfl) 107 rfl ?_
        generalize hu14 : va_up wt10 (((setT 2 L5 W5).2).length) 24 = u14
        refine r_aload_n hC 2 dX6_reads_107 rfl 108 rfl ?_
        refine r_dup hC dX6_reads_108 rfl 109 rfl ?_
        refine r_get (v := .int (i10 37)) hC kX6 37 rfl q2790 (fun _ h => h.get 0 rfl) rfl dX6_reads_109 112 rfl ?_
        refine r_eqi (y := nI (((setT 2 L5 W5).2).length)) (hq10.2.1) ?_
        refine r_iconst hC 1 dX6_reads_112 ic_1 113 rfl ?_
        refine r_iadd hC (nI (((setT 2 L5 W5).2).length + 1)) dX6_reads_113  (nI_add (((setT 2 L5 W5).2).length) 1) 114 rfl ?_
        refine r_put (J := xSt F V0 [(b 0, .inr (5, mF b (va_up i10 37 (nI (((setT 2 L5 W5).2).length + 1))) j10)), (b 13, .inl (0, 600, .inl bf)), (b 33, .inl (0, 200, .inl co10)), (b 34, .inl (0, 200, .inl u14))]) hC kX6 37 rfl q2790 rfl (fun _ h => h.get 0 rfl) (Nat.le_of_ble_eq_true rfl) rfl rfl dX6_reads_114 (fun _ h => h.set 0 _ rfl) 117 rfl ?_
        subst hu14
        refine r_aload_n hC 2 dX6_reads_117 rfl 118 rfl ?_
        refine r_invVw hC kX6 (b 0) [] [(b 33, .inl (0, 200, .inl co10)), (b 34, .inl (0, 200, .inl (va_up wt10 (((setT 2 L5 W5).2).length) 24)))] mVX6_next q2902 0 rfl (metX6_nextP _ _ hG b (va_up i10 37 (nI (((setT 2 L5 W5).2).length + 1))) j10 bf e he p5 (rd37 hr10) ho5) [0, 1] [2, 3] rfl rfl rfl rfl (by decide) ⟨rfl, rfl⟩ 0 0 rfl rfl (Nat.le_of_ble_eq_true rfl) (Nat.le_of_ble_eq_true rfl) rfl (Nat.le_of_ble_eq_true rfl) dX6_reads_118 121 rfl (fun v16 w17 h18 => ?_) (fun _ _ h => h.elim)
        obtain ⟨rfl, i15, j15, rfl, hr15, gi15, fj15⟩ := h18
        show rn CC (xSt F V0 [(b 33, .inl (0, 200, .inl co10)), (b 34, .inl (0, 200, .inl (va_up wt10 (((setT 2 L5 W5).2).length) 24))), (b 0, .inr (5, mF b i15 j15)), (b 13, .inl (0, 600, .inl bf))]) 0 0 121 [(1, .int 1), (2, .int 24), (0, .ref (b 0))] []
        refine r_goto hC 20 dX6_reads_121 (by decide) ?_
        refine rn.sub (lv' := [(1, .int 1), (0, .ref (b 0))]) [0, 2] rfl ?_
        refine rn.mono (J := xSt F V0 [(b 0, .inr (5, mF b i15 j15)), (b 13, .inl (0, 600, .inl bf)), (b 33, .inl (0, 200, .inl co10)), (b 34, .inl (0, 200, .inl (va_up wt10 (((setT 2 L5 W5).2).length) 24)))]) (fun _ h => h.sub [2, 3, 0, 1] rfl rfl) ?_
        have hmu2 := mu_nxW hk9
        exact ih _ _ _ _ _ _ _ (by omega) (okP_nx.trans ho5) hr15 ((qS_pushB (x := 24) hq10 (by decide)).g gi15) (qW_join hw5 hk9 (Or.inl rfl)) (((((hi.tr gi1).tr gi5).tr gi10).u37).trans gi15) ((((hj.trans fj1).trans fj5).trans fj10).trans fj15) (hR.trans (hm1.trans (hm5.trans (mch_a ht5 hn5 hk9))))
      · skip
        refine r_invVr hC kX6 (b 0) [.long 1111] (.int 0) mVX6_isWord q2941 (fun _ h => h.get 0 rfl) (xRm_v (metX6_isWord _ _ hG b i5 j5 bf e he p5 hr5 1111) (show _ = some (Value.int 0) by rw [hk9]; rfl)) (fun _ h => h.in.sub [0, 1] rfl rfl) ⟨rfl, rfl⟩ 0 0 rfl rfl (Nat.le_of_ble_eq_true rfl) (Nat.le_of_ble_eq_true rfl) rfl (Nat.le_of_ble_eq_true rfl) dX6_reads_44 47 rfl ?_
        refine r_ifeq hC 55 dX6_reads_47 (by decide) 50 rfl (fun _ => ?_) (fun h => absurd h (by decide))
        refine r_aload_n hC 1 dX6_reads_55 rfl 56 rfl ?_
        refine r_ldc2 hC q3352 dX6_reads_56 59 rfl ?_
        rcases Bool.eq_false_or_eq_true (isW bf e 423 p5) with hk19 | hk19
        · skip
          refine r_invVr hC kX6 (b 0) [.long 423] (.int 1) mVX6_isWord q2941 (fun _ h => h.get 0 rfl) (xRm_v (metX6_isWord _ _ hG b i5 j5 bf e he p5 hr5 423) (show _ = some (Value.int 1) by rw [hk19]; rfl)) (fun _ h => h.in.sub [0, 1] rfl rfl) ⟨rfl, rfl⟩ 0 0 rfl rfl (Nat.le_of_ble_eq_true rfl) (Nat.le_of_ble_eq_true rfl) rfl (Nat.le_of_ble_eq_true rfl) dX6_reads_59 62 rfl ?_
          refine r_ifeq hC 70 dX6_reads_62 (by decide) 65 rfl (fun h => absurd h (by decide)) (fun _ => ?_)
          refine r_bipush hC 25 dX6_reads_65 bp_25 67 rfl ?_
          refine r_goto hC 71 dX6_reads_67 (by decide) ?_
          refine r_istore_n hC 2 [(2, .int 25), (1, .int 1), (0, .ref (b 0))] dX6_reads_71 rfl (Nat.le_of_ble_eq_true rfl) rfl 72 rfl ?_
          refine r_iload_n hC 0 dX6_reads_72 rfl 73 rfl ?_
          refine r_ifeq hC 80 dX6_reads_73 (by decide) 76 rfl (fun h => absurd h (by decide)) (fun _ => ?_)
          refine r_iconst hC 1 dX6_reads_76 ic_1 77 rfl ?_
          refine r_goto hC 81 dX6_reads_77 (by decide) ?_
          refine r_istore_n hC 1 [(1, .int 1), (2, .int 25), (0, .ref (b 0))] dX6_reads_81 rfl (Nat.le_of_ble_eq_true rfl) rfl 82 rfl ?_
          refine r_iload_n hC 0 dX6_reads_82 rfl 83 rfl ?_
          refine r_ifne hC 89 dX6_reads_83 (by decide) 86 rfl (fun _ => ?_) (fun h => absurd h (by decide))
          refine r_aload_n hC 2 dX6_reads_89 rfl 90 rfl ?_
          refine r_iload_n hC 1 dX6_reads_90 rfl 91 rfl ?_
          refine r_invSr hC [.int 25] (.int 1) mSX6_strength q3344 (xRm_v (metX6_strength _ _ hG 25) (show _ = some (Value.int 1) from rfl)) (fun _ _ => xIn.nil) ⟨rfl, rfl⟩ 0 0 rfl rfl (Nat.le_of_ble_eq_true rfl) (Nat.le_of_ble_eq_true rfl) rfl (Nat.le_of_ble_eq_true rfl) dX6_reads_91 94 rfl ?_
          refine r_invVw hC kX6 (b 0) [.int 1] [] mVX6_settles q3340 0 rfl (metX6_settlesG _ _ hG b i5 j5 bf co5 wt5 e he p5 L5 W5 hr5 hq5 1 (by decide) (by decide) ho5 (leP_lt200 hw5.1 hr5 ho5 he2)) [0, 1, 2, 3] [] rfl rfl rfl rfl (by decide) ⟨rfl, rfl⟩ 0 0 rfl rfl (Nat.le_of_ble_eq_true rfl) (Nat.le_of_ble_eq_true rfl) rfl (Nat.le_of_ble_eq_true rfl) dX6_reads_94 97 rfl (fun v21 w22 h23 => ?_) (fun _ _ h => h.elim)
          obtain ⟨rfl, i20, j20, co20, wt20, rfl, hr20, hq20, gi20, fj20⟩ := h23
          show rn CC (xSt F V0 [(b 0, .inr (5, mF b i20 j20)), (b 13, .inl (0, 600, .inl bf)), (b 33, .inl (0, 200, .inl co20)), (b 34, .inl (0, 200, .inl wt20))]) 0 0 97 [(1, .int 1), (2, .int 25), (0, .ref (b 0))] []
          refine r_aload_n hC 2 dX6_reads_97 rfl 98 rfl ?_
          refine r_get (v := .ref (b 34)) hC kX6 34 rfl q2787 (fun _ h => h.get 0 rfl) rfl dX6_reads_98 101 rfl ?_
          refine r_aload_n hC 2 dX6_reads_101 rfl 102 rfl ?_
          refine r_get (v := .int (i20 37)) hC kX6 37 rfl q2790 (fun _ h => h.get 0 rfl) rfl dX6_reads_102 105 rfl ?_
          refine r_eqi (y := nI (((setT 1 L5 W5).2).length)) (hq20.2.1) ?_
          refine r_iload_n hC 1 dX6_reads_105 rfl 106 rfl ?_
          refine r_iast (J := xSt F V0 [(b 0, .inr (5, mF b i20 j20)), (b 13, .inl (0, 600, .inl bf)), (b 33, .inl (0, 200, .inl co20)), (b 34, .inl (0, 200, .inl (va_up wt20 (((setT 1 L5 W5).2).length) 25)))]) hC (((setT 1 L5 W5).2).length) (xix_n ((setT 1 L5 W5).2).length (by have h1 := leP_ltW hk19 hw5.1; have h2 := setT_len (k := 1) W5 L5; omega) (Nat.le_of_ble_eq_true rfl)) (fun _ h => h.get 3 rfl) dX6_reads_106 (fun _ h => h.set 3 _ rfl) 107 rfl ?_
          generalize hu24 : va_up wt20 (((setT 1 L5 W5).2).length) 25 = u24
          refine r_aload_n hC 2 dX6_reads_107 rfl 108 rfl ?_
          refine r_dup hC dX6_reads_108 rfl 109 rfl ?_
          refine r_get (v := .int (i20 37)) hC kX6 37 rfl q2790 (fun _ h => h.get 0 rfl) rfl dX6_reads_109 112 rfl ?_
          refine r_eqi (y := nI (((setT 1 L5 W5).2).length)) (hq20.2.1) ?_
          refine r_iconst hC 1 dX6_reads_112 ic_1 113 rfl ?_
          refine r_iadd hC (nI (((setT 1 L5 W5).2).length + 1)) dX6_reads_113  (nI_add (((setT 1 L5 W5).2).length) 1) 114 rfl ?_
          refine r_put (J := xSt F V0 [(b 0, .inr (5, mF b (va_up i20 37 (nI (((setT 1 L5 W5).2).length + 1))) j20)), (b 13, .inl (0, 600, .inl bf)), (b 33, .inl (0, 200, .inl co20)), (b 34, .inl (0, 200, .inl u24))]) hC kX6 37 rfl q2790 rfl (fun _ h => h.get 0 rfl) (Nat.le_of_ble_eq_true rfl) rfl rfl dX6_reads_114 (fun _ h => h.set 0 _ rfl) 117 rfl ?_
          subst hu24
          refine r_aload_n hC 2 dX6_reads_117 rfl 118 rfl ?_
          refine r_invVw hC kX6 (b 0) [] [(b 33, .inl (0, 200, .inl co20)), (b 34, .inl (0, 200, .inl (va_up wt20 (((setT 1 L5 W5).2).length) 25)))] mVX6_next q2902 0 rfl (metX6_nextP _ _ hG b (va_up i20 37 (nI (((setT 1 L5 W5).2).length + 1))) j20 bf e he p5 (rd37 hr20) ho5) [0, 1] [2, 3] rfl rfl rfl rfl (by decide) ⟨rfl, rfl⟩ 0 0 rfl rfl (Nat.le_of_ble_eq_true rfl) (Nat.le_of_ble_eq_true rfl) rfl (Nat.le_of_ble_eq_true rfl) dX6_reads_118 121 rfl (fun v26 w27 h28 => ?_) (fun _ _ h => h.elim)
          obtain ⟨rfl, i25, j25, rfl, hr25, gi25, fj25⟩ := h28
          show rn CC (xSt F V0 [(b 33, .inl (0, 200, .inl co20)), (b 34, .inl (0, 200, .inl (va_up wt20 (((setT 1 L5 W5).2).length) 25))), (b 0, .inr (5, mF b i25 j25)), (b 13, .inl (0, 600, .inl bf))]) 0 0 121 [(1, .int 1), (2, .int 25), (0, .ref (b 0))] []
          refine r_goto hC 20 dX6_reads_121 (by decide) ?_
          refine rn.sub (lv' := [(1, .int 1), (0, .ref (b 0))]) [0, 2] rfl ?_
          refine rn.mono (J := xSt F V0 [(b 0, .inr (5, mF b i25 j25)), (b 13, .inl (0, 600, .inl bf)), (b 33, .inl (0, 200, .inl co20)), (b 34, .inl (0, 200, .inl (va_up wt20 (((setT 1 L5 W5).2).length) 25)))]) (fun _ h => h.sub [2, 3, 0, 1] rfl rfl) ?_
          have hmu2 := mu_nxW hk19
          exact ih _ _ _ _ _ _ _ (by omega) (okP_nx.trans ho5) hr25 ((qS_pushB (x := 25) hq20 (by decide)).g gi25) (qW_join hw5 hk19 (Or.inr rfl)) (((((hi.tr gi1).tr gi5).tr gi20).u37).trans gi25) ((((hj.trans fj1).trans fj5).trans fj20).trans fj25) (hR.trans (hm1.trans (hm5.trans (mch_o ht5 hn5 hk9 hk19))))
        · skip
          refine r_invVr hC kX6 (b 0) [.long 423] (.int 0) mVX6_isWord q2941 (fun _ h => h.get 0 rfl) (xRm_v (metX6_isWord _ _ hG b i5 j5 bf e he p5 hr5 423) (show _ = some (Value.int 0) by rw [hk19]; rfl)) (fun _ h => h.in.sub [0, 1] rfl rfl) ⟨rfl, rfl⟩ 0 0 rfl rfl (Nat.le_of_ble_eq_true rfl) (Nat.le_of_ble_eq_true rfl) rfl (Nat.le_of_ble_eq_true rfl) dX6_reads_59 62 rfl ?_
          refine r_ifeq hC 70 dX6_reads_62 (by decide) 65 rfl (fun _ => ?_) (fun h => absurd h (by decide))
          refine r_iconst hC 0 dX6_reads_70 ic_0 71 rfl ?_
          refine r_istore_n hC 2 [(2, .int 0), (1, .int 1), (0, .ref (b 0))] dX6_reads_71 rfl (Nat.le_of_ble_eq_true rfl) rfl 72 rfl ?_
          refine r_iload_n hC 0 dX6_reads_72 rfl 73 rfl ?_
          refine r_ifeq hC 80 dX6_reads_73 (by decide) 76 rfl (fun _ => ?_) (fun h => absurd h (by decide))
          refine r_iconst hC 0 dX6_reads_80 ic_0 81 rfl ?_
          refine r_istore_n hC 1 [(1, .int 0), (2, .int 0), (0, .ref (b 0))] dX6_reads_81 rfl (Nat.le_of_ble_eq_true rfl) rfl 82 rfl ?_
          refine r_iload_n hC 0 dX6_reads_82 rfl 83 rfl ?_
          refine r_ifne hC 89 dX6_reads_83 (by decide) 86 rfl (fun h => absurd h (by decide)) (fun _ => ?_)
          refine r_goto hC 20 dX6_reads_86 (by decide) ?_
          refine r_iload_n hC 0 dX6_reads_20 rfl 21 rfl ?_
          refine r_ifeq hC 124 dX6_reads_21 (by decide) 24 rfl (fun _ => ?_) (fun h => absurd h (by decide))
          refine rn.sub (lv' := [(0, .ref (b 0))]) [2] rfl ?_
          exact kx _ _ _ _ _ _ _ hr5 ((hi.tr gi1).tr gi5) ((hj.trans fj1).trans fj5) ho5 hq5 hw5 (hR.trans (hm1.trans hm5)) ht5 hn5 hk9 hk19
    · skip
      refine r_aload_n hC 1 dX6_reads_28 rfl 29 rfl ?_
      refine r_invVr hC kX6 (b 0) [] (.int 0) mVX6_isGood q2945 (fun _ h => h.get 0 rfl) (metX6_isGood _ _ hG b i1 _ 0 (by rw [rd_good hr1, ho1]; rfl)) (fun _ h => h.in.sub [0] rfl rfl) ⟨rfl, rfl⟩ 0 0 rfl rfl (Nat.le_of_ble_eq_true rfl) (Nat.le_of_ble_eq_true rfl) rfl (Nat.le_of_ble_eq_true rfl) dX6_reads_29 32 rfl ?_
      refine r_ifne hC 36 dX6_reads_32 (by decide) 35 rfl (fun h => absurd h (by decide)) (fun _ => ?_)
      refine rn.sub (lv' := []) [] rfl ?_
      exact kE _ _ _ _ [] [] _ ho1 (by rw [hR]; exact hm1) hr1 (hi.tr gi1) (hj.trans fj1)
set_option maxHeartbeats 4000000 in
set_option maxRecDepth 100000 in
theorem metX6_readsG (l : Launch) (G : xG) (hG : xGood G) (b : Nat → Nat) (i : Nat → Int32) (j : Nat → Int64) (bf co wt : Nat → Int32) (e : Nat) (he : e ≤ 600) (ps : PS) (hr : rdP bf e i j ps) (he2 : e ≤ 200) (ho : okP ps = true) : xWm l G yX6_reads (Cond.code yX6_reads cX6_reads 3 none) { frames := 6, locals := 129, cells := 0, slots := 0 } [.ref (b 0)] [(b 0, .inr (5, mF b i j)), (b 13, .inl (0, 600, .inl bf)), (b 33, .inl (0, 200, .inl co)), (b 34, .inl (0, 200, .inl wt))] (fun v w' => v = none ∧ ∃ (i' : Nat → Int32) (j' : Nat → Int64) (co' wt' : Nat → Int32) (L' W' : List Int32) (ps' : PS), w' = [(b 0, .inr (5, mF b i' j')), (b 13, .inl (0, 600, .inl bf)), (b 33, .inl (0, 200, .inl co')), (b 34, .inl (0, 200, .inl wt'))] ∧ rdP bf e i' j' ps' ∧ qI i i' ∧ fJ j j' ∧ rdsO bf e ps i' co' L' ps') (fun _ _ => False) := by
  intro V hV
  refine xMet_of RX6 hG rfl (by decide) (Nat.le_of_ble_eq_true rfl) fun C hC hQ hX hl hg _ => ?_
  subst hl hg
  obtain ⟨V0, hV0⟩ : ∃ V0, V0 = V := ⟨_, rfl⟩
  obtain ⟨F, hF⟩ : ∃ F, F = xF [(b 0, .inr (5, mF b i j)), (b 13, .inl (0, 600, .inl bf)), (b 33, .inl (0, 200, .inl co)), (b 34, .inl (0, 200, .inl wt))] := ⟨_, rfl⟩
  refine rn.mono (J := xSt F V0 [(b 0, .inr (5, mF b i j)), (b 13, .inl (0, 600, .inl bf)), (b 33, .inl (0, 200, .inl co)), (b 34, .inl (0, 200, .inl wt))]) (fun V9 h => by rw [h, hV0, hF]; exact hV.st) ?_
  show rn C (xSt F V0 [(b 0, .inr (5, mF b i j)), (b 13, .inl (0, 600, .inl bf)), (b 33, .inl (0, 200, .inl co)), (b 34, .inl (0, 200, .inl wt))]) 0 0 0 [(0, .ref (b 0))] []
  refine r_aload_n hC 0 dX6_reads_0 rfl 1 rfl ?_
  refine r_iconst hC 0 dX6_reads_1 ic_0 2 rfl ?_
  refine r_put (J := xSt F V0 [(b 0, .inr (5, mF b (va_up i 36 0) j)), (b 13, .inl (0, 600, .inl bf)), (b 33, .inl (0, 200, .inl co)), (b 34, .inl (0, 200, .inl wt))]) hC kX6 36 rfl q2789 rfl (fun _ h => h.get 0 rfl) (Nat.le_of_ble_eq_true rfl) rfl rfl dX6_reads_2 (fun _ h => h.set 0 _ rfl) 5 rfl ?_
  refine r_aload_n hC 0 dX6_reads_5 rfl 6 rfl ?_
  refine r_iconst hC 0 dX6_reads_6 ic_0 7 rfl ?_
  refine r_put (J := xSt F V0 [(b 0, .inr (5, mF b (va_up (va_up i 36 0) 38 0) j)), (b 13, .inl (0, 600, .inl bf)), (b 33, .inl (0, 200, .inl co)), (b 34, .inl (0, 200, .inl wt))]) hC kX6 38 rfl q2791 rfl (fun _ h => h.get 0 rfl) (Nat.le_of_ble_eq_true rfl) rfl rfl dX6_reads_7 (fun _ h => h.set 0 _ rfl) 10 rfl ?_
  refine r_aload_n hC 0 dX6_reads_10 rfl 11 rfl ?_
  refine r_iconst hC 0 dX6_reads_11 ic_0 12 rfl ?_
  refine r_put (J := xSt F V0 [(b 0, .inr (5, mF b (va_up (va_up (va_up i 36 0) 38 0) 37 0) j)), (b 13, .inl (0, 600, .inl bf)), (b 33, .inl (0, 200, .inl co)), (b 34, .inl (0, 200, .inl wt))]) hC kX6 37 rfl q2790 rfl (fun _ h => h.get 0 rfl) (Nat.le_of_ble_eq_true rfl) rfl rfl dX6_reads_12 (fun _ h => h.set 0 _ rfl) 15 rfl ?_
  refine r_aload_n hC 0 dX6_reads_15 rfl 16 rfl ?_
  refine r_invVr hC kX6 (b 0) [] (.int 1) mVX6_isGood q2945 (fun _ h => h.get 0 rfl) (metX6_isGood _ _ hG b (va_up (va_up (va_up i 36 0) 38 0) 37 0) _ 1 (by rw [rd_good (rd37 (rd38 (rd36 hr))), ho]; rfl)) (fun _ h => h.in.sub [0] rfl rfl) ⟨rfl, rfl⟩ 0 0 rfl rfl (Nat.le_of_ble_eq_true rfl) (Nat.le_of_ble_eq_true rfl) rfl (Nat.le_of_ble_eq_true rfl) dX6_reads_16 19 rfl ?_
  refine r_istore_n hC 1 [(1, .int 1), (0, .ref (b 0))] dX6_reads_19 rfl (Nat.le_of_ble_eq_true rfl) rfl 20 rfl ?_
  refine rn.sub (lv' := [(1, .int 1), (0, .ref (b 0))]) [0, 1] rfl ?_
  refine lpX6_reads hG hC b i j bf e he he2 (mch bf e true [] [] ps) (fun i9 j9 co9 wt9 L9 W9 p ho9 hR9 hr9 hi9 hj9 => ?_) (fun i9 j9 co9 wt9 L9 W9 p hr9 hi9 hj9 ho9 hq9 hw9 hR9 ht9 hn9 ha9 hb9 => ?_) (muP e ps) (va_up (va_up (va_up i 36 0) 38 0) 37 0) j co wt [] [] ps (Nat.le_refl _) ho (rd37 (rd38 (rd36 hr))) ⟨rfl, rfl, rfl, lsR_nil, trivial⟩ ⟨leP_0, fun _ h => absurd h (by simp), Nat.zero_le _⟩ ((((qI_refl i).u36).u38).u37) (fJ_refl j) rfl
  · skip
    exact r_vret hC (Nat.le_of_ble_eq_true rfl) (Nat.le_of_ble_eq_true rfl) (fun V9 h => hQ _ _ ⟨[(b 0, .inr (5, mF b i9 j9)), (b 13, .inl (0, 600, .inl bf)), (b 33, .inl (0, 200, .inl co9)), (b 34, .inl (0, 200, .inl wt9))], ⟨rfl, _, _, _, _, L9, W9, _, rfl, hr9, hi9, hj9, ⟨hR9, fun h => absurd h (nt ho9)⟩⟩, by rw [← hV0, ← hF]; exact h⟩) dX6_reads_35
  · skip
    obtain ⟨g, rfl, htk, h21, h22⟩ := rd_ok hr9 ho9
    refine r_aload_n hC 0 dX6_reads_124 rfl 125 rfl ?_
    refine r_invVr hC kX6 (b 0) [] (.int 1) mVX6_isGood q2945 (fun _ h => h.get 0 rfl) (metX6_isGood _ _ hG b i9 _ 1 (by rw [rd_good hr9, ho9]; rfl)) (fun _ h => h.in.sub [0] rfl rfl) ⟨rfl, rfl⟩ 0 0 rfl rfl (Nat.le_of_ble_eq_true rfl) (Nat.le_of_ble_eq_true rfl) rfl (Nat.le_of_ble_eq_true rfl) dX6_reads_125 128 rfl ?_
    refine r_ifeq hC 151 dX6_reads_128 (by decide) 131 rfl (fun h => absurd h (by decide)) (fun _ => ?_)
    refine r_aload_n hC 0 dX6_reads_131 rfl 132 rfl ?_
    rcases Bool.eq_false_or_eq_true (insQ W9) with hk1 | hk1
    · skip
      refine r_invVr hC kX6 (b 0) [] (.int 1) mVX6_isInside q3347 (fun _ h => h.get 0 rfl) (xRm_v (metX6_isInside _ _ hG b i9 j9 bf co9 wt9 L9 W9 hq9 (by have h1 := leP_lt200 hw9.1 hr9 ho9 he2; omega)) (show _ = some (Value.int 1) by rw [hk1]; rfl)) (fun _ h => h.in.sub [0, 1, 2, 3] rfl rfl) ⟨rfl, rfl⟩ 0 0 rfl rfl (Nat.le_of_ble_eq_true rfl) (Nat.le_of_ble_eq_true rfl) rfl (Nat.le_of_ble_eq_true rfl) dX6_reads_132 135 rfl ?_
      refine r_ifne hC 145 dX6_reads_135 (by decide) 138 rfl (fun _ => ?_) (fun h => absurd h (by decide))
      refine r_aload_n hC 0 dX6_reads_145 rfl 146 rfl ?_
      refine r_iconst hC 1 dX6_reads_146 ic_1 147 rfl ?_
      refine r_invVw hC kX6 (b 0) [.int 1] [(b 13, .inl (0, 600, .inl bf)), (b 33, .inl (0, 200, .inl co9)), (b 34, .inl (0, 200, .inl wt9))] mVX6_wrongs q2953 0 rfl (metX6_wrongsP _ _ hG b i9 j9 bf e he (.ok g) hr9 1 (by decide)) [0] [1, 2, 3] rfl rfl rfl rfl (by decide) ⟨rfl, rfl⟩ 0 0 rfl rfl (Nat.le_of_ble_eq_true rfl) (Nat.le_of_ble_eq_true rfl) rfl (Nat.le_of_ble_eq_true rfl) dX6_reads_147 150 rfl (fun v3 w4 h5 => ?_) (fun _ _ h => h.elim)
      obtain ⟨rfl, i2, j2, rfl, hr2, gi2, fj2⟩ := h5
      show rn C (xSt F V0 [(b 13, .inl (0, 600, .inl bf)), (b 33, .inl (0, 200, .inl co9)), (b 34, .inl (0, 200, .inl wt9)), (b 0, .inr (5, mF b i2 j2))]) 0 0 150 [(0, .ref (b 0))] [.int 0]
      refine r_pop hC dX6_reads_150 rfl 151 rfl ?_
      refine r_aload_n hC 0 dX6_reads_151 rfl 152 rfl ?_
      refine r_iconst hC 1 dX6_reads_152 ic_1 153 rfl ?_
      refine r_invVw hC kX6 (b 0) [.int 1] [] mVX6_settles q3340 3 rfl (metX6_settlesB _ _ hG b i2 j2 bf co9 wt9 e he (wrP 1 (.ok g)) L9 W9 hr2 (hq9.g gi2) 1 (by decide) (by decide) okP_wr) [3, 0, 1, 2] [] rfl rfl rfl rfl (by decide) ⟨rfl, rfl⟩ 0 0 rfl rfl (Nat.le_of_ble_eq_true rfl) (Nat.le_of_ble_eq_true rfl) rfl (Nat.le_of_ble_eq_true rfl) dX6_reads_153 156 rfl (fun v7 w8 h9 => ?_) (fun _ _ h => h.elim)
      obtain ⟨rfl, i6, j6, co6, wt6, rfl, hr6, hq6, gi6, fj6⟩ := h9
      show rn C (xSt F V0 [(b 0, .inr (5, mF b i6 j6)), (b 13, .inl (0, 600, .inl bf)), (b 33, .inl (0, 200, .inl co6)), (b 34, .inl (0, 200, .inl wt6))]) 0 0 156 [(0, .ref (b 0))] []
      exact r_vret hC (Nat.le_of_ble_eq_true rfl) (Nat.le_of_ble_eq_true rfl) (fun V9 h => hQ _ _ ⟨[(b 0, .inr (5, mF b i6 j6)), (b 13, .inl (0, 600, .inl bf)), (b 33, .inl (0, 200, .inl co6)), (b 34, .inl (0, 200, .inl wt6))], ⟨rfl, _, _, _, _, L9, W9, _, rfl, hr6, ((hi9.trans gi2).tr gi6), ((hj9.trans fj2).trans fj6), ⟨by rw [hR9, mch_e ho9 ht9 hn9 ha9 hb9, if_pos (show insQ W9 = true ∨ ¬ isK bf e 0 (.ok g) = true from Or.inl hk1)], fun h => absurd h (nt okP_wr)⟩⟩, by rw [← hV0, ← hF]; exact h⟩) dX6_reads_156
    · skip
      refine r_invVr hC kX6 (b 0) [] (.int 0) mVX6_isInside q3347 (fun _ h => h.get 0 rfl) (xRm_v (metX6_isInside _ _ hG b i9 j9 bf co9 wt9 L9 W9 hq9 (by have h1 := leP_lt200 hw9.1 hr9 ho9 he2; omega)) (show _ = some (Value.int 0) by rw [hk1]; rfl)) (fun _ h => h.in.sub [0, 1, 2, 3] rfl rfl) ⟨rfl, rfl⟩ 0 0 rfl rfl (Nat.le_of_ble_eq_true rfl) (Nat.le_of_ble_eq_true rfl) rfl (Nat.le_of_ble_eq_true rfl) dX6_reads_132 135 rfl ?_
      refine r_ifne hC 145 dX6_reads_135 (by decide) 138 rfl (fun h => absurd h (by decide)) (fun _ => ?_)
      refine r_aload_n hC 0 dX6_reads_138 rfl 139 rfl ?_
      refine r_get (v := .int (i9 18)) hC kX6 18 rfl q2771 (fun _ h => h.get 0 rfl) rfl dX6_reads_139 142 rfl ?_
      refine r_eqi (y := tKind bf e g) (htk.2.2.2.2.1) ?_
      refine r_ifeq hC 151 dX6_reads_142 (by decide) 145 rfl (fun c10 => ?_) (fun c10 => ?_)
      · skip
        refine r_aload_n hC 0 dX6_reads_151 rfl 152 rfl ?_
        refine r_iconst hC 1 dX6_reads_152 ic_1 153 rfl ?_
        refine r_invVw hC kX6 (b 0) [.int 1] [] mVX6_settles q3340 0 rfl (metX6_settlesG _ _ hG b i9 j9 bf co9 wt9 e he (.ok g) L9 W9 hr9 hq9 1 (by decide) (by decide) ho9 (leP_lt200 hw9.1 hr9 ho9 he2)) [0, 1, 2, 3] [] rfl rfl rfl rfl (by decide) ⟨rfl, rfl⟩ 0 0 rfl rfl (Nat.le_of_ble_eq_true rfl) (Nat.le_of_ble_eq_true rfl) rfl (Nat.le_of_ble_eq_true rfl) dX6_reads_153 156 rfl (fun v12 w13 h14 => ?_) (fun _ _ h => h.elim)
        obtain ⟨rfl, i11, j11, co11, wt11, rfl, hr11, hq11, gi11, fj11⟩ := h14
        show rn C (xSt F V0 [(b 0, .inr (5, mF b i11 j11)), (b 13, .inl (0, 600, .inl bf)), (b 33, .inl (0, 200, .inl co11)), (b 34, .inl (0, 200, .inl wt11))]) 0 0 156 [(0, .ref (b 0))] []
        exact r_vret hC (Nat.le_of_ble_eq_true rfl) (Nat.le_of_ble_eq_true rfl) (fun V9 h => hQ _ _ ⟨[(b 0, .inr (5, mF b i11 j11)), (b 13, .inl (0, 600, .inl bf)), (b 33, .inl (0, 200, .inl co11)), (b 34, .inl (0, 200, .inl wt11))], ⟨rfl, _, _, _, _, ((setT 1 L9 W9).1), ((setT 1 L9 W9).2), _, rfl, hr11, (hi9.tr gi11), (hj9.trans fj11), ⟨by rw [hR9, mch_e ho9 ht9 hn9 ha9 hb9, if_neg (show ¬ (insQ W9 = true ∨ ¬ isK bf e 0 (.ok g) = true) from fun h => h.elim (nt hk1) (fun h => h (decide_eq_true c10)))], fun _ => ⟨hq11.1, hq11.2.2.2.1, by rw [hR9, mch_e ho9 ht9 hn9 ha9 hb9, if_neg (show ¬ (insQ W9 = true ∨ ¬ isK bf e 0 (.ok g) = true) from fun h => h.elim (nt hk1) (fun h => h (decide_eq_true c10)))], by have h1 := setT_len (k := 1) W9 L9; have h2 := leP_lt200 hw9.1 hr9 ho9 he2; omega⟩⟩⟩, by rw [← hV0, ← hF]; exact h⟩) dX6_reads_156
      · skip
        refine r_aload_n hC 0 dX6_reads_145 rfl 146 rfl ?_
        refine r_iconst hC 1 dX6_reads_146 ic_1 147 rfl ?_
        refine r_invVw hC kX6 (b 0) [.int 1] [(b 13, .inl (0, 600, .inl bf)), (b 33, .inl (0, 200, .inl co9)), (b 34, .inl (0, 200, .inl wt9))] mVX6_wrongs q2953 0 rfl (metX6_wrongsP _ _ hG b i9 j9 bf e he (.ok g) hr9 1 (by decide)) [0] [1, 2, 3] rfl rfl rfl rfl (by decide) ⟨rfl, rfl⟩ 0 0 rfl rfl (Nat.le_of_ble_eq_true rfl) (Nat.le_of_ble_eq_true rfl) rfl (Nat.le_of_ble_eq_true rfl) dX6_reads_147 150 rfl (fun v16 w17 h18 => ?_) (fun _ _ h => h.elim)
        obtain ⟨rfl, i15, j15, rfl, hr15, gi15, fj15⟩ := h18
        show rn C (xSt F V0 [(b 13, .inl (0, 600, .inl bf)), (b 33, .inl (0, 200, .inl co9)), (b 34, .inl (0, 200, .inl wt9)), (b 0, .inr (5, mF b i15 j15))]) 0 0 150 [(0, .ref (b 0))] [.int 0]
        refine r_pop hC dX6_reads_150 rfl 151 rfl ?_
        refine r_aload_n hC 0 dX6_reads_151 rfl 152 rfl ?_
        refine r_iconst hC 1 dX6_reads_152 ic_1 153 rfl ?_
        refine r_invVw hC kX6 (b 0) [.int 1] [] mVX6_settles q3340 3 rfl (metX6_settlesB _ _ hG b i15 j15 bf co9 wt9 e he (wrP 1 (.ok g)) L9 W9 hr15 (hq9.g gi15) 1 (by decide) (by decide) okP_wr) [3, 0, 1, 2] [] rfl rfl rfl rfl (by decide) ⟨rfl, rfl⟩ 0 0 rfl rfl (Nat.le_of_ble_eq_true rfl) (Nat.le_of_ble_eq_true rfl) rfl (Nat.le_of_ble_eq_true rfl) dX6_reads_153 156 rfl (fun v20 w21 h22 => ?_) (fun _ _ h => h.elim)
        obtain ⟨rfl, i19, j19, co19, wt19, rfl, hr19, hq19, gi19, fj19⟩ := h22
        show rn C (xSt F V0 [(b 0, .inr (5, mF b i19 j19)), (b 13, .inl (0, 600, .inl bf)), (b 33, .inl (0, 200, .inl co19)), (b 34, .inl (0, 200, .inl wt19))]) 0 0 156 [(0, .ref (b 0))] []
        exact r_vret hC (Nat.le_of_ble_eq_true rfl) (Nat.le_of_ble_eq_true rfl) (fun V9 h => hQ _ _ ⟨[(b 0, .inr (5, mF b i19 j19)), (b 13, .inl (0, 600, .inl bf)), (b 33, .inl (0, 200, .inl co19)), (b 34, .inl (0, 200, .inl wt19))], ⟨rfl, _, _, _, _, L9, W9, _, rfl, hr19, ((hi9.trans gi15).tr gi19), ((hj9.trans fj15).trans fj19), ⟨by rw [hR9, mch_e ho9 ht9 hn9 ha9 hb9, if_pos (show insQ W9 = true ∨ ¬ isK bf e 0 (.ok g) = true from Or.inr (fun h => c10 (of_decide_eq_true h)))], fun h => absurd h (nt okP_wr)⟩⟩, by rw [← hV0, ← hF]; exact h⟩) dX6_reads_156
set_option maxHeartbeats 4000000 in
set_option maxRecDepth 100000 in
theorem metX6_readsB (l : Launch) (G : xG) (hG : xGood G) (b : Nat → Nat) (i : Nat → Int32) (j : Nat → Int64) (bf co wt : Nat → Int32) (e : Nat) (he : e ≤ 600) (ps : PS) (hr : rdP bf e i j ps) (he2 : e ≤ 200) (ho : okP ps = false) : xWm l G yX6_reads (Cond.code yX6_reads cX6_reads 3 none) { frames := 6, locals := 129, cells := 0, slots := 0 } [.ref (b 0)] [(b 0, .inr (5, mF b i j)), (b 13, .inl (0, 600, .inl bf)), (b 33, .inl (0, 200, .inl co)), (b 34, .inl (0, 200, .inl wt))] (fun v w' => v = none ∧ ∃ (i' : Nat → Int32) (j' : Nat → Int64) (co' wt' : Nat → Int32) (L' W' : List Int32) (ps' : PS), w' = [(b 0, .inr (5, mF b i' j')), (b 13, .inl (0, 600, .inl bf)), (b 33, .inl (0, 200, .inl co')), (b 34, .inl (0, 200, .inl wt'))] ∧ rdP bf e i' j' ps' ∧ qI i i' ∧ fJ j j' ∧ rdsO bf e ps i' co' L' ps') (fun _ _ => False) := by
  intro V hV
  refine xMet_of RX6 hG rfl (by decide) (Nat.le_of_ble_eq_true rfl) fun C hC hQ hX hl hg _ => ?_
  subst hl hg
  obtain ⟨V0, hV0⟩ : ∃ V0, V0 = V := ⟨_, rfl⟩
  obtain ⟨F, hF⟩ : ∃ F, F = xF [(b 0, .inr (5, mF b i j)), (b 13, .inl (0, 600, .inl bf)), (b 33, .inl (0, 200, .inl co)), (b 34, .inl (0, 200, .inl wt))] := ⟨_, rfl⟩
  refine rn.mono (J := xSt F V0 [(b 0, .inr (5, mF b i j)), (b 13, .inl (0, 600, .inl bf)), (b 33, .inl (0, 200, .inl co)), (b 34, .inl (0, 200, .inl wt))]) (fun V9 h => by rw [h, hV0, hF]; exact hV.st) ?_
  show rn C (xSt F V0 [(b 0, .inr (5, mF b i j)), (b 13, .inl (0, 600, .inl bf)), (b 33, .inl (0, 200, .inl co)), (b 34, .inl (0, 200, .inl wt))]) 0 0 0 [(0, .ref (b 0))] []
  refine r_aload_n hC 0 dX6_reads_0 rfl 1 rfl ?_
  refine r_iconst hC 0 dX6_reads_1 ic_0 2 rfl ?_
  refine r_put (J := xSt F V0 [(b 0, .inr (5, mF b (va_up i 36 0) j)), (b 13, .inl (0, 600, .inl bf)), (b 33, .inl (0, 200, .inl co)), (b 34, .inl (0, 200, .inl wt))]) hC kX6 36 rfl q2789 rfl (fun _ h => h.get 0 rfl) (Nat.le_of_ble_eq_true rfl) rfl rfl dX6_reads_2 (fun _ h => h.set 0 _ rfl) 5 rfl ?_
  refine r_aload_n hC 0 dX6_reads_5 rfl 6 rfl ?_
  refine r_iconst hC 0 dX6_reads_6 ic_0 7 rfl ?_
  refine r_put (J := xSt F V0 [(b 0, .inr (5, mF b (va_up (va_up i 36 0) 38 0) j)), (b 13, .inl (0, 600, .inl bf)), (b 33, .inl (0, 200, .inl co)), (b 34, .inl (0, 200, .inl wt))]) hC kX6 38 rfl q2791 rfl (fun _ h => h.get 0 rfl) (Nat.le_of_ble_eq_true rfl) rfl rfl dX6_reads_7 (fun _ h => h.set 0 _ rfl) 10 rfl ?_
  refine r_aload_n hC 0 dX6_reads_10 rfl 11 rfl ?_
  refine r_iconst hC 0 dX6_reads_11 ic_0 12 rfl ?_
  refine r_put (J := xSt F V0 [(b 0, .inr (5, mF b (va_up (va_up (va_up i 36 0) 38 0) 37 0) j)), (b 13, .inl (0, 600, .inl bf)), (b 33, .inl (0, 200, .inl co)), (b 34, .inl (0, 200, .inl wt))]) hC kX6 37 rfl q2790 rfl (fun _ h => h.get 0 rfl) (Nat.le_of_ble_eq_true rfl) rfl rfl dX6_reads_12 (fun _ h => h.set 0 _ rfl) 15 rfl ?_
  refine r_aload_n hC 0 dX6_reads_15 rfl 16 rfl ?_
  refine r_invVr hC kX6 (b 0) [] (.int 0) mVX6_isGood q2945 (fun _ h => h.get 0 rfl) (metX6_isGood _ _ hG b (va_up (va_up (va_up i 36 0) 38 0) 37 0) _ 0 (by rw [rd_good (rd37 (rd38 (rd36 hr))), ho]; rfl)) (fun _ h => h.in.sub [0] rfl rfl) ⟨rfl, rfl⟩ 0 0 rfl rfl (Nat.le_of_ble_eq_true rfl) (Nat.le_of_ble_eq_true rfl) rfl (Nat.le_of_ble_eq_true rfl) dX6_reads_16 19 rfl ?_
  refine r_istore_n hC 1 [(1, .int 0), (0, .ref (b 0))] dX6_reads_19 rfl (Nat.le_of_ble_eq_true rfl) rfl 20 rfl ?_
  refine r_iload_n hC 0 dX6_reads_20 rfl 21 rfl ?_
  refine r_ifeq hC 124 dX6_reads_21 (by decide) 24 rfl (fun _ => ?_) (fun h => absurd h (by decide))
  refine r_aload_n hC 1 dX6_reads_124 rfl 125 rfl ?_
  refine r_invVr hC kX6 (b 0) [] (.int 0) mVX6_isGood q2945 (fun _ h => h.get 0 rfl) (metX6_isGood _ _ hG b (va_up (va_up (va_up i 36 0) 38 0) 37 0) _ 0 (by rw [rd_good (rd37 (rd38 (rd36 hr))), ho]; rfl)) (fun _ h => h.in.sub [0] rfl rfl) ⟨rfl, rfl⟩ 0 0 rfl rfl (Nat.le_of_ble_eq_true rfl) (Nat.le_of_ble_eq_true rfl) rfl (Nat.le_of_ble_eq_true rfl) dX6_reads_125 128 rfl ?_
  refine r_ifeq hC 151 dX6_reads_128 (by decide) 131 rfl (fun _ => ?_) (fun h => absurd h (by decide))
  refine r_aload_n hC 1 dX6_reads_151 rfl 152 rfl ?_
  refine r_iconst hC 1 dX6_reads_152 ic_1 153 rfl ?_
  refine r_invVw hC kX6 (b 0) [.int 1] [] mVX6_settles q3340 0 rfl (metX6_settlesB _ _ hG b (va_up (va_up (va_up i 36 0) 38 0) 37 0) j bf co wt e he ps ([] : List Int32) ([] : List Int32) (rd37 (rd38 (rd36 hr))) ⟨rfl, rfl, rfl, lsR_nil, trivial⟩ 1 (by decide) (by decide) ho) [0, 1, 2, 3] [] rfl rfl rfl rfl (by decide) ⟨rfl, rfl⟩ 0 0 rfl rfl (Nat.le_of_ble_eq_true rfl) (Nat.le_of_ble_eq_true rfl) rfl (Nat.le_of_ble_eq_true rfl) dX6_reads_153 156 rfl (fun v2 w3 h4 => ?_) (fun _ _ h => h.elim)
  obtain ⟨rfl, i1, j1, co1, wt1, rfl, hr1, hq1, gi1, fj1⟩ := h4
  show rn C (xSt F V0 [(b 0, .inr (5, mF b i1 j1)), (b 13, .inl (0, 600, .inl bf)), (b 33, .inl (0, 200, .inl co1)), (b 34, .inl (0, 200, .inl wt1))]) 0 0 156 [(1, .int 0), (0, .ref (b 0))] []
  exact r_vret hC (Nat.le_of_ble_eq_true rfl) (Nat.le_of_ble_eq_true rfl) (fun V9 h => hQ _ _ ⟨[(b 0, .inr (5, mF b i1 j1)), (b 13, .inl (0, 600, .inl bf)), (b 33, .inl (0, 200, .inl co1)), (b 34, .inl (0, 200, .inl wt1))], ⟨rfl, _, _, _, _, ([] : List Int32), ([] : List Int32), _, rfl, hr1, (((((qI_refl i).u36).u38).u37).tr gi1), ((fJ_refl j).trans fj1), ⟨by rw [mch_bad ho], fun h => absurd h (nt ho)⟩⟩, by rw [← hV0, ← hF]; exact h⟩) dX6_reads_156
theorem metX6_reads (l : Launch) (G : xG) (hG : xGood G) (b : Nat → Nat) (i : Nat → Int32) (j : Nat → Int64) (bf co wt : Nat → Int32) (e : Nat) (he : e ≤ 600) (ps : PS) (hr : rdP bf e i j ps) (he2 : e ≤ 200) : xWm l G yX6_reads (Cond.code yX6_reads cX6_reads 3 none) { frames := 6, locals := 129, cells := 0, slots := 0 } [.ref (b 0)] [(b 0, .inr (5, mF b i j)), (b 13, .inl (0, 600, .inl bf)), (b 33, .inl (0, 200, .inl co)), (b 34, .inl (0, 200, .inl wt))] (fun v w' => v = none ∧ ∃ (i' : Nat → Int32) (j' : Nat → Int64) (co' wt' : Nat → Int32) (L' W' : List Int32) (ps' : PS), w' = [(b 0, .inr (5, mF b i' j')), (b 13, .inl (0, 600, .inl bf)), (b 33, .inl (0, 200, .inl co')), (b 34, .inl (0, 200, .inl wt'))] ∧ rdP bf e i' j' ps' ∧ qI i i' ∧ fJ j j' ∧ rdsO bf e ps i' co' L' ps') (fun _ _ => False) := by
  cases ho : okP ps with
  | true => exact metX6_readsG l G hG b i j bf co wt e he ps hr he2 ho
  | false => exact metX6_readsB l G hG b i j bf co wt e he ps hr he2 ho
