/-! ===== the reference: errors asked ===== -/
set_option maxRecDepth 100000
def errQ (kd : Nat) (pa : Nat → Int64) (N : Nat) : Int64 := if kd = 0 then chaseQ pa N else if kd = 1 then centreQ pa N else if kd = 2 then returnQ pa N else mirrorQ pa N
def fitsQ (kd N : Nat) : Bool := if kd = 0 then decide (N % 3 = 0) else if kd = 1 then decide (N % 2 = 0) else true
/-- the error of the path from a row on; 2 ^ 62: there is none -/
def errF (t fr pa : Nat → Int64) (kd N : Nat) : Int64 := if (pathQ t fr pa N).1 = N then errQ kd (pathQ t fr pa N).2.2 N else 4611686018427387904
theorem errQ_0 {pa : Nat → Int64} {N : Nat} : errQ 0 pa N = chaseQ pa N := if_pos rfl
theorem errQ_1 {pa : Nat → Int64} {N : Nat} : errQ 1 pa N = centreQ pa N := by unfold errQ; rw [if_neg (by decide), if_pos rfl]
theorem errQ_2 {pa : Nat → Int64} {N : Nat} : errQ 2 pa N = returnQ pa N := by unfold errQ; rw [if_neg (by decide), if_neg (by decide), if_pos rfl]
theorem errQ_3 {pa : Nat → Int64} {N : Nat} : errQ 3 pa N = mirrorQ pa N := by unfold errQ; rw [if_neg (by decide), if_neg (by decide), if_neg (by decide)]
set_option maxHeartbeats 4000000 in
set_option maxRecDepth 100000 in
theorem metX6_errorOf0 (l : Launch) (G : xG) (hG : xGood G) (b : Nat → Nat) (i : Nat → Int32) (j : Nat → Int64) (pa : Nat → Int64) (N : Nat) (hN : N ≤ 300) (hN0 : 0 < N) : xRm l G yX6_errorOf (Cond.code yX6_errorOf cX6_errorOf 3 (some .long)) { frames := 3, locals := 72, cells := 0, slots := 0 } [.ref (b 0), .int 0, .int (nI N)] [(b 0, .inr (5, mF b i j)), (b 25, .inl (1, 1806, .inr (.inl pa)))] (some (.long (errQ 0 pa N))) := by
  intro V hV
  refine xMet_of RX6 hG rfl (by decide) (Nat.le_of_ble_eq_true rfl) fun C hC hQ hX hl hg _ => ?_
  subst hl hg
  refine rn.mono (J := xRo [(b 0, .inr (5, mF b i j)), (b 25, .inl (1, 1806, .inr (.inl pa)))] V) (fun V9 h => ⟨h, hV⟩) ?_
  show rn C (xRo [(b 0, .inr (5, mF b i j)), (b 25, .inl (1, 1806, .inr (.inl pa)))] V) 0 0 0 [(0, .ref (b 0)), (1, .int 0), (2, .int (nI N))] []
  refine r_iload_n hC 1 dX6_errorOf_0 rfl 1 rfl ?_
  refine r_tblIn hC 28 dX6_errorOf_1 (by decide) (by decide) rfl (by decide) ?_
  refine r_aload_n hC 0 dX6_errorOf_28 rfl 29 rfl ?_
  refine r_iload_n hC 2 dX6_errorOf_29 rfl 30 rfl ?_
  refine r_invVr hC kX6 (b 0) [.int (nI N)] (.long (chaseQ pa N)) mVX6_chaseError q3194 (fun _ h => h.get 0 rfl) (metX6_chaseError _ _ hG b _ _ _ N (by omega) (by omega)) (fun _ h => h.in.sub [0, 1] rfl rfl) ⟨rfl, rfl⟩ 0 0 rfl rfl (Nat.le_of_ble_eq_true rfl) (Nat.le_of_ble_eq_true rfl) rfl (Nat.le_of_ble_eq_true rfl) dX6_errorOf_30 33 rfl ?_
  exact r_lret hC (Nat.le_of_ble_eq_true rfl) (Nat.le_of_ble_eq_true rfl) (fun V9 h => hQ _ _ ⟨by rw [errQ_0], h.1⟩) dX6_errorOf_33
set_option maxHeartbeats 4000000 in
set_option maxRecDepth 100000 in
theorem metX6_errorOf1 (l : Launch) (G : xG) (hG : xGood G) (b : Nat → Nat) (i : Nat → Int32) (j : Nat → Int64) (pa : Nat → Int64) (N : Nat) (hN : N ≤ 300) (hN0 : 0 < N) : xRm l G yX6_errorOf (Cond.code yX6_errorOf cX6_errorOf 3 (some .long)) { frames := 3, locals := 72, cells := 0, slots := 0 } [.ref (b 0), .int 1, .int (nI N)] [(b 0, .inr (5, mF b i j)), (b 25, .inl (1, 1806, .inr (.inl pa)))] (some (.long (errQ 1 pa N))) := by
  intro V hV
  refine xMet_of RX6 hG rfl (by decide) (Nat.le_of_ble_eq_true rfl) fun C hC hQ hX hl hg _ => ?_
  subst hl hg
  refine rn.mono (J := xRo [(b 0, .inr (5, mF b i j)), (b 25, .inl (1, 1806, .inr (.inl pa)))] V) (fun V9 h => ⟨h, hV⟩) ?_
  show rn C (xRo [(b 0, .inr (5, mF b i j)), (b 25, .inl (1, 1806, .inr (.inl pa)))] V) 0 0 0 [(0, .ref (b 0)), (1, .int 1), (2, .int (nI N))] []
  refine r_iload_n hC 1 dX6_errorOf_0 rfl 1 rfl ?_
  refine r_tblIn hC 34 dX6_errorOf_1 (by decide) (by decide) rfl (by decide) ?_
  refine r_aload_n hC 0 dX6_errorOf_34 rfl 35 rfl ?_
  refine r_iload_n hC 2 dX6_errorOf_35 rfl 36 rfl ?_
  refine r_invVr hC kX6 (b 0) [.int (nI N)] (.long (centreQ pa N)) mVX6_centreError q3215 (fun _ h => h.get 0 rfl) (metX6_centreError _ _ hG b _ _ _ N (by omega) (by omega)) (fun _ h => h.in.sub [0, 1] rfl rfl) ⟨rfl, rfl⟩ 0 0 rfl rfl (Nat.le_of_ble_eq_true rfl) (Nat.le_of_ble_eq_true rfl) rfl (Nat.le_of_ble_eq_true rfl) dX6_errorOf_36 39 rfl ?_
  exact r_lret hC (Nat.le_of_ble_eq_true rfl) (Nat.le_of_ble_eq_true rfl) (fun V9 h => hQ _ _ ⟨by rw [errQ_1], h.1⟩) dX6_errorOf_39
set_option maxHeartbeats 4000000 in
set_option maxRecDepth 100000 in
theorem metX6_errorOf2 (l : Launch) (G : xG) (hG : xGood G) (b : Nat → Nat) (i : Nat → Int32) (j : Nat → Int64) (pa : Nat → Int64) (N : Nat) (hN : N ≤ 300) (hN0 : 0 < N) : xRm l G yX6_errorOf (Cond.code yX6_errorOf cX6_errorOf 3 (some .long)) { frames := 3, locals := 72, cells := 0, slots := 0 } [.ref (b 0), .int 2, .int (nI N)] [(b 0, .inr (5, mF b i j)), (b 25, .inl (1, 1806, .inr (.inl pa)))] (some (.long (errQ 2 pa N))) := by
  intro V hV
  refine xMet_of RX6 hG rfl (by decide) (Nat.le_of_ble_eq_true rfl) fun C hC hQ hX hl hg _ => ?_
  subst hl hg
  refine rn.mono (J := xRo [(b 0, .inr (5, mF b i j)), (b 25, .inl (1, 1806, .inr (.inl pa)))] V) (fun V9 h => ⟨h, hV⟩) ?_
  show rn C (xRo [(b 0, .inr (5, mF b i j)), (b 25, .inl (1, 1806, .inr (.inl pa)))] V) 0 0 0 [(0, .ref (b 0)), (1, .int 2), (2, .int (nI N))] []
  refine r_iload_n hC 1 dX6_errorOf_0 rfl 1 rfl ?_
  refine r_tblIn hC 40 dX6_errorOf_1 (by decide) (by decide) rfl (by decide) ?_
  refine r_aload_n hC 0 dX6_errorOf_40 rfl 41 rfl ?_
  refine r_iload_n hC 2 dX6_errorOf_41 rfl 42 rfl ?_
  refine r_invVr hC kX6 (b 0) [.int (nI N)] (.long (returnQ pa N)) mVX6_returnError q3219 (fun _ h => h.get 0 rfl) (metX6_returnError _ _ hG b _ _ _ N (by omega) (by omega)) (fun _ h => h.in.sub [0, 1] rfl rfl) ⟨rfl, rfl⟩ 0 0 rfl rfl (Nat.le_of_ble_eq_true rfl) (Nat.le_of_ble_eq_true rfl) rfl (Nat.le_of_ble_eq_true rfl) dX6_errorOf_42 45 rfl ?_
  exact r_lret hC (Nat.le_of_ble_eq_true rfl) (Nat.le_of_ble_eq_true rfl) (fun V9 h => hQ _ _ ⟨by rw [errQ_2], h.1⟩) dX6_errorOf_45
set_option maxHeartbeats 4000000 in
set_option maxRecDepth 100000 in
theorem metX6_errorOf3 (l : Launch) (G : xG) (hG : xGood G) (b : Nat → Nat) (i : Nat → Int32) (j : Nat → Int64) (pa : Nat → Int64) (N : Nat) (hN : N ≤ 300) (hN0 : 0 < N) : xRm l G yX6_errorOf (Cond.code yX6_errorOf cX6_errorOf 3 (some .long)) { frames := 3, locals := 72, cells := 0, slots := 0 } [.ref (b 0), .int 3, .int (nI N)] [(b 0, .inr (5, mF b i j)), (b 25, .inl (1, 1806, .inr (.inl pa)))] (some (.long (errQ 3 pa N))) := by
  intro V hV
  refine xMet_of RX6 hG rfl (by decide) (Nat.le_of_ble_eq_true rfl) fun C hC hQ hX hl hg _ => ?_
  subst hl hg
  refine rn.mono (J := xRo [(b 0, .inr (5, mF b i j)), (b 25, .inl (1, 1806, .inr (.inl pa)))] V) (fun V9 h => ⟨h, hV⟩) ?_
  show rn C (xRo [(b 0, .inr (5, mF b i j)), (b 25, .inl (1, 1806, .inr (.inl pa)))] V) 0 0 0 [(0, .ref (b 0)), (1, .int 3), (2, .int (nI N))] []
  refine r_iload_n hC 1 dX6_errorOf_0 rfl 1 rfl ?_
  refine r_tblOut hC 46 dX6_errorOf_1 (by decide) (by decide) ?_
  refine r_aload_n hC 0 dX6_errorOf_46 rfl 47 rfl ?_
  refine r_iload_n hC 2 dX6_errorOf_47 rfl 48 rfl ?_
  refine r_invVr hC kX6 (b 0) [.int (nI N)] (.long (mirrorQ pa N)) mVX6_mirrorError q3223 (fun _ h => h.get 0 rfl) (metX6_mirrorError _ _ hG b _ _ _ N (by omega) (by omega)) (fun _ h => h.in.sub [0, 1] rfl rfl) ⟨rfl, rfl⟩ 0 0 rfl rfl (Nat.le_of_ble_eq_true rfl) (Nat.le_of_ble_eq_true rfl) rfl (Nat.le_of_ble_eq_true rfl) dX6_errorOf_48 51 rfl ?_
  exact r_lret hC (Nat.le_of_ble_eq_true rfl) (Nat.le_of_ble_eq_true rfl) (fun V9 h => hQ _ _ ⟨by rw [errQ_3], h.1⟩) dX6_errorOf_51
set_option maxHeartbeats 4000000 in
set_option maxRecDepth 100000 in
theorem metX6_errorOf (l : Launch) (G : xG) (hG : xGood G) (b : Nat → Nat) (i : Nat → Int32) (j : Nat → Int64) (pa : Nat → Int64) (N : Nat) (hN : N ≤ 300) (hN0 : 0 < N) (kd : Nat) (hkd : kd < 4) : xRm l G yX6_errorOf (Cond.code yX6_errorOf cX6_errorOf 3 (some .long)) { frames := 3, locals := 72, cells := 0, slots := 0 } [.ref (b 0), .int (nI kd), .int (nI N)] [(b 0, .inr (5, mF b i j)), (b 25, .inl (1, 1806, .inr (.inl pa)))] (some (.long (errQ kd pa N))) := by
  rcases (show kd = 0 ∨ kd = 1 ∨ kd = 2 ∨ kd = 3 by omega) with rfl | rfl | rfl | rfl
  · exact metX6_errorOf0 l G hG b i j pa N hN hN0
  · exact metX6_errorOf1 l G hG b i j pa N hN hN0
  · exact metX6_errorOf2 l G hG b i j pa N hN hN0
  · exact metX6_errorOf3 l G hG b i j pa N hN hN0
set_option maxHeartbeats 4000000 in
set_option maxRecDepth 100000 in
theorem metX6_fits0 (l : Launch) (G : xG) (hG : xGood G) (N : Nat) (hN : N ≤ 300) (z : Int32) (hz : bI (fitsQ 0 N) = z) : xRm l G yX6_fits (Cond.code yX6_fits cX6_fits 2 (some .boolean)) { frames := 0, locals := 0, cells := 0, slots := 0 } [.int 0, .int (nI N)] [] (some (.int z)) := by
  intro V hV
  refine xMet_of RX6 hG rfl (by decide) (Nat.le_of_ble_eq_true rfl) fun C hC hQ hX hl hg _ => ?_
  subst hl hg
  refine rn.mono (J := xRo [] V) (fun V9 h => ⟨h, hV⟩) ?_
  show rn C (xRo [] V) 0 0 0 [(0, .int 0), (1, .int (nI N))] []
  refine r_iload_n hC 0 dX6_fits_0 rfl 1 rfl ?_
  refine r_ifne hC 18 dX6_fits_1 (by decide) 4 rfl (fun h => absurd h (by decide)) (fun _ => ?_)
  refine r_iload_n hC 1 dX6_fits_4 rfl 5 rfl ?_
  refine r_iconst hC 3 dX6_fits_5 ic_3 6 rfl ?_
  refine r_irem hC (nI (N % 3)) dX6_fits_6 (by decide) (pk_rem (a := N) (d := 3) (by omega) (by omega) (by omega)) 7 rfl ?_
  refine r_ifne hC 14 dX6_fits_7 (by decide) 10 rfl (fun c1 => ?_) (fun c1 => ?_)
  · skip
    refine r_iconst hC 0 dX6_fits_14 ic_0 15 rfl ?_
    refine r_goto hC 34 dX6_fits_15 (by decide) ?_
    exact r_zret hC (by decide) (Nat.le_of_ble_eq_true rfl) (Nat.le_of_ble_eq_true rfl) (fun V9 h => hQ _ _ ⟨by rw [← hz]; simp [fitsQ, bI, (show ¬ N % 3 = 0 from fun q => c1 (by rw [q]; rfl))], h.1⟩) dX6_fits_34
  · skip
    refine r_iconst hC 1 dX6_fits_10 ic_1 11 rfl ?_
    refine r_goto hC 34 dX6_fits_11 (by decide) ?_
    exact r_zret hC (by decide) (Nat.le_of_ble_eq_true rfl) (Nat.le_of_ble_eq_true rfl) (fun V9 h => hQ _ _ ⟨by rw [← hz]; simp [fitsQ, bI, (nI_eq (a := N % 3) (b := 0) (by omega) (by decide)).mp c1], h.1⟩) dX6_fits_34
set_option maxHeartbeats 4000000 in
set_option maxRecDepth 100000 in
theorem metX6_fits1 (l : Launch) (G : xG) (hG : xGood G) (N : Nat) (hN : N ≤ 300) (z : Int32) (hz : bI (fitsQ 1 N) = z) : xRm l G yX6_fits (Cond.code yX6_fits cX6_fits 2 (some .boolean)) { frames := 0, locals := 0, cells := 0, slots := 0 } [.int 1, .int (nI N)] [] (some (.int z)) := by
  intro V hV
  refine xMet_of RX6 hG rfl (by decide) (Nat.le_of_ble_eq_true rfl) fun C hC hQ hX hl hg _ => ?_
  subst hl hg
  refine rn.mono (J := xRo [] V) (fun V9 h => ⟨h, hV⟩) ?_
  show rn C (xRo [] V) 0 0 0 [(0, .int 1), (1, .int (nI N))] []
  refine r_iload_n hC 0 dX6_fits_0 rfl 1 rfl ?_
  refine r_ifne hC 18 dX6_fits_1 (by decide) 4 rfl (fun _ => ?_) (fun h => absurd h (by decide))
  refine r_iload_n hC 0 dX6_fits_18 rfl 19 rfl ?_
  refine r_iconst hC 1 dX6_fits_19 ic_1 20 rfl ?_
  refine r_icne hC 29 dX6_fits_20 (by decide) 23 rfl (fun h => absurd h (by decide)) (fun _ => ?_)
  refine r_iload_n hC 1 dX6_fits_23 rfl 24 rfl ?_
  refine r_iconst hC 2 dX6_fits_24 ic_2 25 rfl ?_
  refine r_irem hC (nI (N % 2)) dX6_fits_25 (by decide) (pk_rem (a := N) (d := 2) (by omega) (by omega) (by omega)) 26 rfl ?_
  refine r_ifne hC 33 dX6_fits_26 (by decide) 29 rfl (fun c1 => ?_) (fun c1 => ?_)
  · skip
    refine r_iconst hC 0 dX6_fits_33 ic_0 34 rfl ?_
    exact r_zret hC (by decide) (Nat.le_of_ble_eq_true rfl) (Nat.le_of_ble_eq_true rfl) (fun V9 h => hQ _ _ ⟨by rw [← hz]; simp [fitsQ, bI, (show ¬ N % 2 = 0 from fun q => c1 (by rw [q]; rfl))], h.1⟩) dX6_fits_34
  · skip
    refine r_iconst hC 1 dX6_fits_29 ic_1 30 rfl ?_
    refine r_goto hC 34 dX6_fits_30 (by decide) ?_
    exact r_zret hC (by decide) (Nat.le_of_ble_eq_true rfl) (Nat.le_of_ble_eq_true rfl) (fun V9 h => hQ _ _ ⟨by rw [← hz]; simp [fitsQ, bI, (nI_eq (a := N % 2) (b := 0) (by omega) (by decide)).mp c1], h.1⟩) dX6_fits_34
set_option maxHeartbeats 4000000 in
set_option maxRecDepth 100000 in
theorem metX6_fits2 (l : Launch) (G : xG) (hG : xGood G) (N : Nat) (hN : N ≤ 300) (z : Int32) (hz : bI (fitsQ 2 N) = z) : xRm l G yX6_fits (Cond.code yX6_fits cX6_fits 2 (some .boolean)) { frames := 0, locals := 0, cells := 0, slots := 0 } [.int 2, .int (nI N)] [] (some (.int z)) := by
  intro V hV
  refine xMet_of RX6 hG rfl (by decide) (Nat.le_of_ble_eq_true rfl) fun C hC hQ hX hl hg _ => ?_
  subst hl hg
  refine rn.mono (J := xRo [] V) (fun V9 h => ⟨h, hV⟩) ?_
  show rn C (xRo [] V) 0 0 0 [(0, .int 2), (1, .int (nI N))] []
  refine r_iload_n hC 0 dX6_fits_0 rfl 1 rfl ?_
  refine r_ifne hC 18 dX6_fits_1 (by decide) 4 rfl (fun _ => ?_) (fun h => absurd h (by decide))
  refine r_iload_n hC 0 dX6_fits_18 rfl 19 rfl ?_
  refine r_iconst hC 1 dX6_fits_19 ic_1 20 rfl ?_
  refine r_icne hC 29 dX6_fits_20 (by decide) 23 rfl (fun _ => ?_) (fun h => absurd h (by decide))
  refine r_iconst hC 1 dX6_fits_29 ic_1 30 rfl ?_
  refine r_goto hC 34 dX6_fits_30 (by decide) ?_
  exact r_zret hC (by decide) (Nat.le_of_ble_eq_true rfl) (Nat.le_of_ble_eq_true rfl) (fun V9 h => hQ _ _ ⟨by rw [← hz]; simp [fitsQ, bI], h.1⟩) dX6_fits_34
set_option maxHeartbeats 4000000 in
set_option maxRecDepth 100000 in
theorem metX6_fits3 (l : Launch) (G : xG) (hG : xGood G) (N : Nat) (hN : N ≤ 300) (z : Int32) (hz : bI (fitsQ 3 N) = z) : xRm l G yX6_fits (Cond.code yX6_fits cX6_fits 2 (some .boolean)) { frames := 0, locals := 0, cells := 0, slots := 0 } [.int 3, .int (nI N)] [] (some (.int z)) := by
  intro V hV
  refine xMet_of RX6 hG rfl (by decide) (Nat.le_of_ble_eq_true rfl) fun C hC hQ hX hl hg _ => ?_
  subst hl hg
  refine rn.mono (J := xRo [] V) (fun V9 h => ⟨h, hV⟩) ?_
  show rn C (xRo [] V) 0 0 0 [(0, .int 3), (1, .int (nI N))] []
  refine r_iload_n hC 0 dX6_fits_0 rfl 1 rfl ?_
  refine r_ifne hC 18 dX6_fits_1 (by decide) 4 rfl (fun _ => ?_) (fun h => absurd h (by decide))
  refine r_iload_n hC 0 dX6_fits_18 rfl 19 rfl ?_
  refine r_iconst hC 1 dX6_fits_19 ic_1 20 rfl ?_
  refine r_icne hC 29 dX6_fits_20 (by decide) 23 rfl (fun _ => ?_) (fun h => absurd h (by decide))
  refine r_iconst hC 1 dX6_fits_29 ic_1 30 rfl ?_
  refine r_goto hC 34 dX6_fits_30 (by decide) ?_
  exact r_zret hC (by decide) (Nat.le_of_ble_eq_true rfl) (Nat.le_of_ble_eq_true rfl) (fun V9 h => hQ _ _ ⟨by rw [← hz]; simp [fitsQ, bI], h.1⟩) dX6_fits_34
set_option maxHeartbeats 4000000 in
set_option maxRecDepth 100000 in
theorem metX6_fits (l : Launch) (G : xG) (hG : xGood G) (N : Nat) (hN : N ≤ 300) (kd : Nat) (hkd : kd < 4) (z : Int32) (hz : bI (fitsQ kd N) = z) : xRm l G yX6_fits (Cond.code yX6_fits cX6_fits 2 (some .boolean)) { frames := 0, locals := 0, cells := 0, slots := 0 } [.int (nI kd), .int (nI N)] [] (some (.int z)) := by
  rcases (show kd = 0 ∨ kd = 1 ∨ kd = 2 ∨ kd = 3 by omega) with rfl | rfl | rfl | rfl
  · exact metX6_fits0 l G hG N hN z hz
  · exact metX6_fits1 l G hG N hN z hz
  · exact metX6_fits2 l G hG N hN z hz
  · exact metX6_fits3 l G hG N hN z hz
set_option maxHeartbeats 4000000 in
set_option maxRecDepth 100000 in
theorem metX6_errorFrom1 (l : Launch) (G : xG) (hG : xGood G) (b : Nat → Nat) (i : Nat → Int32) (j : Nat → Int64) (a : Nat) (t fr th g h0 pa : Nat → Int64) (N kd : Nat) (ht : tOK t) (hm : mOK fr) (hN : N ≤ 300) (hN0 : 0 < N) (hkd : kd < 4) (hp : (pathQ t fr pa N).1 = N) : xWm l G yX6_errorFrom (Cond.code yX6_errorFrom cX6_errorFrom 4 (some .long)) { frames := 8, locals := 201, cells := 0, slots := 0 } [.ref (b 0), .ref a, .int (nI kd), .int (nI N)] [(b 0, .inr (5, mF b i j)), (b 7, .inl (1, 5, .inr (.inl t))), (b 2, .inl (1, 111, .inr (.inl th))), (b 23, .inl (1, 6, .inr (.inl g))), (b 24, .inl (1, 21, .inr (.inl h0))), (b 25, .inl (1, 1806, .inr (.inl pa))), (a, .inl (1, 111, .inr (.inl fr)))] (fun v w' => ∃ th' g' h' : Nat → Int64, v = some (.long (errF t fr pa kd N)) ∧ w' = [(b 0, .inr (5, mF b i j)), (b 7, .inl (1, 5, .inr (.inl t))), (b 2, .inl (1, 111, .inr (.inl th'))), (b 23, .inl (1, 6, .inr (.inl g'))), (b 24, .inl (1, 21, .inr (.inl h'))), (b 25, .inl (1, 1806, .inr (.inl ((pathQ t fr pa N).2.2)))), (a, .inl (1, 111, .inr (.inl fr)))]) (fun _ _ => False) := by
  intro V hV
  refine xMet_of RX6 hG rfl (by decide) (Nat.le_of_ble_eq_true rfl) fun C hC hQ hX hl hg _ => ?_
  subst hl hg
  obtain ⟨V0, hV0⟩ : ∃ V0, V0 = V := ⟨_, rfl⟩
  obtain ⟨F, hF⟩ : ∃ F, F = xF [(b 0, .inr (5, mF b i j)), (b 7, .inl (1, 5, .inr (.inl t))), (b 2, .inl (1, 111, .inr (.inl th))), (b 23, .inl (1, 6, .inr (.inl g))), (b 24, .inl (1, 21, .inr (.inl h0))), (b 25, .inl (1, 1806, .inr (.inl pa))), (a, .inl (1, 111, .inr (.inl fr)))] := ⟨_, rfl⟩
  refine rn.mono (J := xSt F V0 [(b 0, .inr (5, mF b i j)), (b 7, .inl (1, 5, .inr (.inl t))), (b 2, .inl (1, 111, .inr (.inl th))), (b 23, .inl (1, 6, .inr (.inl g))), (b 24, .inl (1, 21, .inr (.inl h0))), (b 25, .inl (1, 1806, .inr (.inl pa))), (a, .inl (1, 111, .inr (.inl fr)))]) (fun V9 h => by rw [h, hV0, hF]; exact hV.st) ?_
  show rn C (xSt F V0 [(b 0, .inr (5, mF b i j)), (b 7, .inl (1, 5, .inr (.inl t))), (b 2, .inl (1, 111, .inr (.inl th))), (b 23, .inl (1, 6, .inr (.inl g))), (b 24, .inl (1, 21, .inr (.inl h0))), (b 25, .inl (1, 1806, .inr (.inl pa))), (a, .inl (1, 111, .inr (.inl fr)))]) 0 0 0 [(0, .ref (b 0)), (1, .ref a), (2, .int (nI kd)), (3, .int (nI N))] []
  refine r_aload_n hC 0 dX6_errorFrom_0 rfl 1 rfl ?_
  refine r_aload_n hC 1 dX6_errorFrom_1 rfl 2 rfl ?_
  refine r_iload_n hC 3 dX6_errorFrom_2 rfl 3 rfl ?_
  refine r_invVw hC kX6 (b 0) [.ref a, .int (nI N)] [] mVX6_laysPath q3182 0 rfl (metX6_laysPath _ _ hG b _ _ a _ _ _ _ _ _ N ht hm (by omega)) [0, 1, 2, 3, 4, 5, 6] [] rfl rfl rfl rfl (by decide) ⟨rfl, rfl⟩ 0 0 rfl rfl (Nat.le_of_ble_eq_true rfl) (Nat.le_of_ble_eq_true rfl) rfl (Nat.le_of_ble_eq_true rfl) dX6_errorFrom_3 6 rfl (fun v4 w5 h6 => ?_) (fun _ _ h => h.elim)
  obtain ⟨th1, g2, h3, rfl, rfl⟩ := h6
  show rn C (xSt F V0 [(b 0, .inr (5, mF b i j)), (b 7, .inl (1, 5, .inr (.inl t))), (b 2, .inl (1, 111, .inr (.inl th1))), (b 23, .inl (1, 6, .inr (.inl g2))), (b 24, .inl (1, 21, .inr (.inl h3))), (b 25, .inl (1, 1806, .inr (.inl ((pathQ t fr pa N).2.2)))), (a, .inl (1, 111, .inr (.inl fr)))]) 0 0 6 [(0, .ref (b 0)), (1, .ref a), (2, .int (nI kd)), (3, .int (nI N))] [.int (nI ((pathQ t fr pa N).1))]
  refine r_iload_n hC 3 dX6_errorFrom_6 rfl 7 rfl ?_
  refine r_icne hC 19 dX6_errorFrom_7 (by decide) 10 rfl (fun h => absurd (by rw [hp]) h) (fun _ => ?_)
  refine r_aload_n hC 0 dX6_errorFrom_10 rfl 11 rfl ?_
  refine r_iload_n hC 2 dX6_errorFrom_11 rfl 12 rfl ?_
  refine r_iload_n hC 3 dX6_errorFrom_12 rfl 13 rfl ?_
  refine r_invVr hC kX6 (b 0) [.int (nI kd), .int (nI N)] (.long (errQ kd ((pathQ t fr pa N).2.2) N)) mVX6_errorOf q3190 (fun _ h => h.get 0 rfl) (metX6_errorOf _ _ hG b _ _ _ N (by omega) (by omega) kd (by omega)) (fun _ h => h.in.sub [0, 5] rfl rfl) ⟨rfl, rfl⟩ 0 0 rfl rfl (Nat.le_of_ble_eq_true rfl) (Nat.le_of_ble_eq_true rfl) rfl (Nat.le_of_ble_eq_true rfl) dX6_errorFrom_13 16 rfl ?_
  refine r_goto hC 22 dX6_errorFrom_16 (by decide) ?_
  exact r_lret hC (Nat.le_of_ble_eq_true rfl) (Nat.le_of_ble_eq_true rfl) (fun V9 h => hQ _ _ ⟨[(b 0, .inr (5, mF b i j)), (b 7, .inl (1, 5, .inr (.inl t))), (b 2, .inl (1, 111, .inr (.inl th1))), (b 23, .inl (1, 6, .inr (.inl g2))), (b 24, .inl (1, 21, .inr (.inl h3))), (b 25, .inl (1, 1806, .inr (.inl ((pathQ t fr pa N).2.2)))), (a, .inl (1, 111, .inr (.inl fr)))], ⟨th1, g2, h3, by rw [errF, if_pos hp], rfl⟩, by rw [← hV0, ← hF]; exact h⟩) dX6_errorFrom_22
set_option maxHeartbeats 4000000 in
set_option maxRecDepth 100000 in
theorem metX6_errorFrom0 (l : Launch) (G : xG) (hG : xGood G) (b : Nat → Nat) (i : Nat → Int32) (j : Nat → Int64) (a : Nat) (t fr th g h0 pa : Nat → Int64) (N kd : Nat) (ht : tOK t) (hm : mOK fr) (hN : N ≤ 300) (hN0 : 0 < N) (hkd : kd < 4) (hp : ¬ (pathQ t fr pa N).1 = N) : xWm l G yX6_errorFrom (Cond.code yX6_errorFrom cX6_errorFrom 4 (some .long)) { frames := 8, locals := 201, cells := 0, slots := 0 } [.ref (b 0), .ref a, .int (nI kd), .int (nI N)] [(b 0, .inr (5, mF b i j)), (b 7, .inl (1, 5, .inr (.inl t))), (b 2, .inl (1, 111, .inr (.inl th))), (b 23, .inl (1, 6, .inr (.inl g))), (b 24, .inl (1, 21, .inr (.inl h0))), (b 25, .inl (1, 1806, .inr (.inl pa))), (a, .inl (1, 111, .inr (.inl fr)))] (fun v w' => ∃ th' g' h' : Nat → Int64, v = some (.long (errF t fr pa kd N)) ∧ w' = [(b 0, .inr (5, mF b i j)), (b 7, .inl (1, 5, .inr (.inl t))), (b 2, .inl (1, 111, .inr (.inl th'))), (b 23, .inl (1, 6, .inr (.inl g'))), (b 24, .inl (1, 21, .inr (.inl h'))), (b 25, .inl (1, 1806, .inr (.inl ((pathQ t fr pa N).2.2)))), (a, .inl (1, 111, .inr (.inl fr)))]) (fun _ _ => False) := by
  intro V hV
  refine xMet_of RX6 hG rfl (by decide) (Nat.le_of_ble_eq_true rfl) fun C hC hQ hX hl hg _ => ?_
  subst hl hg
  obtain ⟨V0, hV0⟩ : ∃ V0, V0 = V := ⟨_, rfl⟩
  obtain ⟨F, hF⟩ : ∃ F, F = xF [(b 0, .inr (5, mF b i j)), (b 7, .inl (1, 5, .inr (.inl t))), (b 2, .inl (1, 111, .inr (.inl th))), (b 23, .inl (1, 6, .inr (.inl g))), (b 24, .inl (1, 21, .inr (.inl h0))), (b 25, .inl (1, 1806, .inr (.inl pa))), (a, .inl (1, 111, .inr (.inl fr)))] := ⟨_, rfl⟩
  refine rn.mono (J := xSt F V0 [(b 0, .inr (5, mF b i j)), (b 7, .inl (1, 5, .inr (.inl t))), (b 2, .inl (1, 111, .inr (.inl th))), (b 23, .inl (1, 6, .inr (.inl g))), (b 24, .inl (1, 21, .inr (.inl h0))), (b 25, .inl (1, 1806, .inr (.inl pa))), (a, .inl (1, 111, .inr (.inl fr)))]) (fun V9 h => by rw [h, hV0, hF]; exact hV.st) ?_
  show rn C (xSt F V0 [(b 0, .inr (5, mF b i j)), (b 7, .inl (1, 5, .inr (.inl t))), (b 2, .inl (1, 111, .inr (.inl th))), (b 23, .inl (1, 6, .inr (.inl g))), (b 24, .inl (1, 21, .inr (.inl h0))), (b 25, .inl (1, 1806, .inr (.inl pa))), (a, .inl (1, 111, .inr (.inl fr)))]) 0 0 0 [(0, .ref (b 0)), (1, .ref a), (2, .int (nI kd)), (3, .int (nI N))] []
  refine r_aload_n hC 0 dX6_errorFrom_0 rfl 1 rfl ?_
  refine r_aload_n hC 1 dX6_errorFrom_1 rfl 2 rfl ?_
  refine r_iload_n hC 3 dX6_errorFrom_2 rfl 3 rfl ?_
  refine r_invVw hC kX6 (b 0) [.ref a, .int (nI N)] [] mVX6_laysPath q3182 0 rfl (metX6_laysPath _ _ hG b _ _ a _ _ _ _ _ _ N ht hm (by omega)) [0, 1, 2, 3, 4, 5, 6] [] rfl rfl rfl rfl (by decide) ⟨rfl, rfl⟩ 0 0 rfl rfl (Nat.le_of_ble_eq_true rfl) (Nat.le_of_ble_eq_true rfl) rfl (Nat.le_of_ble_eq_true rfl) dX6_errorFrom_3 6 rfl (fun v4 w5 h6 => ?_) (fun _ _ h => h.elim)
  obtain ⟨th1, g2, h3, rfl, rfl⟩ := h6
  show rn C (xSt F V0 [(b 0, .inr (5, mF b i j)), (b 7, .inl (1, 5, .inr (.inl t))), (b 2, .inl (1, 111, .inr (.inl th1))), (b 23, .inl (1, 6, .inr (.inl g2))), (b 24, .inl (1, 21, .inr (.inl h3))), (b 25, .inl (1, 1806, .inr (.inl ((pathQ t fr pa N).2.2)))), (a, .inl (1, 111, .inr (.inl fr)))]) 0 0 6 [(0, .ref (b 0)), (1, .ref a), (2, .int (nI kd)), (3, .int (nI N))] [.int (nI ((pathQ t fr pa N).1))]
  refine r_iload_n hC 3 dX6_errorFrom_6 rfl 7 rfl ?_
  refine r_icne hC 19 dX6_errorFrom_7 (by decide) 10 rfl (fun _ => ?_) (fun h => absurd h (fun e => hp ((nI_eq (by have := pathL_le (t := t) (f := N) (c := 0) (r := fr) (pa := layP pa fr 0); unfold pathQ; omega) (by omega)).mp e)))
  refine r_ldc2 hC q3227 dX6_errorFrom_19 22 rfl ?_
  exact r_lret hC (Nat.le_of_ble_eq_true rfl) (Nat.le_of_ble_eq_true rfl) (fun V9 h => hQ _ _ ⟨[(b 0, .inr (5, mF b i j)), (b 7, .inl (1, 5, .inr (.inl t))), (b 2, .inl (1, 111, .inr (.inl th1))), (b 23, .inl (1, 6, .inr (.inl g2))), (b 24, .inl (1, 21, .inr (.inl h3))), (b 25, .inl (1, 1806, .inr (.inl ((pathQ t fr pa N).2.2)))), (a, .inl (1, 111, .inr (.inl fr)))], ⟨th1, g2, h3, by rw [errF, if_neg hp], rfl⟩, by rw [← hV0, ← hF]; exact h⟩) dX6_errorFrom_22
set_option maxHeartbeats 4000000 in
set_option maxRecDepth 100000 in
theorem metX6_errorFrom (l : Launch) (G : xG) (hG : xGood G) (b : Nat → Nat) (i : Nat → Int32) (j : Nat → Int64) (a : Nat) (t fr th g h0 pa : Nat → Int64) (N kd : Nat) (ht : tOK t) (hm : mOK fr) (hN : N ≤ 300) (hN0 : 0 < N) (hkd : kd < 4) : xWm l G yX6_errorFrom (Cond.code yX6_errorFrom cX6_errorFrom 4 (some .long)) { frames := 8, locals := 201, cells := 0, slots := 0 } [.ref (b 0), .ref a, .int (nI kd), .int (nI N)] [(b 0, .inr (5, mF b i j)), (b 7, .inl (1, 5, .inr (.inl t))), (b 2, .inl (1, 111, .inr (.inl th))), (b 23, .inl (1, 6, .inr (.inl g))), (b 24, .inl (1, 21, .inr (.inl h0))), (b 25, .inl (1, 1806, .inr (.inl pa))), (a, .inl (1, 111, .inr (.inl fr)))] (fun v w' => ∃ th' g' h' : Nat → Int64, v = some (.long (errF t fr pa kd N)) ∧ w' = [(b 0, .inr (5, mF b i j)), (b 7, .inl (1, 5, .inr (.inl t))), (b 2, .inl (1, 111, .inr (.inl th'))), (b 23, .inl (1, 6, .inr (.inl g'))), (b 24, .inl (1, 21, .inr (.inl h'))), (b 25, .inl (1, 1806, .inr (.inl ((pathQ t fr pa N).2.2)))), (a, .inl (1, 111, .inr (.inl fr)))]) (fun _ _ => False) := by
  by_cases hp : (pathQ t fr pa N).1 = N
  · exact metX6_errorFrom1 l G hG b i j a t fr th g h0 pa N kd ht hm hN hN0 hkd hp
  · exact metX6_errorFrom0 l G hG b i j a t fr th g h0 pa N kd ht hm hN hN0 hkd hp
theorem in_lo {p L N : Nat} {lo hi : Int64} (hl : L ≤ p) (hp : p ≤ N) (hL : lo.toInt = L) (hh : hi.toInt = N) (h : N < 2 ^ 31) : bI (m_in (nI p).toInt64 lo hi) = 1 := by
  rw [in_yes (by rw [nIl_toInt (by omega), hL]; omega) (by rw [nIl_toInt (by omega), hh]; omega)]
  rfl
set_option maxHeartbeats 4000000 in
set_option maxRecDepth 100000 in
theorem metX6_isAskedG (l : Launch) (G : xG) (hG : xGood G) (b : Nat → Nat) (i : Nat → Int32) (j : Nat → Int64) (kd N : Nat) (hkd : kd < 4) (hN : N ≤ 300) (hN2 : 2 ≤ N) (hf : bI (fitsQ kd N) = 1) : xRm l G yX6_isAsked (Cond.code yX6_isAsked cX6_isAsked 3 (some .boolean)) { frames := 1, locals := 25, cells := 0, slots := 0 } [.ref (b 0), .int (nI kd), .int (nI N)] [(b 0, .inr (5, mF b i j))] (some (.int 1)) := by
  intro V hV
  refine xMet_of RX6 hG rfl (by decide) (Nat.le_of_ble_eq_true rfl) fun C hC hQ hX hl hg _ => ?_
  subst hl hg
  refine rn.mono (J := xRo [(b 0, .inr (5, mF b i j))] V) (fun V9 h => ⟨h, hV⟩) ?_
  show rn C (xRo [(b 0, .inr (5, mF b i j))] V) 0 0 0 [(0, .ref (b 0)), (1, .int (nI kd)), (2, .int (nI N))] []
  refine r_iload_n hC 1 dX6_isAsked_0 rfl 1 rfl ?_
  refine r_i2l hC ((nI kd).toInt64) dX6_isAsked_1 (rfl) 2 rfl ?_
  refine r_lconst hC 0 dX6_isAsked_2 lc_0 3 rfl ?_
  refine r_ldc2 hC q3173 dX6_isAsked_3 6 rfl ?_
  refine r_invSr hC [.long ((nI kd).toInt64), .long 0, .long 3] (.int 1) mSX6_in q2891 (metX6_inB _ _ hG ((nI kd).toInt64) 0 3 1 (in_n (N := 3) (by omega) rfl (by decide))) (fun _ _ => xIn.nil) ⟨rfl, rfl⟩ 0 0 rfl rfl (Nat.le_of_ble_eq_true rfl) (Nat.le_of_ble_eq_true rfl) rfl (Nat.le_of_ble_eq_true rfl) dX6_isAsked_6 9 rfl ?_
  refine r_ifeq hC 38 dX6_isAsked_9 (by decide) 12 rfl (fun h => absurd h (by decide)) (fun _ => ?_)
  refine r_iload_n hC 2 dX6_isAsked_12 rfl 13 rfl ?_
  refine r_i2l hC ((nI N).toInt64) dX6_isAsked_13 (rfl) 14 rfl ?_
  refine r_ldc2 hC q2728 dX6_isAsked_14 17 rfl ?_
  refine r_ldc2 hC q3174 dX6_isAsked_17 20 rfl ?_
  refine r_invSr hC [.long ((nI N).toInt64), .long 2, .long 300] (.int 1) mSX6_in q2891 (metX6_inB _ _ hG ((nI N).toInt64) 2 300 1 (in_lo (L := 2) (N := 300) (by omega) (by omega) rfl rfl (by decide))) (fun _ _ => xIn.nil) ⟨rfl, rfl⟩ 0 0 rfl rfl (Nat.le_of_ble_eq_true rfl) (Nat.le_of_ble_eq_true rfl) rfl (Nat.le_of_ble_eq_true rfl) dX6_isAsked_20 23 rfl ?_
  refine r_ifeq hC 38 dX6_isAsked_23 (by decide) 26 rfl (fun h => absurd h (by decide)) (fun _ => ?_)
  refine r_iload_n hC 1 dX6_isAsked_26 rfl 27 rfl ?_
  refine r_iload_n hC 2 dX6_isAsked_27 rfl 28 rfl ?_
  refine r_invSr hC [.int (nI kd), .int (nI N)] (.int 1) mSX6_fits q3175 (metX6_fits _ _ hG N (by omega) kd (by omega) 1 (hf)) (fun _ _ => xIn.nil) ⟨rfl, rfl⟩ 0 0 rfl rfl (Nat.le_of_ble_eq_true rfl) (Nat.le_of_ble_eq_true rfl) rfl (Nat.le_of_ble_eq_true rfl) dX6_isAsked_28 31 rfl ?_
  refine r_ifeq hC 38 dX6_isAsked_31 (by decide) 34 rfl (fun h => absurd h (by decide)) (fun _ => ?_)
  refine r_iconst hC 1 dX6_isAsked_34 ic_1 35 rfl ?_
  refine r_goto hC 39 dX6_isAsked_35 (by decide) ?_
  exact r_zret hC (by decide) (Nat.le_of_ble_eq_true rfl) (Nat.le_of_ble_eq_true rfl) (fun V9 h => hQ _ _ ⟨rfl, h.1⟩) dX6_isAsked_39
set_option maxHeartbeats 4000000 in
set_option maxRecDepth 100000 in
theorem metX6_isAskedB3 (l : Launch) (G : xG) (hG : xGood G) (b : Nat → Nat) (i : Nat → Int32) (j : Nat → Int64) (kd N : Nat) (hkd : kd < 4) (hN : N ≤ 300) (hN2 : 2 ≤ N) (hf : bI (fitsQ kd N) = 0) : xRm l G yX6_isAsked (Cond.code yX6_isAsked cX6_isAsked 3 (some .boolean)) { frames := 1, locals := 25, cells := 0, slots := 0 } [.ref (b 0), .int (nI kd), .int (nI N)] [(b 0, .inr (5, mF b i j))] (some (.int 0)) := by
  intro V hV
  refine xMet_of RX6 hG rfl (by decide) (Nat.le_of_ble_eq_true rfl) fun C hC hQ hX hl hg _ => ?_
  subst hl hg
  refine rn.mono (J := xRo [(b 0, .inr (5, mF b i j))] V) (fun V9 h => ⟨h, hV⟩) ?_
  show rn C (xRo [(b 0, .inr (5, mF b i j))] V) 0 0 0 [(0, .ref (b 0)), (1, .int (nI kd)), (2, .int (nI N))] []
  refine r_iload_n hC 1 dX6_isAsked_0 rfl 1 rfl ?_
  refine r_i2l hC ((nI kd).toInt64) dX6_isAsked_1 (rfl) 2 rfl ?_
  refine r_lconst hC 0 dX6_isAsked_2 lc_0 3 rfl ?_
  refine r_ldc2 hC q3173 dX6_isAsked_3 6 rfl ?_
  refine r_invSr hC [.long ((nI kd).toInt64), .long 0, .long 3] (.int 1) mSX6_in q2891 (metX6_inB _ _ hG ((nI kd).toInt64) 0 3 1 (in_n (N := 3) (by omega) rfl (by decide))) (fun _ _ => xIn.nil) ⟨rfl, rfl⟩ 0 0 rfl rfl (Nat.le_of_ble_eq_true rfl) (Nat.le_of_ble_eq_true rfl) rfl (Nat.le_of_ble_eq_true rfl) dX6_isAsked_6 9 rfl ?_
  refine r_ifeq hC 38 dX6_isAsked_9 (by decide) 12 rfl (fun h => absurd h (by decide)) (fun _ => ?_)
  refine r_iload_n hC 2 dX6_isAsked_12 rfl 13 rfl ?_
  refine r_i2l hC ((nI N).toInt64) dX6_isAsked_13 (rfl) 14 rfl ?_
  refine r_ldc2 hC q2728 dX6_isAsked_14 17 rfl ?_
  refine r_ldc2 hC q3174 dX6_isAsked_17 20 rfl ?_
  refine r_invSr hC [.long ((nI N).toInt64), .long 2, .long 300] (.int 1) mSX6_in q2891 (metX6_inB _ _ hG ((nI N).toInt64) 2 300 1 (in_lo (L := 2) (N := 300) (by omega) (by omega) rfl rfl (by decide))) (fun _ _ => xIn.nil) ⟨rfl, rfl⟩ 0 0 rfl rfl (Nat.le_of_ble_eq_true rfl) (Nat.le_of_ble_eq_true rfl) rfl (Nat.le_of_ble_eq_true rfl) dX6_isAsked_20 23 rfl ?_
  refine r_ifeq hC 38 dX6_isAsked_23 (by decide) 26 rfl (fun h => absurd h (by decide)) (fun _ => ?_)
  refine r_iload_n hC 1 dX6_isAsked_26 rfl 27 rfl ?_
  refine r_iload_n hC 2 dX6_isAsked_27 rfl 28 rfl ?_
  refine r_invSr hC [.int (nI kd), .int (nI N)] (.int 0) mSX6_fits q3175 (metX6_fits _ _ hG N (by omega) kd (by omega) 0 (hf)) (fun _ _ => xIn.nil) ⟨rfl, rfl⟩ 0 0 rfl rfl (Nat.le_of_ble_eq_true rfl) (Nat.le_of_ble_eq_true rfl) rfl (Nat.le_of_ble_eq_true rfl) dX6_isAsked_28 31 rfl ?_
  refine r_ifeq hC 38 dX6_isAsked_31 (by decide) 34 rfl (fun _ => ?_) (fun h => absurd h (by decide))
  refine r_iconst hC 0 dX6_isAsked_38 ic_0 39 rfl ?_
  exact r_zret hC (by decide) (Nat.le_of_ble_eq_true rfl) (Nat.le_of_ble_eq_true rfl) (fun V9 h => hQ _ _ ⟨rfl, h.1⟩) dX6_isAsked_39
set_option maxHeartbeats 4000000 in
set_option maxRecDepth 100000 in
theorem metX6_isAskedB1 (l : Launch) (G : xG) (hG : xGood G) (b : Nat → Nat) (i : Nat → Int32) (j : Nat → Int64) (x y : Int32) (hx : bI (m_in x.toInt64 0 3) = 0) : xRm l G yX6_isAsked (Cond.code yX6_isAsked cX6_isAsked 3 (some .boolean)) { frames := 1, locals := 25, cells := 0, slots := 0 } [.ref (b 0), .int x, .int y] [(b 0, .inr (5, mF b i j))] (some (.int 0)) := by
  intro V hV
  refine xMet_of RX6 hG rfl (by decide) (Nat.le_of_ble_eq_true rfl) fun C hC hQ hX hl hg _ => ?_
  subst hl hg
  refine rn.mono (J := xRo [(b 0, .inr (5, mF b i j))] V) (fun V9 h => ⟨h, hV⟩) ?_
  show rn C (xRo [(b 0, .inr (5, mF b i j))] V) 0 0 0 [(0, .ref (b 0)), (1, .int x), (2, .int y)] []
  refine r_iload_n hC 1 dX6_isAsked_0 rfl 1 rfl ?_
  refine r_i2l hC x.toInt64 dX6_isAsked_1 (rfl) 2 rfl ?_
  refine r_lconst hC 0 dX6_isAsked_2 lc_0 3 rfl ?_
  refine r_ldc2 hC q3173 dX6_isAsked_3 6 rfl ?_
  refine r_invSr hC [.long x.toInt64, .long 0, .long 3] (.int 0) mSX6_in q2891 (metX6_inB _ _ hG x.toInt64 0 3 0 (hx)) (fun _ _ => xIn.nil) ⟨rfl, rfl⟩ 0 0 rfl rfl (Nat.le_of_ble_eq_true rfl) (Nat.le_of_ble_eq_true rfl) rfl (Nat.le_of_ble_eq_true rfl) dX6_isAsked_6 9 rfl ?_
  refine r_ifeq hC 38 dX6_isAsked_9 (by decide) 12 rfl (fun _ => ?_) (fun h => absurd h (by decide))
  refine r_iconst hC 0 dX6_isAsked_38 ic_0 39 rfl ?_
  exact r_zret hC (by decide) (Nat.le_of_ble_eq_true rfl) (Nat.le_of_ble_eq_true rfl) (fun V9 h => hQ _ _ ⟨rfl, h.1⟩) dX6_isAsked_39
set_option maxHeartbeats 4000000 in
set_option maxRecDepth 100000 in
theorem metX6_isAskedB2 (l : Launch) (G : xG) (hG : xGood G) (b : Nat → Nat) (i : Nat → Int32) (j : Nat → Int64) (x y : Int32) (hx : bI (m_in x.toInt64 0 3) = 1) (hy : bI (m_in y.toInt64 2 300) = 0) : xRm l G yX6_isAsked (Cond.code yX6_isAsked cX6_isAsked 3 (some .boolean)) { frames := 1, locals := 25, cells := 0, slots := 0 } [.ref (b 0), .int x, .int y] [(b 0, .inr (5, mF b i j))] (some (.int 0)) := by
  intro V hV
  refine xMet_of RX6 hG rfl (by decide) (Nat.le_of_ble_eq_true rfl) fun C hC hQ hX hl hg _ => ?_
  subst hl hg
  refine rn.mono (J := xRo [(b 0, .inr (5, mF b i j))] V) (fun V9 h => ⟨h, hV⟩) ?_
  show rn C (xRo [(b 0, .inr (5, mF b i j))] V) 0 0 0 [(0, .ref (b 0)), (1, .int x), (2, .int y)] []
  refine r_iload_n hC 1 dX6_isAsked_0 rfl 1 rfl ?_
  refine r_i2l hC x.toInt64 dX6_isAsked_1 (rfl) 2 rfl ?_
  refine r_lconst hC 0 dX6_isAsked_2 lc_0 3 rfl ?_
  refine r_ldc2 hC q3173 dX6_isAsked_3 6 rfl ?_
  refine r_invSr hC [.long x.toInt64, .long 0, .long 3] (.int 1) mSX6_in q2891 (metX6_inB _ _ hG x.toInt64 0 3 1 (hx)) (fun _ _ => xIn.nil) ⟨rfl, rfl⟩ 0 0 rfl rfl (Nat.le_of_ble_eq_true rfl) (Nat.le_of_ble_eq_true rfl) rfl (Nat.le_of_ble_eq_true rfl) dX6_isAsked_6 9 rfl ?_
  refine r_ifeq hC 38 dX6_isAsked_9 (by decide) 12 rfl (fun h => absurd h (by decide)) (fun _ => ?_)
  refine r_iload_n hC 2 dX6_isAsked_12 rfl 13 rfl ?_
  refine r_i2l hC y.toInt64 dX6_isAsked_13 (rfl) 14 rfl ?_
  refine r_ldc2 hC q2728 dX6_isAsked_14 17 rfl ?_
  refine r_ldc2 hC q3174 dX6_isAsked_17 20 rfl ?_
  refine r_invSr hC [.long y.toInt64, .long 2, .long 300] (.int 0) mSX6_in q2891 (metX6_inB _ _ hG y.toInt64 2 300 0 (hy)) (fun _ _ => xIn.nil) ⟨rfl, rfl⟩ 0 0 rfl rfl (Nat.le_of_ble_eq_true rfl) (Nat.le_of_ble_eq_true rfl) rfl (Nat.le_of_ble_eq_true rfl) dX6_isAsked_20 23 rfl ?_
  refine r_ifeq hC 38 dX6_isAsked_23 (by decide) 26 rfl (fun _ => ?_) (fun h => absurd h (by decide))
  refine r_iconst hC 0 dX6_isAsked_38 ic_0 39 rfl ?_
  exact r_zret hC (by decide) (Nat.le_of_ble_eq_true rfl) (Nat.le_of_ble_eq_true rfl) (fun V9 h => hQ _ _ ⟨rfl, h.1⟩) dX6_isAsked_39
def mErr (e : Int64) : Int32 := if e = 4611686018427387904 then -1 else e.toInt32
set_option maxHeartbeats 4000000 in
set_option maxRecDepth 100000 in
theorem metX6_errorG (l : Launch) (G : xG) (hG : xGood G) (b : Nat → Nat) (i : Nat → Int32) (j : Nat → Int64) (t r th g h0 pa : Nat → Int64) (kd N : Nat) (ht : tOK t) (hm : mOK r) (hkd : kd < 4) (hN : N ≤ 300) (hN2 : 2 ≤ N) (hf : bI (fitsQ kd N) = 1) : xWm l G yX6_error (Cond.code yX6_error cX6_error 5 (some .int)) { frames := 9, locals := 224, cells := 0, slots := 0 } [.ref (b 0), .int (nI kd), .int (nI N)] [(b 0, .inr (5, mF b i j)), (b 7, .inl (1, 5, .inr (.inl t))), (b 1, .inl (1, 111, .inr (.inl r))), (b 2, .inl (1, 111, .inr (.inl th))), (b 23, .inl (1, 6, .inr (.inl g))), (b 24, .inl (1, 21, .inr (.inl h0))), (b 25, .inl (1, 1806, .inr (.inl pa)))] (fun v w' => ∃ th' g' h' : Nat → Int64, v = some (.int (mErr (errF t r pa kd N))) ∧ w' = [(b 0, .inr (5, mF b (va_up i 0 0) j)), (b 7, .inl (1, 5, .inr (.inl t))), (b 1, .inl (1, 111, .inr (.inl r))), (b 2, .inl (1, 111, .inr (.inl th'))), (b 23, .inl (1, 6, .inr (.inl g'))), (b 24, .inl (1, 21, .inr (.inl h'))), (b 25, .inl (1, 1806, .inr (.inl ((pathQ t r pa N).2.2))))]) (fun _ _ => False) := by
  intro V hV
  refine xMet_of RX6 hG rfl (by decide) (Nat.le_of_ble_eq_true rfl) fun C hC hQ hX hl hg _ => ?_
  subst hl hg
  obtain ⟨V0, hV0⟩ : ∃ V0, V0 = V := ⟨_, rfl⟩
  obtain ⟨F, hF⟩ : ∃ F, F = xF [(b 0, .inr (5, mF b i j)), (b 7, .inl (1, 5, .inr (.inl t))), (b 1, .inl (1, 111, .inr (.inl r))), (b 2, .inl (1, 111, .inr (.inl th))), (b 23, .inl (1, 6, .inr (.inl g))), (b 24, .inl (1, 21, .inr (.inl h0))), (b 25, .inl (1, 1806, .inr (.inl pa)))] := ⟨_, rfl⟩
  refine rn.mono (J := xSt F V0 [(b 0, .inr (5, mF b i j)), (b 7, .inl (1, 5, .inr (.inl t))), (b 1, .inl (1, 111, .inr (.inl r))), (b 2, .inl (1, 111, .inr (.inl th))), (b 23, .inl (1, 6, .inr (.inl g))), (b 24, .inl (1, 21, .inr (.inl h0))), (b 25, .inl (1, 1806, .inr (.inl pa)))]) (fun V9 h => by rw [h, hV0, hF]; exact hV.st) ?_
  show rn C (xSt F V0 [(b 0, .inr (5, mF b i j)), (b 7, .inl (1, 5, .inr (.inl t))), (b 1, .inl (1, 111, .inr (.inl r))), (b 2, .inl (1, 111, .inr (.inl th))), (b 23, .inl (1, 6, .inr (.inl g))), (b 24, .inl (1, 21, .inr (.inl h0))), (b 25, .inl (1, 1806, .inr (.inl pa)))]) 0 0 0 [(0, .ref (b 0)), (1, .int (nI kd)), (2, .int (nI N))] []
  refine r_aload_n hC 0 dX6_error_0 rfl 1 rfl ?_
  refine r_iconst hC 0 dX6_error_1 ic_0 2 rfl ?_
  refine r_put (J := xSt F V0 [(b 0, .inr (5, mF b (va_up i 0 0) j)), (b 7, .inl (1, 5, .inr (.inl t))), (b 1, .inl (1, 111, .inr (.inl r))), (b 2, .inl (1, 111, .inr (.inl th))), (b 23, .inl (1, 6, .inr (.inl g))), (b 24, .inl (1, 21, .inr (.inl h0))), (b 25, .inl (1, 1806, .inr (.inl pa)))]) hC kX6 0 rfl q2753 rfl (fun _ h => h.get 0 rfl) (Nat.le_of_ble_eq_true rfl) rfl rfl dX6_error_2 (fun _ h => h.set 0 _ rfl) 5 rfl ?_
  refine r_aload_n hC 0 dX6_error_5 rfl 6 rfl ?_
  refine r_aload_n hC 0 dX6_error_6 rfl 7 rfl ?_
  refine r_iload_n hC 1 dX6_error_7 rfl 8 rfl ?_
  refine r_iload_n hC 2 dX6_error_8 rfl 9 rfl ?_
  refine r_invVr hC kX6 (b 0) [.int (nI kd), .int (nI N)] (.int 1) mVX6_isAsked q3169 (fun _ h => h.get 0 rfl) (metX6_isAskedG _ _ hG b _ _ kd N hkd hN hN2 hf) (fun _ h => h.in.sub [0] rfl rfl) ⟨rfl, rfl⟩ 0 0 rfl rfl (Nat.le_of_ble_eq_true rfl) (Nat.le_of_ble_eq_true rfl) rfl (Nat.le_of_ble_eq_true rfl) dX6_error_9 12 rfl ?_
  refine r_iconst hC 1 dX6_error_12 ic_1 13 rfl ?_
  refine r_invVr hC kX6 (b 0) [.int 1, .int 1] (.int 0) mVX6_fails q2894 (fun _ h => h.get 0 rfl) (metX6_fails1 _ _ hG b _ _ 1) (fun _ h => h.in.sub [0] rfl rfl) ⟨rfl, rfl⟩ 0 0 rfl rfl (Nat.le_of_ble_eq_true rfl) (Nat.le_of_ble_eq_true rfl) rfl (Nat.le_of_ble_eq_true rfl) dX6_error_13 16 rfl ?_
  refine r_ifeq hC 21 dX6_error_16 (by decide) 19 rfl (fun _ => ?_) (fun h => absurd h (by decide))
  refine r_aload_n hC 0 dX6_error_21 rfl 22 rfl ?_
  refine r_aload_n hC 0 dX6_error_22 rfl 23 rfl ?_
  refine r_get (v := .ref (b 1)) hC kX6 1 rfl q2754 (fun _ h => h.get 0 rfl) rfl dX6_error_23 26 rfl ?_
  refine r_iload_n hC 1 dX6_error_26 rfl 27 rfl ?_
  refine r_iload_n hC 2 dX6_error_27 rfl 28 rfl ?_
  refine r_invVw hC kX6 (b 0) [.ref (b 1), .int (nI kd), .int (nI N)] [] mVX6_errorFrom q3178 0 rfl (metX6_errorFrom _ _ hG b _ _ (b 1) _ _ _ _ _ _ N kd ht hm (by omega) (by omega) (by omega)) [0, 1, 3, 4, 5, 6, 2] [] rfl rfl rfl rfl (by decide) ⟨rfl, rfl⟩ 0 0 rfl rfl (Nat.le_of_ble_eq_true rfl) (Nat.le_of_ble_eq_true rfl) rfl (Nat.le_of_ble_eq_true rfl) dX6_error_28 31 rfl (fun v4 w5 h6 => ?_) (fun _ _ h => h.elim)
  obtain ⟨th1, g2, h3, rfl, rfl⟩ := h6
  show rn C (xSt F V0 [(b 0, .inr (5, mF b (va_up i 0 0) j)), (b 7, .inl (1, 5, .inr (.inl t))), (b 2, .inl (1, 111, .inr (.inl th1))), (b 23, .inl (1, 6, .inr (.inl g2))), (b 24, .inl (1, 21, .inr (.inl h3))), (b 25, .inl (1, 1806, .inr (.inl ((pathQ t r pa N).2.2)))), (b 1, .inl (1, 111, .inr (.inl r)))]) 0 0 31 [(0, .ref (b 0)), (1, .int (nI kd)), (2, .int (nI N))] [.long (errF t r pa kd N)]
  refine r_lstore_n hC 3 [(3, .long (errF t r pa kd N)), (0, .ref (b 0)), (1, .int (nI kd)), (2, .int (nI N))] dX6_error_31 rfl (Nat.le_of_ble_eq_true rfl) rfl 32 rfl ?_
  refine r_lload_n hC 0 dX6_error_32 rfl 33 rfl ?_
  refine r_ldc2 hC q3227 dX6_error_33 36 rfl ?_
  have J7 : rn C (xSt F V0 [(b 0, .inr (5, mF b (va_up i 0 0) j)), (b 7, .inl (1, 5, .inr (.inl t))), (b 2, .inl (1, 111, .inr (.inl th1))), (b 23, .inl (1, 6, .inr (.inl g2))), (b 24, .inl (1, 21, .inr (.inl h3))), (b 25, .inl (1, 1806, .inr (.inl ((pathQ t r pa N).2.2)))), (b 1, .inl (1, 111, .inr (.inl r)))]) 0 0 46 [(3, .long (errF t r pa kd N)), (0, .ref (b 0)), (1, .int (nI kd)), (2, .int (nI N))] [.int (if (errF t r pa kd N) = 4611686018427387904 then (-1) else (errF t r pa kd N).toInt32)] → rn C (xSt F V0 [(b 0, .inr (5, mF b (va_up i 0 0) j)), (b 7, .inl (1, 5, .inr (.inl t))), (b 2, .inl (1, 111, .inr (.inl th1))), (b 23, .inl (1, 6, .inr (.inl g2))), (b 24, .inl (1, 21, .inr (.inl h3))), (b 25, .inl (1, 1806, .inr (.inl ((pathQ t r pa N).2.2)))), (b 1, .inl (1, 111, .inr (.inl r)))]) 0 0 36 [(3, .long (errF t r pa kd N)), (0, .ref (b 0)), (1, .int (nI kd)), (2, .int (nI N))] [.long 4611686018427387904, .long (errF t r pa kd N)] := by
    intro kJ
    refine r_lcne hC 44 dX6_error_36 dX6_error_37 (by decide) 40 rfl (fun c8 => ?_) (fun c8 => ?_)
    · rw [if_neg c8] at kJ
      refine r_lload_n hC 0 dX6_error_44 rfl 45 rfl ?_
      refine r_l2i hC ((errF t r pa kd N).toInt32) dX6_error_45 (rfl) 46 rfl ?_
      exact kJ
    · rw [if_pos c8] at kJ
      refine r_iconst hC (-1) dX6_error_40 ic_m1 41 rfl ?_
      refine r_goto hC 46 dX6_error_41 (by decide) ?_
      exact kJ
  refine J7 ?_
  clear J7
  exact r_iret hC (Nat.le_of_ble_eq_true rfl) (Nat.le_of_ble_eq_true rfl) (fun V9 h => hQ _ _ ⟨[(b 0, .inr (5, mF b (va_up i 0 0) j)), (b 7, .inl (1, 5, .inr (.inl t))), (b 1, .inl (1, 111, .inr (.inl r))), (b 2, .inl (1, 111, .inr (.inl th1))), (b 23, .inl (1, 6, .inr (.inl g2))), (b 24, .inl (1, 21, .inr (.inl h3))), (b 25, .inl (1, 1806, .inr (.inl ((pathQ t r pa N).2.2))))], ⟨th1, g2, h3, rfl, rfl⟩, by rw [← hV0, ← hF]; exact (h.sub [0, 1, 6, 2, 3, 4, 5] rfl rfl)⟩) dX6_error_46
set_option maxHeartbeats 4000000 in
set_option maxRecDepth 100000 in
theorem metX6_errorB3 (l : Launch) (G : xG) (hG : xGood G) (b : Nat → Nat) (i : Nat → Int32) (j : Nat → Int64) (kd N : Nat) (hkd : kd < 4) (hN : N ≤ 300) (hN2 : 2 ≤ N) (hf : bI (fitsQ kd N) = 0) : xWm l G yX6_error (Cond.code yX6_error cX6_error 5 (some .int)) { frames := 2, locals := 47, cells := 0, slots := 0 } [.ref (b 0), .int (nI kd), .int (nI N)] [(b 0, .inr (5, mF b i j))] (fun v w' => v = some (.int 0) ∧ w' = [(b 0, .inr (5, mF b (va_up i 0 1) j))]) (fun _ _ => False) := by
  intro V hV
  refine xMet_of RX6 hG rfl (by decide) (Nat.le_of_ble_eq_true rfl) fun C hC hQ hX hl hg _ => ?_
  subst hl hg
  obtain ⟨V0, hV0⟩ : ∃ V0, V0 = V := ⟨_, rfl⟩
  obtain ⟨F, hF⟩ : ∃ F, F = xF [(b 0, .inr (5, mF b i j))] := ⟨_, rfl⟩
  refine rn.mono (J := xSt F V0 [(b 0, .inr (5, mF b i j))]) (fun V9 h => by rw [h, hV0, hF]; exact hV.st) ?_
  show rn C (xSt F V0 [(b 0, .inr (5, mF b i j))]) 0 0 0 [(0, .ref (b 0)), (1, .int (nI kd)), (2, .int (nI N))] []
  refine r_aload_n hC 0 dX6_error_0 rfl 1 rfl ?_
  refine r_iconst hC 0 dX6_error_1 ic_0 2 rfl ?_
  refine r_put (J := xSt F V0 [(b 0, .inr (5, mF b (va_up i 0 0) j))]) hC kX6 0 rfl q2753 rfl (fun _ h => h.get 0 rfl) (Nat.le_of_ble_eq_true rfl) rfl rfl dX6_error_2 (fun _ h => h.set 0 _ rfl) 5 rfl ?_
  refine r_aload_n hC 0 dX6_error_5 rfl 6 rfl ?_
  refine r_aload_n hC 0 dX6_error_6 rfl 7 rfl ?_
  refine r_iload_n hC 1 dX6_error_7 rfl 8 rfl ?_
  refine r_iload_n hC 2 dX6_error_8 rfl 9 rfl ?_
  refine r_invVr hC kX6 (b 0) [.int (nI kd), .int (nI N)] (.int 0) mVX6_isAsked q3169 (fun _ h => h.get 0 rfl) (metX6_isAskedB3 _ _ hG b _ _ kd N hkd hN hN2 hf) (fun _ h => h.in.sub [0] rfl rfl) ⟨rfl, rfl⟩ 0 0 rfl rfl (Nat.le_of_ble_eq_true rfl) (Nat.le_of_ble_eq_true rfl) rfl (Nat.le_of_ble_eq_true rfl) dX6_error_9 12 rfl ?_
  refine r_iconst hC 1 dX6_error_12 ic_1 13 rfl ?_
  refine r_invVw hC kX6 (b 0) [.int 0, .int 1] [] mVX6_fails q2894 0 rfl (metX6_fails0 _ _ hG b _ _ 1) [0] [] rfl rfl rfl rfl (by decide) ⟨rfl, rfl⟩ 0 0 rfl rfl (Nat.le_of_ble_eq_true rfl) (Nat.le_of_ble_eq_true rfl) rfl (Nat.le_of_ble_eq_true rfl) dX6_error_13 16 rfl (fun v1 w2 h3 => ?_) (fun _ _ h => h.elim)
  obtain ⟨rfl, rfl⟩ := h3
  show rn C (xSt F V0 [(b 0, .inr (5, mF b (va_up (va_up i 0 0) 0 1) j))]) 0 0 16 [(0, .ref (b 0)), (1, .int (nI kd)), (2, .int (nI N))] [.int 1]
  refine r_ifeq hC 21 dX6_error_16 (by decide) 19 rfl (fun h => absurd h (by decide)) (fun _ => ?_)
  refine r_iconst hC 0 dX6_error_19 ic_0 20 rfl ?_
  exact r_iret hC (Nat.le_of_ble_eq_true rfl) (Nat.le_of_ble_eq_true rfl) (fun V9 h => hQ _ _ ⟨[(b 0, .inr (5, mF b (va_up (va_up i 0 0) 0 1) j))], ⟨rfl, by simp only [bx_uu]⟩, by rw [← hV0, ← hF]; exact h⟩) dX6_error_20
set_option maxHeartbeats 4000000 in
set_option maxRecDepth 100000 in
theorem metX6_errorB1 (l : Launch) (G : xG) (hG : xGood G) (b : Nat → Nat) (i : Nat → Int32) (j : Nat → Int64) (x y : Int32) (hx : bI (m_in x.toInt64 0 3) = 0) : xWm l G yX6_error (Cond.code yX6_error cX6_error 5 (some .int)) { frames := 2, locals := 47, cells := 0, slots := 0 } [.ref (b 0), .int x, .int y] [(b 0, .inr (5, mF b i j))] (fun v w' => v = some (.int 0) ∧ w' = [(b 0, .inr (5, mF b (va_up i 0 1) j))]) (fun _ _ => False) := by
  intro V hV
  refine xMet_of RX6 hG rfl (by decide) (Nat.le_of_ble_eq_true rfl) fun C hC hQ hX hl hg _ => ?_
  subst hl hg
  obtain ⟨V0, hV0⟩ : ∃ V0, V0 = V := ⟨_, rfl⟩
  obtain ⟨F, hF⟩ : ∃ F, F = xF [(b 0, .inr (5, mF b i j))] := ⟨_, rfl⟩
  refine rn.mono (J := xSt F V0 [(b 0, .inr (5, mF b i j))]) (fun V9 h => by rw [h, hV0, hF]; exact hV.st) ?_
  show rn C (xSt F V0 [(b 0, .inr (5, mF b i j))]) 0 0 0 [(0, .ref (b 0)), (1, .int x), (2, .int y)] []
  refine r_aload_n hC 0 dX6_error_0 rfl 1 rfl ?_
  refine r_iconst hC 0 dX6_error_1 ic_0 2 rfl ?_
  refine r_put (J := xSt F V0 [(b 0, .inr (5, mF b (va_up i 0 0) j))]) hC kX6 0 rfl q2753 rfl (fun _ h => h.get 0 rfl) (Nat.le_of_ble_eq_true rfl) rfl rfl dX6_error_2 (fun _ h => h.set 0 _ rfl) 5 rfl ?_
  refine r_aload_n hC 0 dX6_error_5 rfl 6 rfl ?_
  refine r_aload_n hC 0 dX6_error_6 rfl 7 rfl ?_
  refine r_iload_n hC 1 dX6_error_7 rfl 8 rfl ?_
  refine r_iload_n hC 2 dX6_error_8 rfl 9 rfl ?_
  refine r_invVr hC kX6 (b 0) [.int x, .int y] (.int 0) mVX6_isAsked q3169 (fun _ h => h.get 0 rfl) (metX6_isAskedB1 _ _ hG b _ _ x y hx) (fun _ h => h.in.sub [0] rfl rfl) ⟨rfl, rfl⟩ 0 0 rfl rfl (Nat.le_of_ble_eq_true rfl) (Nat.le_of_ble_eq_true rfl) rfl (Nat.le_of_ble_eq_true rfl) dX6_error_9 12 rfl ?_
  refine r_iconst hC 1 dX6_error_12 ic_1 13 rfl ?_
  refine r_invVw hC kX6 (b 0) [.int 0, .int 1] [] mVX6_fails q2894 0 rfl (metX6_fails0 _ _ hG b _ _ 1) [0] [] rfl rfl rfl rfl (by decide) ⟨rfl, rfl⟩ 0 0 rfl rfl (Nat.le_of_ble_eq_true rfl) (Nat.le_of_ble_eq_true rfl) rfl (Nat.le_of_ble_eq_true rfl) dX6_error_13 16 rfl (fun v1 w2 h3 => ?_) (fun _ _ h => h.elim)
  obtain ⟨rfl, rfl⟩ := h3
  show rn C (xSt F V0 [(b 0, .inr (5, mF b (va_up (va_up i 0 0) 0 1) j))]) 0 0 16 [(0, .ref (b 0)), (1, .int x), (2, .int y)] [.int 1]
  refine r_ifeq hC 21 dX6_error_16 (by decide) 19 rfl (fun h => absurd h (by decide)) (fun _ => ?_)
  refine r_iconst hC 0 dX6_error_19 ic_0 20 rfl ?_
  exact r_iret hC (Nat.le_of_ble_eq_true rfl) (Nat.le_of_ble_eq_true rfl) (fun V9 h => hQ _ _ ⟨[(b 0, .inr (5, mF b (va_up (va_up i 0 0) 0 1) j))], ⟨rfl, by simp only [bx_uu]⟩, by rw [← hV0, ← hF]; exact h⟩) dX6_error_20
set_option maxHeartbeats 4000000 in
set_option maxRecDepth 100000 in
theorem metX6_errorB2 (l : Launch) (G : xG) (hG : xGood G) (b : Nat → Nat) (i : Nat → Int32) (j : Nat → Int64) (x y : Int32) (hx : bI (m_in x.toInt64 0 3) = 1) (hy : bI (m_in y.toInt64 2 300) = 0) : xWm l G yX6_error (Cond.code yX6_error cX6_error 5 (some .int)) { frames := 2, locals := 47, cells := 0, slots := 0 } [.ref (b 0), .int x, .int y] [(b 0, .inr (5, mF b i j))] (fun v w' => v = some (.int 0) ∧ w' = [(b 0, .inr (5, mF b (va_up i 0 1) j))]) (fun _ _ => False) := by
  intro V hV
  refine xMet_of RX6 hG rfl (by decide) (Nat.le_of_ble_eq_true rfl) fun C hC hQ hX hl hg _ => ?_
  subst hl hg
  obtain ⟨V0, hV0⟩ : ∃ V0, V0 = V := ⟨_, rfl⟩
  obtain ⟨F, hF⟩ : ∃ F, F = xF [(b 0, .inr (5, mF b i j))] := ⟨_, rfl⟩
  refine rn.mono (J := xSt F V0 [(b 0, .inr (5, mF b i j))]) (fun V9 h => by rw [h, hV0, hF]; exact hV.st) ?_
  show rn C (xSt F V0 [(b 0, .inr (5, mF b i j))]) 0 0 0 [(0, .ref (b 0)), (1, .int x), (2, .int y)] []
  refine r_aload_n hC 0 dX6_error_0 rfl 1 rfl ?_
  refine r_iconst hC 0 dX6_error_1 ic_0 2 rfl ?_
  refine r_put (J := xSt F V0 [(b 0, .inr (5, mF b (va_up i 0 0) j))]) hC kX6 0 rfl q2753 rfl (fun _ h => h.get 0 rfl) (Nat.le_of_ble_eq_true rfl) rfl rfl dX6_error_2 (fun _ h => h.set 0 _ rfl) 5 rfl ?_
  refine r_aload_n hC 0 dX6_error_5 rfl 6 rfl ?_
  refine r_aload_n hC 0 dX6_error_6 rfl 7 rfl ?_
  refine r_iload_n hC 1 dX6_error_7 rfl 8 rfl ?_
  refine r_iload_n hC 2 dX6_error_8 rfl 9 rfl ?_
  refine r_invVr hC kX6 (b 0) [.int x, .int y] (.int 0) mVX6_isAsked q3169 (fun _ h => h.get 0 rfl) (metX6_isAskedB2 _ _ hG b _ _ x y hx hy) (fun _ h => h.in.sub [0] rfl rfl) ⟨rfl, rfl⟩ 0 0 rfl rfl (Nat.le_of_ble_eq_true rfl) (Nat.le_of_ble_eq_true rfl) rfl (Nat.le_of_ble_eq_true rfl) dX6_error_9 12 rfl ?_
  refine r_iconst hC 1 dX6_error_12 ic_1 13 rfl ?_
  refine r_invVw hC kX6 (b 0) [.int 0, .int 1] [] mVX6_fails q2894 0 rfl (metX6_fails0 _ _ hG b _ _ 1) [0] [] rfl rfl rfl rfl (by decide) ⟨rfl, rfl⟩ 0 0 rfl rfl (Nat.le_of_ble_eq_true rfl) (Nat.le_of_ble_eq_true rfl) rfl (Nat.le_of_ble_eq_true rfl) dX6_error_13 16 rfl (fun v1 w2 h3 => ?_) (fun _ _ h => h.elim)
  obtain ⟨rfl, rfl⟩ := h3
  show rn C (xSt F V0 [(b 0, .inr (5, mF b (va_up (va_up i 0 0) 0 1) j))]) 0 0 16 [(0, .ref (b 0)), (1, .int x), (2, .int y)] [.int 1]
  refine r_ifeq hC 21 dX6_error_16 (by decide) 19 rfl (fun h => absurd h (by decide)) (fun _ => ?_)
  refine r_iconst hC 0 dX6_error_19 ic_0 20 rfl ?_
  exact r_iret hC (Nat.le_of_ble_eq_true rfl) (Nat.le_of_ble_eq_true rfl) (fun V9 h => hQ _ _ ⟨[(b 0, .inr (5, mF b (va_up (va_up i 0 0) 0 1) j))], ⟨rfl, by simp only [bx_uu]⟩, by rw [← hV0, ← hF]; exact h⟩) dX6_error_20
