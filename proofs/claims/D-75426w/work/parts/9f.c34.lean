/-! ===== the class: what throws ===== -/
set_option maxRecDepth 100000
set_option maxHeartbeats 4000000 in
set_option maxRecDepth 100000 in
theorem metX1_require1 (l : Launch) (G : xG) (hG : xGood G)  : xRm l G yX1_require (Cond.code yX1_require cX1_require 1 none) { frames := 0, locals := 0, cells := 0, slots := 0 } [.int 1] [] none := by
  intro V hV
  refine xMet_ofT RX1 hG rfl (by decide) (Nat.le_of_ble_eq_true rfl) fun C hC hQ hX hl hg _ hTab => ?_
  subst hl hg
  refine rn.mono (J := xRo [] V) (fun V9 h => ⟨h, hV⟩) ?_
  show rn C (xRo [] V) 0 0 0 [(0, .int 1)] []
  refine r_iload_n hC 0 dX1_require_0 rfl 1 rfl ?_
  refine r_ifne hC 12 dX1_require_1 (by decide) 4 rfl (fun _ => ?_) (fun h => absurd h (by decide))
  exact r_vret hC (Nat.le_of_ble_eq_true rfl) (Nat.le_of_ble_eq_true rfl) (fun V9 h => hQ _ _ ⟨rfl, h.1⟩) dX1_require_12
set_option maxHeartbeats 4000000 in
set_option maxRecDepth 100000 in
theorem metX1_require0 (l : Launch) (G : xG) (hG : xGood G)  (hlt : l.stackTraces = false) : xWm l G yX1_require (Cond.code yX1_require cX1_require 1 none) { frames := 6, locals := 89, cells := 1, slots := 6 } [.int 0] [] (fun _ _ => False) (fun q w' => w' = [(q, .inr (31, []))]) := by
  intro V hV
  refine xMet_ofT RX1 hG rfl (by decide) (Nat.le_of_ble_eq_true rfl) fun C hC hQ hX hl hg _ hTab => ?_
  subst hl hg
  obtain ⟨V0, hV0⟩ : ∃ V0, V0 = V := ⟨_, rfl⟩
  obtain ⟨F, hF⟩ : ∃ F, F = xF [] := ⟨_, rfl⟩
  refine rn.mono (J := xSt F V0 []) (fun V9 h => by rw [h, hV0, hF]; exact hV.st) ?_
  show rn C (xSt F V0 []) 0 0 0 [(0, .int 0)] []
  refine r_iload_n hC 0 dX1_require_0 rfl 1 rfl ?_
  refine r_ifne hC 12 dX1_require_1 (by decide) 4 rfl (fun h => absurd h (by decide)) (fun _ => ?_)
  refine r_make0 (J := fun q1 => xSt F V0 [(q1, .inr (31, []))]) hC hG hlt kE10 (by decide +kernel) (by decide +kernel) q951 q115 (ex_10 hG) (Nat.le_of_ble_eq_true rfl) (Nat.le_of_ble_eq_true rfl) (Nat.le_of_ble_eq_true rfl) (Nat.le_of_ble_eq_true rfl) (Nat.le_of_ble_eq_true rfl) dX1_require_4 dX1_require_7 dX1_require_8 (fun _ h => h.push _) (fun q1 => ?_)
  show rn C (xSt F V0 [(q1, .inr (31, []))]) 1 6 11 [(0, .int 0)] [.ref q1]
  refine r_athrow hC (fun _ h => h.get 0 rfl) dX1_require_11 ?_
  exact rx_out hC hTab (fun _ h => by cases h) (Nat.le_of_ble_eq_true rfl) (Nat.le_of_ble_eq_true rfl) (fun V9 h => hX _ _ ⟨[(q1, .inr (31, []))], rfl, by rw [← hV0, ← hF]; exact h⟩)
set_option maxHeartbeats 4000000 in
set_option maxRecDepth 100000 in
theorem metX1_requireExists1 (l : Launch) (G : xG) (hG : xGood G)  : xRm l G yX1_requireExists (Cond.code yX1_requireExists cX1_requireExists 1 none) { frames := 0, locals := 0, cells := 0, slots := 0 } [.int 1] [] none := by
  intro V hV
  refine xMet_ofT RX1 hG rfl (by decide) (Nat.le_of_ble_eq_true rfl) fun C hC hQ hX hl hg _ hTab => ?_
  subst hl hg
  refine rn.mono (J := xRo [] V) (fun V9 h => ⟨h, hV⟩) ?_
  show rn C (xRo [] V) 0 0 0 [(0, .int 1)] []
  refine r_iload_n hC 0 dX1_requireExists_0 rfl 1 rfl ?_
  refine r_ifne hC 12 dX1_requireExists_1 (by decide) 4 rfl (fun _ => ?_) (fun h => absurd h (by decide))
  exact r_vret hC (Nat.le_of_ble_eq_true rfl) (Nat.le_of_ble_eq_true rfl) (fun V9 h => hQ _ _ ⟨rfl, h.1⟩) dX1_requireExists_12
set_option maxHeartbeats 4000000 in
set_option maxRecDepth 100000 in
theorem metX1_requireExists0 (l : Launch) (G : xG) (hG : xGood G)  (hlt : l.stackTraces = false) : xWm l G yX1_requireExists (Cond.code yX1_requireExists cX1_requireExists 1 none) { frames := 6, locals := 89, cells := 1, slots := 6 } [.int 0] [] (fun _ _ => False) (fun q w' => w' = [(q, .inr (30, []))]) := by
  intro V hV
  refine xMet_ofT RX1 hG rfl (by decide) (Nat.le_of_ble_eq_true rfl) fun C hC hQ hX hl hg _ hTab => ?_
  subst hl hg
  obtain ⟨V0, hV0⟩ : ∃ V0, V0 = V := ⟨_, rfl⟩
  obtain ⟨F, hF⟩ : ∃ F, F = xF [] := ⟨_, rfl⟩
  refine rn.mono (J := xSt F V0 []) (fun V9 h => by rw [h, hV0, hF]; exact hV.st) ?_
  show rn C (xSt F V0 []) 0 0 0 [(0, .int 0)] []
  refine r_iload_n hC 0 dX1_requireExists_0 rfl 1 rfl ?_
  refine r_ifne hC 12 dX1_requireExists_1 (by decide) 4 rfl (fun h => absurd h (by decide)) (fun _ => ?_)
  refine r_make0 (J := fun q1 => xSt F V0 [(q1, .inr (30, []))]) hC hG hlt kE17 (by decide +kernel) (by decide +kernel) q1500 q131 (ex_17 hG) (Nat.le_of_ble_eq_true rfl) (Nat.le_of_ble_eq_true rfl) (Nat.le_of_ble_eq_true rfl) (Nat.le_of_ble_eq_true rfl) (Nat.le_of_ble_eq_true rfl) dX1_requireExists_4 dX1_requireExists_7 dX1_requireExists_8 (fun _ h => h.push _) (fun q1 => ?_)
  show rn C (xSt F V0 [(q1, .inr (30, []))]) 1 6 11 [(0, .int 0)] [.ref q1]
  refine r_athrow hC (fun _ h => h.get 0 rfl) dX1_requireExists_11 ?_
  exact rx_out hC hTab (fun _ h => by cases h) (Nat.le_of_ble_eq_true rfl) (Nat.le_of_ble_eq_true rfl) (fun V9 h => hX _ _ ⟨[(q1, .inr (30, []))], rfl, by rw [← hV0, ← hF]; exact h⟩)
set_option maxHeartbeats 4000000 in
set_option maxRecDepth 100000 in
theorem metX1_requireBody1 (l : Launch) (G : xG) (hG : xGood G) (x : Int32) (hx : bI (m_in x.toInt64 0 2) = 1) : xRm l G yX1_requireBody (Cond.code yX1_requireBody cX1_requireBody 1 none) { frames := 1, locals := 25, cells := 0, slots := 0 } [.int x] [] none := by
  intro V hV
  refine xMet_ofT RX1 hG rfl (by decide) (Nat.le_of_ble_eq_true rfl) fun C hC hQ hX hl hg _ hTab => ?_
  subst hl hg
  refine rn.mono (J := xRo [] V) (fun V9 h => ⟨h, hV⟩) ?_
  show rn C (xRo [] V) 0 0 0 [(0, .int x)] []
  refine r_iload_n hC 0 dX1_requireBody_0 rfl 1 rfl ?_
  refine r_i2l hC x.toInt64 dX1_requireBody_1 (rfl) 2 rfl ?_
  refine r_lconst hC 0 dX1_requireBody_2 lc_0 3 rfl ?_
  refine r_ldc2 hC q287 dX1_requireBody_3 6 rfl ?_
  refine xCall.r (r := some (.int 1)) (r_cS hC [.long x.toInt64, .long 0, .long 2] mSX1_inRange q872 (fun V9 h9 => (metX1_inRangeB _ _ hG x.toInt64 0 2 1 (hx)) V9 xIn.nil) ⟨rfl, rfl⟩ (Nat.le_of_ble_eq_true rfl) (Nat.le_of_ble_eq_true rfl) rfl (Nat.le_of_ble_eq_true rfl) dX1_requireBody_6) 0 0 9 rfl rfl rfl ?_
  refine xCall.r (r := none) (r_cS hC [.int 1] mSX1_requireExists q1497 (fun V9 h9 => (metX1_requireExists1 _ _ hG) V9 xIn.nil) ⟨rfl, rfl⟩ (Nat.le_of_ble_eq_true rfl) (Nat.le_of_ble_eq_true rfl) rfl (Nat.le_of_ble_eq_true rfl) dX1_requireBody_9) 0 0 12 rfl rfl rfl ?_
  exact r_vret hC (Nat.le_of_ble_eq_true rfl) (Nat.le_of_ble_eq_true rfl) (fun V9 h => hQ _ _ ⟨rfl, h.1⟩) dX1_requireBody_12
set_option maxHeartbeats 4000000 in
set_option maxRecDepth 100000 in
theorem metX1_requireBody0 (l : Launch) (G : xG) (hG : xGood G) (x : Int32) (hx : bI (m_in x.toInt64 0 2) = 0) (hlt : l.stackTraces = false) : xWm l G yX1_requireBody (Cond.code yX1_requireBody cX1_requireBody 1 none) { frames := 7, locals := 109, cells := 1, slots := 6 } [.int x] [] (fun _ _ => False) (fun q w' => w' = [(q, .inr (30, []))]) := by
  intro V hV
  refine xMet_ofT RX1 hG rfl (by decide) (Nat.le_of_ble_eq_true rfl) fun C hC hQ hX hl hg _ hTab => ?_
  subst hl hg
  obtain ⟨V0, hV0⟩ : ∃ V0, V0 = V := ⟨_, rfl⟩
  obtain ⟨F, hF⟩ : ∃ F, F = xF [] := ⟨_, rfl⟩
  refine rn.mono (J := xSt F V0 []) (fun V9 h => by rw [h, hV0, hF]; exact hV.st) ?_
  show rn C (xSt F V0 []) 0 0 0 [(0, .int x)] []
  refine r_iload_n hC 0 dX1_requireBody_0 rfl 1 rfl ?_
  refine r_i2l hC x.toInt64 dX1_requireBody_1 (rfl) 2 rfl ?_
  refine r_lconst hC 0 dX1_requireBody_2 lc_0 3 rfl ?_
  refine r_ldc2 hC q287 dX1_requireBody_3 6 rfl ?_
  refine xCall.r (r := some (.int 0)) (r_cS hC [.long x.toInt64, .long 0, .long 2] mSX1_inRange q872 (fun V9 h9 => (metX1_inRangeB _ _ hG x.toInt64 0 2 0 (hx)) V9 xIn.nil) ⟨rfl, rfl⟩ (Nat.le_of_ble_eq_true rfl) (Nat.le_of_ble_eq_true rfl) rfl (Nat.le_of_ble_eq_true rfl) dX1_requireBody_6) 0 0 9 rfl rfl rfl ?_
  refine xCall.w (wr := []) (r_cS hC [.int 0] mSX1_requireExists q1497 (fun V9 h9 => (metX1_requireExists0 _ _ hG hlt) V9 xIn.nil) ⟨rfl, rfl⟩ (Nat.le_of_ble_eq_true rfl) (Nat.le_of_ble_eq_true rfl) rfl (Nat.le_of_ble_eq_true rfl) dX1_requireBody_9) [] [] rfl rfl rfl (by decide) 1 6 12 rfl rfl rfl (fun _ _ h => h.elim) (fun q4 w5 h6 => ?_)
  obtain rfl := h6
  show rx C (xSt F V0 [(q4, .inr (30, []))]) 1 6 9 [(0, .int x)] [] q4
  exact rx_out hC hTab (fun _ h => by cases h) (Nat.le_of_ble_eq_true rfl) (Nat.le_of_ble_eq_true rfl) (fun V9 h => hX _ _ ⟨[(q4, .inr (30, []))], rfl, by rw [← hV0, ← hF]; exact h⟩)
set_option maxHeartbeats 4000000 in
set_option maxRecDepth 100000 in
theorem metX1_isPeriod0 (l : Launch) (G : xG) (hG : xGood G) (N : Nat) (hN : N ≤ 300) (hN2 : 2 ≤ N) (z : Int32) (hz : bI (fitsQ 0 N) = z) : xRm l G yX1_isPeriod (Cond.code yX1_isPeriod cX1_isPeriod 2 (some .boolean)) { frames := 1, locals := 25, cells := 0, slots := 0 } [.int 0, .int (nI N)] [] (some (.int z)) := by
  intro V hV
  refine xMet_ofT RX1 hG rfl (by decide) (Nat.le_of_ble_eq_true rfl) fun C hC hQ hX hl hg _ hTab => ?_
  subst hl hg
  refine rn.mono (J := xRo [] V) (fun V9 h => ⟨h, hV⟩) ?_
  show rn C (xRo [] V) 0 0 0 [(0, .int 0), (1, .int (nI N))] []
  refine r_iload_n hC 1 dX1_isPeriod_0 rfl 1 rfl ?_
  refine r_i2l hC ((nI N).toInt64) dX1_isPeriod_1 (rfl) 2 rfl ?_
  refine r_ldc2 hC q287 dX1_isPeriod_2 5 rfl ?_
  refine r_ldc2 hC q1656 dX1_isPeriod_5 8 rfl ?_
  refine xCall.r (r := some (.int 1)) (r_cS hC [.long ((nI N).toInt64), .long 2, .long 300] mSX1_inRange q872 (fun V9 h9 => (metX1_inRangeB _ _ hG ((nI N).toInt64) 2 300 1 (in_lo (L := 2) (N := 300) (by omega) (by omega) rfl rfl (by decide))) V9 xIn.nil) ⟨rfl, rfl⟩ (Nat.le_of_ble_eq_true rfl) (Nat.le_of_ble_eq_true rfl) rfl (Nat.le_of_ble_eq_true rfl) dX1_isPeriod_8) 0 0 11 rfl rfl rfl ?_
  refine r_ifeq hC 39 dX1_isPeriod_11 (by decide) 14 rfl (fun h => absurd h (by decide)) (fun _ => ?_)
  refine r_iload_n hC 0 dX1_isPeriod_14 rfl 15 rfl ?_
  refine r_ifne hC 24 dX1_isPeriod_15 (by decide) 18 rfl (fun h => absurd h (by decide)) (fun _ => ?_)
  refine r_iload_n hC 1 dX1_isPeriod_18 rfl 19 rfl ?_
  refine r_iconst hC 3 dX1_isPeriod_19 ic_3 20 rfl ?_
  refine r_irem hC (nI (N % 3)) dX1_isPeriod_20 (by decide) (pk_rem (a := N) (d := 3) (by omega) (by omega) (by omega)) 21 rfl ?_
  refine r_ifne hC 39 dX1_isPeriod_21 (by decide) 24 rfl (fun c1 => ?_) (fun c1 => ?_)
  · skip
    refine r_iconst hC 0 dX1_isPeriod_39 ic_0 40 rfl ?_
    exact r_zret hC (by decide) (Nat.le_of_ble_eq_true rfl) (Nat.le_of_ble_eq_true rfl) (fun V9 h => hQ _ _ ⟨by rw [← hz]; simp [fitsQ, bI, (show ¬ N % 3 = 0 from fun q => c1 (by rw [q]; rfl))], h.1⟩) dX1_isPeriod_40
  · skip
    refine r_iload_n hC 0 dX1_isPeriod_24 rfl 25 rfl ?_
    refine r_iconst hC 1 dX1_isPeriod_25 ic_1 26 rfl ?_
    refine r_icne hC 35 dX1_isPeriod_26 (by decide) 29 rfl (fun _ => ?_) (fun h => absurd h (by decide))
    refine r_iconst hC 1 dX1_isPeriod_35 ic_1 36 rfl ?_
    refine r_goto hC 40 dX1_isPeriod_36 (by decide) ?_
    exact r_zret hC (by decide) (Nat.le_of_ble_eq_true rfl) (Nat.le_of_ble_eq_true rfl) (fun V9 h => hQ _ _ ⟨by rw [← hz]; simp [fitsQ, bI, (nI_eq (a := N % 3) (b := 0) (by omega) (by decide)).mp c1], h.1⟩) dX1_isPeriod_40
set_option maxHeartbeats 4000000 in
set_option maxRecDepth 100000 in
theorem metX1_isPeriod1 (l : Launch) (G : xG) (hG : xGood G) (N : Nat) (hN : N ≤ 300) (hN2 : 2 ≤ N) (z : Int32) (hz : bI (fitsQ 1 N) = z) : xRm l G yX1_isPeriod (Cond.code yX1_isPeriod cX1_isPeriod 2 (some .boolean)) { frames := 1, locals := 25, cells := 0, slots := 0 } [.int 1, .int (nI N)] [] (some (.int z)) := by
  intro V hV
  refine xMet_ofT RX1 hG rfl (by decide) (Nat.le_of_ble_eq_true rfl) fun C hC hQ hX hl hg _ hTab => ?_
  subst hl hg
  refine rn.mono (J := xRo [] V) (fun V9 h => ⟨h, hV⟩) ?_
  show rn C (xRo [] V) 0 0 0 [(0, .int 1), (1, .int (nI N))] []
  refine r_iload_n hC 1 dX1_isPeriod_0 rfl 1 rfl ?_
  refine r_i2l hC ((nI N).toInt64) dX1_isPeriod_1 (rfl) 2 rfl ?_
  refine r_ldc2 hC q287 dX1_isPeriod_2 5 rfl ?_
  refine r_ldc2 hC q1656 dX1_isPeriod_5 8 rfl ?_
  refine xCall.r (r := some (.int 1)) (r_cS hC [.long ((nI N).toInt64), .long 2, .long 300] mSX1_inRange q872 (fun V9 h9 => (metX1_inRangeB _ _ hG ((nI N).toInt64) 2 300 1 (in_lo (L := 2) (N := 300) (by omega) (by omega) rfl rfl (by decide))) V9 xIn.nil) ⟨rfl, rfl⟩ (Nat.le_of_ble_eq_true rfl) (Nat.le_of_ble_eq_true rfl) rfl (Nat.le_of_ble_eq_true rfl) dX1_isPeriod_8) 0 0 11 rfl rfl rfl ?_
  refine r_ifeq hC 39 dX1_isPeriod_11 (by decide) 14 rfl (fun h => absurd h (by decide)) (fun _ => ?_)
  refine r_iload_n hC 0 dX1_isPeriod_14 rfl 15 rfl ?_
  refine r_ifne hC 24 dX1_isPeriod_15 (by decide) 18 rfl (fun _ => ?_) (fun h => absurd h (by decide))
  refine r_iload_n hC 0 dX1_isPeriod_24 rfl 25 rfl ?_
  refine r_iconst hC 1 dX1_isPeriod_25 ic_1 26 rfl ?_
  refine r_icne hC 35 dX1_isPeriod_26 (by decide) 29 rfl (fun h => absurd h (by decide)) (fun _ => ?_)
  refine r_iload_n hC 1 dX1_isPeriod_29 rfl 30 rfl ?_
  refine r_iconst hC 2 dX1_isPeriod_30 ic_2 31 rfl ?_
  refine r_irem hC (nI (N % 2)) dX1_isPeriod_31 (by decide) (pk_rem (a := N) (d := 2) (by omega) (by omega) (by omega)) 32 rfl ?_
  refine r_ifne hC 39 dX1_isPeriod_32 (by decide) 35 rfl (fun c1 => ?_) (fun c1 => ?_)
  · skip
    refine r_iconst hC 0 dX1_isPeriod_39 ic_0 40 rfl ?_
    exact r_zret hC (by decide) (Nat.le_of_ble_eq_true rfl) (Nat.le_of_ble_eq_true rfl) (fun V9 h => hQ _ _ ⟨by rw [← hz]; simp [fitsQ, bI, (show ¬ N % 2 = 0 from fun q => c1 (by rw [q]; rfl))], h.1⟩) dX1_isPeriod_40
  · skip
    refine r_iconst hC 1 dX1_isPeriod_35 ic_1 36 rfl ?_
    refine r_goto hC 40 dX1_isPeriod_36 (by decide) ?_
    exact r_zret hC (by decide) (Nat.le_of_ble_eq_true rfl) (Nat.le_of_ble_eq_true rfl) (fun V9 h => hQ _ _ ⟨by rw [← hz]; simp [fitsQ, bI, (nI_eq (a := N % 2) (b := 0) (by omega) (by decide)).mp c1], h.1⟩) dX1_isPeriod_40
set_option maxHeartbeats 4000000 in
set_option maxRecDepth 100000 in
theorem metX1_isPeriod2 (l : Launch) (G : xG) (hG : xGood G) (N : Nat) (hN : N ≤ 300) (hN2 : 2 ≤ N) (z : Int32) (hz : bI (fitsQ 2 N) = z) : xRm l G yX1_isPeriod (Cond.code yX1_isPeriod cX1_isPeriod 2 (some .boolean)) { frames := 1, locals := 25, cells := 0, slots := 0 } [.int 2, .int (nI N)] [] (some (.int z)) := by
  intro V hV
  refine xMet_ofT RX1 hG rfl (by decide) (Nat.le_of_ble_eq_true rfl) fun C hC hQ hX hl hg _ hTab => ?_
  subst hl hg
  refine rn.mono (J := xRo [] V) (fun V9 h => ⟨h, hV⟩) ?_
  show rn C (xRo [] V) 0 0 0 [(0, .int 2), (1, .int (nI N))] []
  refine r_iload_n hC 1 dX1_isPeriod_0 rfl 1 rfl ?_
  refine r_i2l hC ((nI N).toInt64) dX1_isPeriod_1 (rfl) 2 rfl ?_
  refine r_ldc2 hC q287 dX1_isPeriod_2 5 rfl ?_
  refine r_ldc2 hC q1656 dX1_isPeriod_5 8 rfl ?_
  refine xCall.r (r := some (.int 1)) (r_cS hC [.long ((nI N).toInt64), .long 2, .long 300] mSX1_inRange q872 (fun V9 h9 => (metX1_inRangeB _ _ hG ((nI N).toInt64) 2 300 1 (in_lo (L := 2) (N := 300) (by omega) (by omega) rfl rfl (by decide))) V9 xIn.nil) ⟨rfl, rfl⟩ (Nat.le_of_ble_eq_true rfl) (Nat.le_of_ble_eq_true rfl) rfl (Nat.le_of_ble_eq_true rfl) dX1_isPeriod_8) 0 0 11 rfl rfl rfl ?_
  refine r_ifeq hC 39 dX1_isPeriod_11 (by decide) 14 rfl (fun h => absurd h (by decide)) (fun _ => ?_)
  refine r_iload_n hC 0 dX1_isPeriod_14 rfl 15 rfl ?_
  refine r_ifne hC 24 dX1_isPeriod_15 (by decide) 18 rfl (fun _ => ?_) (fun h => absurd h (by decide))
  refine r_iload_n hC 0 dX1_isPeriod_24 rfl 25 rfl ?_
  refine r_iconst hC 1 dX1_isPeriod_25 ic_1 26 rfl ?_
  refine r_icne hC 35 dX1_isPeriod_26 (by decide) 29 rfl (fun _ => ?_) (fun h => absurd h (by decide))
  refine r_iconst hC 1 dX1_isPeriod_35 ic_1 36 rfl ?_
  refine r_goto hC 40 dX1_isPeriod_36 (by decide) ?_
  exact r_zret hC (by decide) (Nat.le_of_ble_eq_true rfl) (Nat.le_of_ble_eq_true rfl) (fun V9 h => hQ _ _ ⟨by rw [← hz]; simp [fitsQ, bI], h.1⟩) dX1_isPeriod_40
set_option maxHeartbeats 4000000 in
set_option maxRecDepth 100000 in
theorem metX1_isPeriod3 (l : Launch) (G : xG) (hG : xGood G) (N : Nat) (hN : N ≤ 300) (hN2 : 2 ≤ N) (z : Int32) (hz : bI (fitsQ 3 N) = z) : xRm l G yX1_isPeriod (Cond.code yX1_isPeriod cX1_isPeriod 2 (some .boolean)) { frames := 1, locals := 25, cells := 0, slots := 0 } [.int 3, .int (nI N)] [] (some (.int z)) := by
  intro V hV
  refine xMet_ofT RX1 hG rfl (by decide) (Nat.le_of_ble_eq_true rfl) fun C hC hQ hX hl hg _ hTab => ?_
  subst hl hg
  refine rn.mono (J := xRo [] V) (fun V9 h => ⟨h, hV⟩) ?_
  show rn C (xRo [] V) 0 0 0 [(0, .int 3), (1, .int (nI N))] []
  refine r_iload_n hC 1 dX1_isPeriod_0 rfl 1 rfl ?_
  refine r_i2l hC ((nI N).toInt64) dX1_isPeriod_1 (rfl) 2 rfl ?_
  refine r_ldc2 hC q287 dX1_isPeriod_2 5 rfl ?_
  refine r_ldc2 hC q1656 dX1_isPeriod_5 8 rfl ?_
  refine xCall.r (r := some (.int 1)) (r_cS hC [.long ((nI N).toInt64), .long 2, .long 300] mSX1_inRange q872 (fun V9 h9 => (metX1_inRangeB _ _ hG ((nI N).toInt64) 2 300 1 (in_lo (L := 2) (N := 300) (by omega) (by omega) rfl rfl (by decide))) V9 xIn.nil) ⟨rfl, rfl⟩ (Nat.le_of_ble_eq_true rfl) (Nat.le_of_ble_eq_true rfl) rfl (Nat.le_of_ble_eq_true rfl) dX1_isPeriod_8) 0 0 11 rfl rfl rfl ?_
  refine r_ifeq hC 39 dX1_isPeriod_11 (by decide) 14 rfl (fun h => absurd h (by decide)) (fun _ => ?_)
  refine r_iload_n hC 0 dX1_isPeriod_14 rfl 15 rfl ?_
  refine r_ifne hC 24 dX1_isPeriod_15 (by decide) 18 rfl (fun _ => ?_) (fun h => absurd h (by decide))
  refine r_iload_n hC 0 dX1_isPeriod_24 rfl 25 rfl ?_
  refine r_iconst hC 1 dX1_isPeriod_25 ic_1 26 rfl ?_
  refine r_icne hC 35 dX1_isPeriod_26 (by decide) 29 rfl (fun _ => ?_) (fun h => absurd h (by decide))
  refine r_iconst hC 1 dX1_isPeriod_35 ic_1 36 rfl ?_
  refine r_goto hC 40 dX1_isPeriod_36 (by decide) ?_
  exact r_zret hC (by decide) (Nat.le_of_ble_eq_true rfl) (Nat.le_of_ble_eq_true rfl) (fun V9 h => hQ _ _ ⟨by rw [← hz]; simp [fitsQ, bI], h.1⟩) dX1_isPeriod_40
set_option maxHeartbeats 4000000 in
set_option maxRecDepth 100000 in
theorem metX1_isPeriodG (l : Launch) (G : xG) (hG : xGood G) (N : Nat) (hN : N ≤ 300) (hN2 : 2 ≤ N) (kd : Nat) (hkd : kd < 4) (z : Int32) (hz : bI (fitsQ kd N) = z) : xRm l G yX1_isPeriod (Cond.code yX1_isPeriod cX1_isPeriod 2 (some .boolean)) { frames := 1, locals := 25, cells := 0, slots := 0 } [.int (nI kd), .int (nI N)] [] (some (.int z)) := by
  rcases (show kd = 0 ∨ kd = 1 ∨ kd = 2 ∨ kd = 3 by omega) with rfl | rfl | rfl | rfl
  · exact metX1_isPeriod0 l G hG N hN hN2 z hz
  · exact metX1_isPeriod1 l G hG N hN hN2 z hz
  · exact metX1_isPeriod2 l G hG N hN hN2 z hz
  · exact metX1_isPeriod3 l G hG N hN hN2 z hz
set_option maxHeartbeats 4000000 in
set_option maxRecDepth 100000 in
theorem metX1_isPeriodB (l : Launch) (G : xG) (hG : xGood G) (x y : Int32) (hy : bI (m_in y.toInt64 2 300) = 0) : xRm l G yX1_isPeriod (Cond.code yX1_isPeriod cX1_isPeriod 2 (some .boolean)) { frames := 1, locals := 25, cells := 0, slots := 0 } [.int x, .int y] [] (some (.int 0)) := by
  intro V hV
  refine xMet_ofT RX1 hG rfl (by decide) (Nat.le_of_ble_eq_true rfl) fun C hC hQ hX hl hg _ hTab => ?_
  subst hl hg
  refine rn.mono (J := xRo [] V) (fun V9 h => ⟨h, hV⟩) ?_
  show rn C (xRo [] V) 0 0 0 [(0, .int x), (1, .int y)] []
  refine r_iload_n hC 1 dX1_isPeriod_0 rfl 1 rfl ?_
  refine r_i2l hC y.toInt64 dX1_isPeriod_1 (rfl) 2 rfl ?_
  refine r_ldc2 hC q287 dX1_isPeriod_2 5 rfl ?_
  refine r_ldc2 hC q1656 dX1_isPeriod_5 8 rfl ?_
  refine xCall.r (r := some (.int 0)) (r_cS hC [.long y.toInt64, .long 2, .long 300] mSX1_inRange q872 (fun V9 h9 => (metX1_inRangeB _ _ hG y.toInt64 2 300 0 (hy)) V9 xIn.nil) ⟨rfl, rfl⟩ (Nat.le_of_ble_eq_true rfl) (Nat.le_of_ble_eq_true rfl) rfl (Nat.le_of_ble_eq_true rfl) dX1_isPeriod_8) 0 0 11 rfl rfl rfl ?_
  refine r_ifeq hC 39 dX1_isPeriod_11 (by decide) 14 rfl (fun _ => ?_) (fun h => absurd h (by decide))
  refine r_iconst hC 0 dX1_isPeriod_39 ic_0 40 rfl ?_
  exact r_zret hC (by decide) (Nat.le_of_ble_eq_true rfl) (Nat.le_of_ble_eq_true rfl) (fun V9 h => hQ _ _ ⟨rfl, h.1⟩) dX1_isPeriod_40
