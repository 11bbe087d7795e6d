/-! ===== the class: bodies, what only reads ===== -/
set_option maxRecDepth 100000
def strF (t r : Nat → Int64) (p : Nat) : Int64 := t 0 * r (6 + 5 * m_first p + 0) * r (6 + 5 * m_second p + 0)
set_option maxHeartbeats 4000000 in
set_option maxRecDepth 100000 in
theorem metX3_distanceOf (l : Launch) (G : xG) (hG : xGood G) (o : Nat → Nat) (t r : Nat → Int64) (p : Nat) (hp : p < 3) (hpl : plR r) : xRm l G yX3_distanceOf (Cond.code yX3_distanceOf cX3_distanceOf 2 (some .int)) { frames := 1, locals := 31, cells := 0, slots := 0 } [.ref (o 0), .int (nI p)] [(o 0, .inr (2, [.ref (o 1), .ref (o 2), .ref (o 3), .ref (o 4), .ref (o 5), .ref (o 6), .ref (o 7), .ref (o 8), .ref (o 9), .ref (o 10), .int ((r 0).toInt32)])), (o 3, .inl (0, 3, .inl (plX r))), (o 4, .inl (0, 3, .inl (plY r)))] (some (.int (nI (distQ r p)))) := by
  intro V hV
  refine xMet_ofT RX3 hG rfl (by decide) (Nat.le_of_ble_eq_true rfl) fun C hC hQ hX hl hg _ hTab => ?_
  subst hl hg
  obtain ⟨tONE, hzONE, htONE⟩ := za_ONE hG
  obtain ⟨tOTH, hzOTH, htOTH⟩ := za_OTH hG
  refine rn.mono (J := xRo [(o 0, .inr (2, [.ref (o 1), .ref (o 2), .ref (o 3), .ref (o 4), .ref (o 5), .ref (o 6), .ref (o 7), .ref (o 8), .ref (o 9), .ref (o 10), .int ((r 0).toInt32)])), (o 3, .inl (0, 3, .inl (plX r))), (o 4, .inl (0, 3, .inl (plY r)))] V) (fun V9 h => ⟨h, hV⟩) ?_
  show rn C (xRo [(o 0, .inr (2, [.ref (o 1), .ref (o 2), .ref (o 3), .ref (o 4), .ref (o 5), .ref (o 6), .ref (o 7), .ref (o 8), .ref (o 9), .ref (o 10), .int ((r 0).toInt32)])), (o 3, .inl (0, 3, .inl (plX r))), (o 4, .inl (0, 3, .inl (plY r)))] V) 0 0 0 [(0, .ref (o 0)), (1, .int (nI p))] []
  refine r_aload_n hC 0 dX3_distanceOf_0 rfl 1 rfl ?_
  refine r_get (v := .ref (o 3)) hC kX3 2 rfl q180 (fun _ h => h.get 0 rfl) rfl dX3_distanceOf_1 4 rfl ?_
  refine r_getsN hC hG hzONE q271 dX3_distanceOf_4 7 rfl ?_
  refine r_iload_n hC 1 dX3_distanceOf_7 rfl 8 rfl ?_
  refine r_ialdT hC htONE p (xix_n p (by omega) (Nat.le_of_ble_eq_true rfl)) (nI (m_first p)) rfl dX3_distanceOf_8 9 rfl ?_
  refine r_iald hC (m_first p) (xix_n (m_first p) m_first_lt (Nat.le_of_ble_eq_true rfl)) (fun _ h => h.get 1 rfl) (plX r (m_first p)) (rfl) dX3_distanceOf_9 10 rfl ?_
  refine r_aload_n hC 0 dX3_distanceOf_10 rfl 11 rfl ?_
  refine r_get (v := .ref (o 3)) hC kX3 2 rfl q180 (fun _ h => h.get 0 rfl) rfl dX3_distanceOf_11 14 rfl ?_
  refine r_getsN hC hG hzOTH q273 dX3_distanceOf_14 17 rfl ?_
  refine r_iload_n hC 1 dX3_distanceOf_17 rfl 18 rfl ?_
  refine r_ialdT hC htOTH p (xix_n p (by omega) (Nat.le_of_ble_eq_true rfl)) (nI (m_second p)) rfl dX3_distanceOf_18 19 rfl ?_
  refine r_iald hC (m_second p) (xix_n (m_second p) m_second_lt (Nat.le_of_ble_eq_true rfl)) (fun _ h => h.get 1 rfl) (plX r (m_second p)) (rfl) dX3_distanceOf_19 20 rfl ?_
  refine r_isub hC ((plX r (m_first p)) - (plX r (m_second p))) dX3_distanceOf_20  (rfl) 21 rfl ?_
  refine r_i2l hC (((plX r (m_first p)) - (plX r (m_second p))).toInt64) dX3_distanceOf_21 (rfl) 22 rfl ?_
  refine r_eql (y := r (6 + 5 * (m_first p) + 1) - r (6 + 5 * (m_second p) + 1)) (dX_l hpl m_first_lt m_second_lt) ?_
  refine r_aload_n hC 0 dX3_distanceOf_22 rfl 23 rfl ?_
  refine r_get (v := .ref (o 4)) hC kX3 3 rfl q184 (fun _ h => h.get 0 rfl) rfl dX3_distanceOf_23 26 rfl ?_
  refine r_getsN hC hG hzONE q271 dX3_distanceOf_26 29 rfl ?_
  refine r_iload_n hC 1 dX3_distanceOf_29 rfl 30 rfl ?_
  refine r_ialdT hC htONE p (xix_n p (by omega) (Nat.le_of_ble_eq_true rfl)) (nI (m_first p)) rfl dX3_distanceOf_30 31 rfl ?_
  refine r_iald hC (m_first p) (xix_n (m_first p) m_first_lt (Nat.le_of_ble_eq_true rfl)) (fun _ h => h.get 2 rfl) (plY r (m_first p)) (rfl) dX3_distanceOf_31 32 rfl ?_
  refine r_aload_n hC 0 dX3_distanceOf_32 rfl 33 rfl ?_
  refine r_get (v := .ref (o 4)) hC kX3 3 rfl q184 (fun _ h => h.get 0 rfl) rfl dX3_distanceOf_33 36 rfl ?_
  refine r_getsN hC hG hzOTH q273 dX3_distanceOf_36 39 rfl ?_
  refine r_iload_n hC 1 dX3_distanceOf_39 rfl 40 rfl ?_
  refine r_ialdT hC htOTH p (xix_n p (by omega) (Nat.le_of_ble_eq_true rfl)) (nI (m_second p)) rfl dX3_distanceOf_40 41 rfl ?_
  refine r_iald hC (m_second p) (xix_n (m_second p) m_second_lt (Nat.le_of_ble_eq_true rfl)) (fun _ h => h.get 2 rfl) (plY r (m_second p)) (rfl) dX3_distanceOf_41 42 rfl ?_
  refine r_isub hC ((plY r (m_first p)) - (plY r (m_second p))) dX3_distanceOf_42  (rfl) 43 rfl ?_
  refine r_i2l hC (((plY r (m_first p)) - (plY r (m_second p))).toInt64) dX3_distanceOf_43 (rfl) 44 rfl ?_
  refine r_eql (y := r (6 + 5 * (m_first p) + 2) - r (6 + 5 * (m_second p) + 2)) (dY_l hpl m_first_lt m_second_lt) ?_
  refine xCall.r (r := some (.int (nI (awayQ (r (6 + 5 * (m_first p) + 1) - r (6 + 5 * (m_second p) + 1)) (r (6 + 5 * (m_first p) + 2) - r (6 + 5 * (m_second p) + 2)))))) (r_cSN hC hG [.long (r (6 + 5 * (m_first p) + 1) - r (6 + 5 * (m_second p) + 1)), .long (r (6 + 5 * (m_first p) + 2) - r (6 + 5 * (m_second p) + 2))] mSX1_distance q283 (fun V9 h9 => (metX1_distance _ _ hG (r (6 + 5 * (m_first p) + 1) - r (6 + 5 * (m_second p) + 1)) (r (6 + 5 * (m_first p) + 2) - r (6 + 5 * (m_second p) + 2))) V9 xIn.nil) ⟨rfl, rfl⟩ (Nat.le_of_ble_eq_true rfl) (Nat.le_of_ble_eq_true rfl) rfl (Nat.le_of_ble_eq_true rfl) dX3_distanceOf_44) 0 0 47 rfl rfl rfl ?_
  exact r_iret hC (Nat.le_of_ble_eq_true rfl) (Nat.le_of_ble_eq_true rfl) (fun V9 h => hQ _ _ ⟨by rw [distQ, away_sub], h.1⟩) dX3_distanceOf_47
set_option maxHeartbeats 4000000 in
set_option maxRecDepth 100000 in
theorem metX3_reach (l : Launch) (G : xG) (hG : xGood G) (o : Nat → Nat) (t r : Nat → Int64) (p : Nat) (hp : p < 3) (hpl : plR r) (ht : tOK t) : xRm l G yX3_reach (Cond.code yX3_reach cX3_reach 2 (some .long)) { frames := 2, locals := 52, cells := 0, slots := 0 } [.ref (o 0), .int (nI p)] [(o 0, .inr (2, [.ref (o 1), .ref (o 2), .ref (o 3), .ref (o 4), .ref (o 5), .ref (o 6), .ref (o 7), .ref (o 8), .ref (o 9), .ref (o 10), .int ((r 0).toInt32)])), (o 1, .inl (0, 6, .inl (seF t r))), (o 3, .inl (0, 3, .inl (plX r))), (o 4, .inl (0, 3, .inl (plY r)))] (some (.long (reachQ t r p))) := by
  intro V hV
  refine xMet_ofT RX3 hG rfl (by decide) (Nat.le_of_ble_eq_true rfl) fun C hC hQ hX hl hg _ hTab => ?_
  subst hl hg
  refine rn.mono (J := xRo [(o 0, .inr (2, [.ref (o 1), .ref (o 2), .ref (o 3), .ref (o 4), .ref (o 5), .ref (o 6), .ref (o 7), .ref (o 8), .ref (o 9), .ref (o 10), .int ((r 0).toInt32)])), (o 1, .inl (0, 6, .inl (seF t r))), (o 3, .inl (0, 3, .inl (plX r))), (o 4, .inl (0, 3, .inl (plY r)))] V) (fun V9 h => ⟨h, hV⟩) ?_
  show rn C (xRo [(o 0, .inr (2, [.ref (o 1), .ref (o 2), .ref (o 3), .ref (o 4), .ref (o 5), .ref (o 6), .ref (o 7), .ref (o 8), .ref (o 9), .ref (o 10), .int ((r 0).toInt32)])), (o 1, .inl (0, 6, .inl (seF t r))), (o 3, .inl (0, 3, .inl (plX r))), (o 4, .inl (0, 3, .inl (plY r)))] V) 0 0 0 [(0, .ref (o 0)), (1, .int (nI p))] []
  refine r_aload_n hC 0 dX3_reach_0 rfl 1 rfl ?_
  refine r_iload_n hC 1 dX3_reach_1 rfl 2 rfl ?_
  refine xCall.r (r := some (.int (nI (distQ r p)))) (r_cV hC kX3 (o 0) [.int (nI p)] mVX3_distanceOf q279 (fun _ h => ⟨_, h.get 0 rfl⟩) (fun V9 h9 => (metX3_distanceOf _ _ hG o t r p (by omega) hpl) V9 (h9.in.sub [0, 2, 3] rfl rfl)) ⟨rfl, rfl⟩ (Nat.le_of_ble_eq_true rfl) (Nat.le_of_ble_eq_true rfl) rfl (Nat.le_of_ble_eq_true rfl) dX3_reach_2) 0 0 5 rfl rfl rfl ?_
  refine r_aload_n hC 0 dX3_reach_5 rfl 6 rfl ?_
  refine r_get (v := .ref (o 1)) hC kX3 0 rfl q173 (fun _ h => h.get 0 rfl) rfl dX3_reach_6 9 rfl ?_
  refine r_iconst hC 1 dX3_reach_9 ic_1 10 rfl ?_
  refine r_iald hC 1 (xix_n 1 (Nat.le_of_ble_eq_true rfl) (Nat.le_of_ble_eq_true rfl)) (fun _ h => h.get 1 rfl) (seF t r 1) (rfl) dX3_reach_10 11 rfl ?_
  refine r_iadd hC ((nI (distQ r p)) + (seF t r 1)) dX3_reach_11  (rfl) 12 rfl ?_
  refine r_i2l hC (((nI (distQ r p)) + (seF t r 1)).toInt64) dX3_reach_12 (rfl) 13 rfl ?_
  refine r_eql (y := reachQ t r p) (reach_l ht) ?_
  exact r_lret hC (Nat.le_of_ble_eq_true rfl) (Nat.le_of_ble_eq_true rfl) (fun V9 h => hQ _ _ ⟨rfl, h.1⟩) dX3_reach_13
set_option maxHeartbeats 4000000 in
set_option maxRecDepth 100000 in
theorem metX3_strength (l : Launch) (G : xG) (hG : xGood G) (o : Nat → Nat) (t r : Nat → Int64) (p : Nat) (hp : p < 3) (ht : tOK t) (hm : mOK r) : xRm l G yX3_strength (Cond.code yX3_strength cX3_strength 2 (some .long)) { frames := 0, locals := 0, cells := 0, slots := 0 } [.ref (o 0), .int (nI p)] [(o 0, .inr (2, [.ref (o 1), .ref (o 2), .ref (o 3), .ref (o 4), .ref (o 5), .ref (o 6), .ref (o 7), .ref (o 8), .ref (o 9), .ref (o 10), .int ((r 0).toInt32)])), (o 1, .inl (0, 6, .inl (seF t r))), (o 2, .inl (0, 3, .inl (maF r)))] (some (.long (strF t r p))) := by
  intro V hV
  refine xMet_ofT RX3 hG rfl (by decide) (Nat.le_of_ble_eq_true rfl) fun C hC hQ hX hl hg _ hTab => ?_
  subst hl hg
  obtain ⟨tONE, hzONE, htONE⟩ := za_ONE hG
  obtain ⟨tOTH, hzOTH, htOTH⟩ := za_OTH hG
  refine rn.mono (J := xRo [(o 0, .inr (2, [.ref (o 1), .ref (o 2), .ref (o 3), .ref (o 4), .ref (o 5), .ref (o 6), .ref (o 7), .ref (o 8), .ref (o 9), .ref (o 10), .int ((r 0).toInt32)])), (o 1, .inl (0, 6, .inl (seF t r))), (o 2, .inl (0, 3, .inl (maF r)))] V) (fun V9 h => ⟨h, hV⟩) ?_
  show rn C (xRo [(o 0, .inr (2, [.ref (o 1), .ref (o 2), .ref (o 3), .ref (o 4), .ref (o 5), .ref (o 6), .ref (o 7), .ref (o 8), .ref (o 9), .ref (o 10), .int ((r 0).toInt32)])), (o 1, .inl (0, 6, .inl (seF t r))), (o 2, .inl (0, 3, .inl (maF r)))] V) 0 0 0 [(0, .ref (o 0)), (1, .int (nI p))] []
  refine r_aload_n hC 0 dX3_strength_0 rfl 1 rfl ?_
  refine r_get (v := .ref (o 1)) hC kX3 0 rfl q173 (fun _ h => h.get 0 rfl) rfl dX3_strength_1 4 rfl ?_
  refine r_iconst hC 0 dX3_strength_4 ic_0 5 rfl ?_
  refine r_iald hC 0 (xix_n 0 (Nat.le_of_ble_eq_true rfl) (Nat.le_of_ble_eq_true rfl)) (fun _ h => h.get 1 rfl) (seF t r 0) (rfl) dX3_strength_5 6 rfl ?_
  refine r_i2l hC ((seF t r 0).toInt64) dX3_strength_6 (rfl) 7 rfl ?_
  refine r_eql (y := t 0) (se0_l ht) ?_
  refine r_aload_n hC 0 dX3_strength_7 rfl 8 rfl ?_
  refine r_get (v := .ref (o 2)) hC kX3 1 rfl q177 (fun _ h => h.get 0 rfl) rfl dX3_strength_8 11 rfl ?_
  refine r_getsN hC hG hzONE q271 dX3_strength_11 14 rfl ?_
  refine r_iload_n hC 1 dX3_strength_14 rfl 15 rfl ?_
  refine r_ialdT hC htONE p (xix_n p (by omega) (Nat.le_of_ble_eq_true rfl)) (nI (m_first p)) rfl dX3_strength_15 16 rfl ?_
  refine r_iald hC (m_first p) (xix_n (m_first p) m_first_lt (Nat.le_of_ble_eq_true rfl)) (fun _ h => h.get 2 rfl) (maF r (m_first p)) (rfl) dX3_strength_16 17 rfl ?_
  refine r_i2l hC ((maF r (m_first p)).toInt64) dX3_strength_17 (rfl) 18 rfl ?_
  refine r_eql (y := r (6 + 5 * (m_first p) + 0)) (maF_l hm m_first_lt) ?_
  refine r_lmul hC ((t 0) * (r (6 + 5 * (m_first p) + 0))) dX3_strength_18  (rfl) 19 rfl ?_
  refine r_aload_n hC 0 dX3_strength_19 rfl 20 rfl ?_
  refine r_get (v := .ref (o 2)) hC kX3 1 rfl q177 (fun _ h => h.get 0 rfl) rfl dX3_strength_20 23 rfl ?_
  refine r_getsN hC hG hzOTH q273 dX3_strength_23 26 rfl ?_
  refine r_iload_n hC 1 dX3_strength_26 rfl 27 rfl ?_
  refine r_ialdT hC htOTH p (xix_n p (by omega) (Nat.le_of_ble_eq_true rfl)) (nI (m_second p)) rfl dX3_strength_27 28 rfl ?_
  refine r_iald hC (m_second p) (xix_n (m_second p) m_second_lt (Nat.le_of_ble_eq_true rfl)) (fun _ h => h.get 2 rfl) (maF r (m_second p)) (rfl) dX3_strength_28 29 rfl ?_
  refine r_i2l hC ((maF r (m_second p)).toInt64) dX3_strength_29 (rfl) 30 rfl ?_
  refine r_eql (y := r (6 + 5 * (m_second p) + 0)) (maF_l hm m_second_lt) ?_
  refine r_lmul hC (((t 0) * (r (6 + 5 * (m_first p) + 0))) * (r (6 + 5 * (m_second p) + 0))) dX3_strength_30  (rfl) 31 rfl ?_
  exact r_lret hC (Nat.le_of_ble_eq_true rfl) (Nat.le_of_ble_eq_true rfl) (fun V9 h => hQ _ _ ⟨rfl, h.1⟩) dX3_strength_31
set_option maxHeartbeats 4000000 in
set_option maxRecDepth 100000 in
theorem metX3_impulse0 (l : Launch) (G : xG) (hG : xGood G) (o : Nat → Nat) (t r : Nat → Int64) (p : Nat) (hp : p < 3) (hpl : plR r) (ht : tOK t) (hm : mOK r) : xRm l G yX3_impulse (Cond.code yX3_impulse cX3_impulse 6 (some .long)) { frames := 3, locals := 73, cells := 0, slots := 0 } [.ref (o 0), .int (nI p), .int 0] [(o 0, .inr (2, [.ref (o 1), .ref (o 2), .ref (o 3), .ref (o 4), .ref (o 5), .ref (o 6), .ref (o 7), .ref (o 8), .ref (o 9), .ref (o 10), .int ((r 0).toInt32)])), (o 1, .inl (0, 6, .inl (seF t r))), (o 2, .inl (0, 3, .inl (maF r))), (o 3, .inl (0, 3, .inl (plX r))), (o 4, .inl (0, 3, .inl (plY r)))] (some (.long (impQ t r p 0))) := by
  intro V hV
  refine xMet_ofT RX3 hG rfl (by decide) (Nat.le_of_ble_eq_true rfl) fun C hC hQ hX hl hg _ hTab => ?_
  subst hl hg
  have hne := ((rowOK_of ht hm).1 p hp).2
  obtain ⟨tONE, hzONE, htONE⟩ := za_ONE hG
  obtain ⟨tOTH, hzOTH, htOTH⟩ := za_OTH hG
  refine rn.mono (J := xRo [(o 0, .inr (2, [.ref (o 1), .ref (o 2), .ref (o 3), .ref (o 4), .ref (o 5), .ref (o 6), .ref (o 7), .ref (o 8), .ref (o 9), .ref (o 10), .int ((r 0).toInt32)])), (o 1, .inl (0, 6, .inl (seF t r))), (o 2, .inl (0, 3, .inl (maF r))), (o 3, .inl (0, 3, .inl (plX r))), (o 4, .inl (0, 3, .inl (plY r)))] V) (fun V9 h => ⟨h, hV⟩) ?_
  show rn C (xRo [(o 0, .inr (2, [.ref (o 1), .ref (o 2), .ref (o 3), .ref (o 4), .ref (o 5), .ref (o 6), .ref (o 7), .ref (o 8), .ref (o 9), .ref (o 10), .int ((r 0).toInt32)])), (o 1, .inl (0, 6, .inl (seF t r))), (o 2, .inl (0, 3, .inl (maF r))), (o 3, .inl (0, 3, .inl (plX r))), (o 4, .inl (0, 3, .inl (plY r)))] V) 0 0 0 [(0, .ref (o 0)), (1, .int (nI p)), (2, .int 0)] []
  refine r_iload_n hC 2 dX3_impulse_0 rfl 1 rfl ?_
  refine r_ifne hC 11 dX3_impulse_1 (by decide) 4 rfl (fun h => absurd h (by decide)) (fun _ => ?_)
  refine r_aload_n hC 0 dX3_impulse_4 rfl 5 rfl ?_
  refine r_get (v := .ref (o 3)) hC kX3 2 rfl q180 (fun _ h => h.get 0 rfl) rfl dX3_impulse_5 8 rfl ?_
  refine r_goto hC 15 dX3_impulse_8 (by decide) ?_
  refine r_astore_n hC 3 [(3, .ref (o 3)), (0, .ref (o 0)), (1, .int (nI p)), (2, .int 0)] dX3_impulse_15 rfl (Nat.le_of_ble_eq_true rfl) rfl 16 rfl ?_
  refine r_aload_n hC 1 dX3_impulse_16 rfl 17 rfl ?_
  refine r_iload_n hC 2 dX3_impulse_17 rfl 18 rfl ?_
  refine xCall.r (r := some (.long (reachQ t r p))) (r_cV hC kX3 (o 0) [.int (nI p)] mVX3_reach q275 (fun _ h => ⟨_, h.get 0 rfl⟩) (fun V9 h9 => (metX3_reach _ _ hG o t r p (by omega) hpl ht) V9 (h9.in.sub [0, 1, 3, 4] rfl rfl)) ⟨rfl, rfl⟩ (Nat.le_of_ble_eq_true rfl) (Nat.le_of_ble_eq_true rfl) rfl (Nat.le_of_ble_eq_true rfl) dX3_impulse_18) 0 0 21 rfl rfl rfl ?_
  refine r_lstore hC 4 [(4, .long (reachQ t r p)), (3, .ref (o 3)), (0, .ref (o 0)), (1, .int (nI p)), (2, .int 0)] dX3_impulse_21 (Nat.le_of_ble_eq_true rfl) rfl 23 rfl ?_
  refine r_aload_n hC 2 dX3_impulse_23 rfl 24 rfl ?_
  refine r_iload_n hC 3 dX3_impulse_24 rfl 25 rfl ?_
  refine xCall.r (r := some (.long (strF t r p))) (r_cV hC kX3 (o 0) [.int (nI p)] mVX3_strength q267 (fun _ h => ⟨_, h.get 0 rfl⟩) (fun V9 h9 => (metX3_strength _ _ hG o t r p (by omega) ht hm) V9 (h9.in.sub [0, 1, 2] rfl rfl)) ⟨rfl, rfl⟩ (Nat.le_of_ble_eq_true rfl) (Nat.le_of_ble_eq_true rfl) rfl (Nat.le_of_ble_eq_true rfl) dX3_impulse_25) 0 0 28 rfl rfl rfl ?_
  refine r_aload_n hC 1 dX3_impulse_28 rfl 29 rfl ?_
  refine r_getsN hC hG hzOTH q273 dX3_impulse_29 32 rfl ?_
  refine r_iload_n hC 3 dX3_impulse_32 rfl 33 rfl ?_
  refine r_ialdT hC htOTH p (xix_n p (by omega) (Nat.le_of_ble_eq_true rfl)) (nI (m_second p)) rfl dX3_impulse_33 34 rfl ?_
  refine r_iald hC (m_second p) (xix_n (m_second p) m_second_lt (Nat.le_of_ble_eq_true rfl)) (fun _ h => h.get 3 rfl) (plX r (m_second p)) (rfl) dX3_impulse_34 35 rfl ?_
  refine r_aload_n hC 1 dX3_impulse_35 rfl 36 rfl ?_
  refine r_getsN hC hG hzONE q271 dX3_impulse_36 39 rfl ?_
  refine r_iload_n hC 3 dX3_impulse_39 rfl 40 rfl ?_
  refine r_ialdT hC htONE p (xix_n p (by omega) (Nat.le_of_ble_eq_true rfl)) (nI (m_first p)) rfl dX3_impulse_40 41 rfl ?_
  refine r_iald hC (m_first p) (xix_n (m_first p) m_first_lt (Nat.le_of_ble_eq_true rfl)) (fun _ h => h.get 3 rfl) (plX r (m_first p)) (rfl) dX3_impulse_41 42 rfl ?_
  refine r_isub hC ((plX r (m_second p)) - (plX r (m_first p))) dX3_impulse_42  (rfl) 43 rfl ?_
  refine r_i2l hC (((plX r (m_second p)) - (plX r (m_first p))).toInt64) dX3_impulse_43 (rfl) 44 rfl ?_
  refine r_eql (y := r (6 + 5 * (m_second p) + 1) - r (6 + 5 * (m_first p) + 1)) (dX_l hpl m_second_lt m_first_lt) ?_
  refine r_lmul hC ((strF t r p) * (r (6 + 5 * (m_second p) + 1) - r (6 + 5 * (m_first p) + 1))) dX3_impulse_44  (rfl) 45 rfl ?_
  refine r_lload hC 0 dX3_impulse_45 rfl 47 rfl ?_
  refine r_lload hC 0 dX3_impulse_47 rfl 49 rfl ?_
  refine r_lmul hC ((reachQ t r p) * (reachQ t r p)) dX3_impulse_49  (rfl) 50 rfl ?_
  refine r_lload hC 0 dX3_impulse_50 rfl 52 rfl ?_
  refine r_lmul hC (((reachQ t r p) * (reachQ t r p)) * (reachQ t r p)) dX3_impulse_52  (rfl) 53 rfl ?_
  refine r_ldiv hC (((strF t r p) * (r (6 + 5 * (m_second p) + 1) - r (6 + 5 * (m_first p) + 1))) / (((reachQ t r p) * (reachQ t r p)) * (reachQ t r p))) dX3_impulse_53 (by assumption) (rfl) 54 rfl ?_
  exact r_lret hC (Nat.le_of_ble_eq_true rfl) (Nat.le_of_ble_eq_true rfl) (fun V9 h => hQ _ _ ⟨rfl, h.1⟩) dX3_impulse_54
set_option maxHeartbeats 4000000 in
set_option maxRecDepth 100000 in
theorem metX3_impulse1 (l : Launch) (G : xG) (hG : xGood G) (o : Nat → Nat) (t r : Nat → Int64) (p : Nat) (hp : p < 3) (hpl : plR r) (ht : tOK t) (hm : mOK r) : xRm l G yX3_impulse (Cond.code yX3_impulse cX3_impulse 6 (some .long)) { frames := 3, locals := 73, cells := 0, slots := 0 } [.ref (o 0), .int (nI p), .int 1] [(o 0, .inr (2, [.ref (o 1), .ref (o 2), .ref (o 3), .ref (o 4), .ref (o 5), .ref (o 6), .ref (o 7), .ref (o 8), .ref (o 9), .ref (o 10), .int ((r 0).toInt32)])), (o 1, .inl (0, 6, .inl (seF t r))), (o 2, .inl (0, 3, .inl (maF r))), (o 3, .inl (0, 3, .inl (plX r))), (o 4, .inl (0, 3, .inl (plY r)))] (some (.long (impQ t r p 1))) := by
  intro V hV
  refine xMet_ofT RX3 hG rfl (by decide) (Nat.le_of_ble_eq_true rfl) fun C hC hQ hX hl hg _ hTab => ?_
  subst hl hg
  have hne := ((rowOK_of ht hm).1 p hp).2
  obtain ⟨tONE, hzONE, htONE⟩ := za_ONE hG
  obtain ⟨tOTH, hzOTH, htOTH⟩ := za_OTH hG
  refine rn.mono (J := xRo [(o 0, .inr (2, [.ref (o 1), .ref (o 2), .ref (o 3), .ref (o 4), .ref (o 5), .ref (o 6), .ref (o 7), .ref (o 8), .ref (o 9), .ref (o 10), .int ((r 0).toInt32)])), (o 1, .inl (0, 6, .inl (seF t r))), (o 2, .inl (0, 3, .inl (maF r))), (o 3, .inl (0, 3, .inl (plX r))), (o 4, .inl (0, 3, .inl (plY r)))] V) (fun V9 h => ⟨h, hV⟩) ?_
  show rn C (xRo [(o 0, .inr (2, [.ref (o 1), .ref (o 2), .ref (o 3), .ref (o 4), .ref (o 5), .ref (o 6), .ref (o 7), .ref (o 8), .ref (o 9), .ref (o 10), .int ((r 0).toInt32)])), (o 1, .inl (0, 6, .inl (seF t r))), (o 2, .inl (0, 3, .inl (maF r))), (o 3, .inl (0, 3, .inl (plX r))), (o 4, .inl (0, 3, .inl (plY r)))] V) 0 0 0 [(0, .ref (o 0)), (1, .int (nI p)), (2, .int 1)] []
  refine r_iload_n hC 2 dX3_impulse_0 rfl 1 rfl ?_
  refine r_ifne hC 11 dX3_impulse_1 (by decide) 4 rfl (fun _ => ?_) (fun h => absurd h (by decide))
  refine r_aload_n hC 0 dX3_impulse_11 rfl 12 rfl ?_
  refine r_get (v := .ref (o 4)) hC kX3 3 rfl q184 (fun _ h => h.get 0 rfl) rfl dX3_impulse_12 15 rfl ?_
  refine r_astore_n hC 3 [(3, .ref (o 4)), (0, .ref (o 0)), (1, .int (nI p)), (2, .int 1)] dX3_impulse_15 rfl (Nat.le_of_ble_eq_true rfl) rfl 16 rfl ?_
  refine r_aload_n hC 1 dX3_impulse_16 rfl 17 rfl ?_
  refine r_iload_n hC 2 dX3_impulse_17 rfl 18 rfl ?_
  refine xCall.r (r := some (.long (reachQ t r p))) (r_cV hC kX3 (o 0) [.int (nI p)] mVX3_reach q275 (fun _ h => ⟨_, h.get 0 rfl⟩) (fun V9 h9 => (metX3_reach _ _ hG o t r p (by omega) hpl ht) V9 (h9.in.sub [0, 1, 3, 4] rfl rfl)) ⟨rfl, rfl⟩ (Nat.le_of_ble_eq_true rfl) (Nat.le_of_ble_eq_true rfl) rfl (Nat.le_of_ble_eq_true rfl) dX3_impulse_18) 0 0 21 rfl rfl rfl ?_
  refine r_lstore hC 4 [(4, .long (reachQ t r p)), (3, .ref (o 4)), (0, .ref (o 0)), (1, .int (nI p)), (2, .int 1)] dX3_impulse_21 (Nat.le_of_ble_eq_true rfl) rfl 23 rfl ?_
  refine r_aload_n hC 2 dX3_impulse_23 rfl 24 rfl ?_
  refine r_iload_n hC 3 dX3_impulse_24 rfl 25 rfl ?_
  refine xCall.r (r := some (.long (strF t r p))) (r_cV hC kX3 (o 0) [.int (nI p)] mVX3_strength q267 (fun _ h => ⟨_, h.get 0 rfl⟩) (fun V9 h9 => (metX3_strength _ _ hG o t r p (by omega) ht hm) V9 (h9.in.sub [0, 1, 2] rfl rfl)) ⟨rfl, rfl⟩ (Nat.le_of_ble_eq_true rfl) (Nat.le_of_ble_eq_true rfl) rfl (Nat.le_of_ble_eq_true rfl) dX3_impulse_25) 0 0 28 rfl rfl rfl ?_
  refine r_aload_n hC 1 dX3_impulse_28 rfl 29 rfl ?_
  refine r_getsN hC hG hzOTH q273 dX3_impulse_29 32 rfl ?_
  refine r_iload_n hC 3 dX3_impulse_32 rfl 33 rfl ?_
  refine r_ialdT hC htOTH p (xix_n p (by omega) (Nat.le_of_ble_eq_true rfl)) (nI (m_second p)) rfl dX3_impulse_33 34 rfl ?_
  refine r_iald hC (m_second p) (xix_n (m_second p) m_second_lt (Nat.le_of_ble_eq_true rfl)) (fun _ h => h.get 4 rfl) (plY r (m_second p)) (rfl) dX3_impulse_34 35 rfl ?_
  refine r_aload_n hC 1 dX3_impulse_35 rfl 36 rfl ?_
  refine r_getsN hC hG hzONE q271 dX3_impulse_36 39 rfl ?_
  refine r_iload_n hC 3 dX3_impulse_39 rfl 40 rfl ?_
  refine r_ialdT hC htONE p (xix_n p (by omega) (Nat.le_of_ble_eq_true rfl)) (nI (m_first p)) rfl dX3_impulse_40 41 rfl ?_
  refine r_iald hC (m_first p) (xix_n (m_first p) m_first_lt (Nat.le_of_ble_eq_true rfl)) (fun _ h => h.get 4 rfl) (plY r (m_first p)) (rfl) dX3_impulse_41 42 rfl ?_
  refine r_isub hC ((plY r (m_second p)) - (plY r (m_first p))) dX3_impulse_42  (rfl) 43 rfl ?_
  refine r_i2l hC (((plY r (m_second p)) - (plY r (m_first p))).toInt64) dX3_impulse_43 (rfl) 44 rfl ?_
  refine r_eql (y := r (6 + 5 * (m_second p) + 2) - r (6 + 5 * (m_first p) + 2)) (dY_l hpl m_second_lt m_first_lt) ?_
  refine r_lmul hC ((strF t r p) * (r (6 + 5 * (m_second p) + 2) - r (6 + 5 * (m_first p) + 2))) dX3_impulse_44  (rfl) 45 rfl ?_
  refine r_lload hC 0 dX3_impulse_45 rfl 47 rfl ?_
  refine r_lload hC 0 dX3_impulse_47 rfl 49 rfl ?_
  refine r_lmul hC ((reachQ t r p) * (reachQ t r p)) dX3_impulse_49  (rfl) 50 rfl ?_
  refine r_lload hC 0 dX3_impulse_50 rfl 52 rfl ?_
  refine r_lmul hC (((reachQ t r p) * (reachQ t r p)) * (reachQ t r p)) dX3_impulse_52  (rfl) 53 rfl ?_
  refine r_ldiv hC (((strF t r p) * (r (6 + 5 * (m_second p) + 2) - r (6 + 5 * (m_first p) + 2))) / (((reachQ t r p) * (reachQ t r p)) * (reachQ t r p))) dX3_impulse_53 (by assumption) (rfl) 54 rfl ?_
  exact r_lret hC (Nat.le_of_ble_eq_true rfl) (Nat.le_of_ble_eq_true rfl) (fun V9 h => hQ _ _ ⟨rfl, h.1⟩) dX3_impulse_54
set_option maxHeartbeats 4000000 in
set_option maxRecDepth 100000 in
theorem metX3_kinetic (l : Launch) (G : xG) (hG : xGood G) (o : Nat → Nat) (t r : Nat → Int64) (ht : tOK t) (hm : mOK r) : xRm l G yX3_kinetic (Cond.code yX3_kinetic cX3_kinetic 4 (some .long)) { frames := 0, locals := 0, cells := 0, slots := 0 } [.ref (o 0)] [(o 0, .inr (2, [.ref (o 1), .ref (o 2), .ref (o 3), .ref (o 4), .ref (o 5), .ref (o 6), .ref (o 7), .ref (o 8), .ref (o 9), .ref (o 10), .int ((r 0).toInt32)])), (o 2, .inl (0, 3, .inl (maF r))), (o 5, .inl (1, 3, .inr (.inl (moX r)))), (o 6, .inl (1, 3, .inr (.inl (moY r))))] (some (.long (kinQ r))) := by
  intro V hV
  refine xMet_ofT RX3 hG rfl (by decide) (Nat.le_of_ble_eq_true rfl) fun C hC hQ hX hl hg _ hTab => ?_
  subst hl hg
  have hR := rowOK_of ht hm
  have hd0 := hR.2.1.1
  have hd1 := hR.2.1.2.1
  have hd2 := hR.2.1.2.2
  have hr0 := (hR.1 0 (by decide)).1
  have hr1 := (hR.1 1 (by decide)).1
  have hr2 := (hR.1 2 (by decide)).1
  refine rn.mono (J := xRo [(o 0, .inr (2, [.ref (o 1), .ref (o 2), .ref (o 3), .ref (o 4), .ref (o 5), .ref (o 6), .ref (o 7), .ref (o 8), .ref (o 9), .ref (o 10), .int ((r 0).toInt32)])), (o 2, .inl (0, 3, .inl (maF r))), (o 5, .inl (1, 3, .inr (.inl (moX r)))), (o 6, .inl (1, 3, .inr (.inl (moY r))))] V) (fun V9 h => ⟨h, hV⟩) ?_
  show rn C (xRo [(o 0, .inr (2, [.ref (o 1), .ref (o 2), .ref (o 3), .ref (o 4), .ref (o 5), .ref (o 6), .ref (o 7), .ref (o 8), .ref (o 9), .ref (o 10), .int ((r 0).toInt32)])), (o 2, .inl (0, 3, .inl (maF r))), (o 5, .inl (1, 3, .inr (.inl (moX r)))), (o 6, .inl (1, 3, .inr (.inl (moY r))))] V) 0 0 0 [(0, .ref (o 0))] []
  refine r_lconst hC 0 dX3_kinetic_0 lc_0 1 rfl ?_
  refine r_lstore_n hC 1 [(1, .long 0), (0, .ref (o 0))] dX3_kinetic_1 rfl (Nat.le_of_ble_eq_true rfl) rfl 2 rfl ?_
  refine r_iconst hC 0 dX3_kinetic_2 ic_0 3 rfl ?_
  refine r_istore_n hC 3 [(3, .int 0), (1, .long 0), (0, .ref (o 0))] dX3_kinetic_3 rfl (Nat.le_of_ble_eq_true rfl) rfl 4 rfl ?_
  refine r_iload_n hC 0 dX3_kinetic_4 rfl 5 rfl ?_
  refine r_iconst hC 3 dX3_kinetic_5 ic_3 6 rfl ?_
  refine r_icge hC 57 dX3_kinetic_6 (by decide) 9 rfl (fun h => absurd h (by decide)) (fun _ => ?_)
  refine r_lload_n hC 1 dX3_kinetic_9 rfl 10 rfl ?_
  refine r_aload_n hC 2 dX3_kinetic_10 rfl 11 rfl ?_
  refine r_get (v := .ref (o 5)) hC kX3 4 rfl q188 (fun _ h => h.get 0 rfl) rfl dX3_kinetic_11 14 rfl ?_
  refine r_iload_n hC 0 dX3_kinetic_14 rfl 15 rfl ?_
  refine r_lald hC 0 (xix_n 0 (Nat.le_of_ble_eq_true rfl) (Nat.le_of_ble_eq_true rfl)) (fun _ h => h.get 2 rfl) (moX r 0) (rfl) dX3_kinetic_15 16 rfl ?_
  refine r_eql (y := r 9) (rfl) ?_
  refine r_aload_n hC 2 dX3_kinetic_16 rfl 17 rfl ?_
  refine r_get (v := .ref (o 5)) hC kX3 4 rfl q188 (fun _ h => h.get 0 rfl) rfl dX3_kinetic_17 20 rfl ?_
  refine r_iload_n hC 0 dX3_kinetic_20 rfl 21 rfl ?_
  refine r_lald hC 0 (xix_n 0 (Nat.le_of_ble_eq_true rfl) (Nat.le_of_ble_eq_true rfl)) (fun _ h => h.get 2 rfl) (moX r 0) (rfl) dX3_kinetic_21 22 rfl ?_
  refine r_eql (y := r 9) (rfl) ?_
  refine r_lmul hC ((r 9) * (r 9)) dX3_kinetic_22  (rfl) 23 rfl ?_
  refine r_aload_n hC 2 dX3_kinetic_23 rfl 24 rfl ?_
  refine r_get (v := .ref (o 6)) hC kX3 5 rfl q191 (fun _ h => h.get 0 rfl) rfl dX3_kinetic_24 27 rfl ?_
  refine r_iload_n hC 0 dX3_kinetic_27 rfl 28 rfl ?_
  refine r_lald hC 0 (xix_n 0 (Nat.le_of_ble_eq_true rfl) (Nat.le_of_ble_eq_true rfl)) (fun _ h => h.get 3 rfl) (moY r 0) (rfl) dX3_kinetic_28 29 rfl ?_
  refine r_eql (y := r 10) (rfl) ?_
  refine r_aload_n hC 2 dX3_kinetic_29 rfl 30 rfl ?_
  refine r_get (v := .ref (o 6)) hC kX3 5 rfl q191 (fun _ h => h.get 0 rfl) rfl dX3_kinetic_30 33 rfl ?_
  refine r_iload_n hC 0 dX3_kinetic_33 rfl 34 rfl ?_
  refine r_lald hC 0 (xix_n 0 (Nat.le_of_ble_eq_true rfl) (Nat.le_of_ble_eq_true rfl)) (fun _ h => h.get 3 rfl) (moY r 0) (rfl) dX3_kinetic_34 35 rfl ?_
  refine r_eql (y := r 10) (rfl) ?_
  refine r_lmul hC ((r 10) * (r 10)) dX3_kinetic_35  (rfl) 36 rfl ?_
  refine r_ladd hC (((r 9) * (r 9)) + ((r 10) * (r 10))) dX3_kinetic_36  (rfl) 37 rfl ?_
  refine r_ldc2 hC q262 dX3_kinetic_37 40 rfl ?_
  refine r_aload_n hC 2 dX3_kinetic_40 rfl 41 rfl ?_
  refine r_get (v := .ref (o 2)) hC kX3 1 rfl q177 (fun _ h => h.get 0 rfl) rfl dX3_kinetic_41 44 rfl ?_
  refine r_iload_n hC 0 dX3_kinetic_44 rfl 45 rfl ?_
  refine r_iald hC 0 (xix_n 0 (Nat.le_of_ble_eq_true rfl) (Nat.le_of_ble_eq_true rfl)) (fun _ h => h.get 1 rfl) (maF r 0) (rfl) dX3_kinetic_45 46 rfl ?_
  refine r_i2l hC ((maF r 0).toInt64) dX3_kinetic_46 (rfl) 47 rfl ?_
  refine r_eql (y := r 6) (maF_l hm (Nat.le_of_ble_eq_true rfl)) ?_
  refine r_lmul hC (2 * (r 6)) dX3_kinetic_47  (rfl) 48 rfl ?_
  refine r_ldiv hC ((((r 9) * (r 9)) + ((r 10) * (r 10))) / (2 * (r 6))) dX3_kinetic_48 (by assumption) (rfl) 49 rfl ?_
  refine r_ladd hC (0 + ((((r 9) * (r 9)) + ((r 10) * (r 10))) / (2 * (r 6)))) dX3_kinetic_49  (rfl) 50 rfl ?_
  refine r_lstore_n hC 1 [(1, .long (0 + ((((r 9) * (r 9)) + ((r 10) * (r 10))) / (2 * (r 6))))), (3, .int 0), (0, .ref (o 0))] dX3_kinetic_50 rfl (Nat.le_of_ble_eq_true rfl) rfl 51 rfl ?_
  refine r_iinc hC 1 3 1 [(3, .int 1), (1, .long (0 + ((((r 9) * (r 9)) + ((r 10) * (r 10))) / (2 * (r 6))))), (0, .ref (o 0))] dX3_kinetic_51 rfl (by decide) (Nat.le_of_ble_eq_true rfl) rfl 54 rfl ?_
  refine r_goto hC 4 dX3_kinetic_54 (by decide) ?_
  refine r_iload_n hC 0 dX3_kinetic_4 rfl 5 rfl ?_
  refine r_iconst hC 3 dX3_kinetic_5 ic_3 6 rfl ?_
  refine r_icge hC 57 dX3_kinetic_6 (by decide) 9 rfl (fun h => absurd h (by decide)) (fun _ => ?_)
  refine r_lload_n hC 1 dX3_kinetic_9 rfl 10 rfl ?_
  refine r_aload_n hC 2 dX3_kinetic_10 rfl 11 rfl ?_
  refine r_get (v := .ref (o 5)) hC kX3 4 rfl q188 (fun _ h => h.get 0 rfl) rfl dX3_kinetic_11 14 rfl ?_
  refine r_iload_n hC 0 dX3_kinetic_14 rfl 15 rfl ?_
  refine r_lald hC 1 (xix_n 1 (Nat.le_of_ble_eq_true rfl) (Nat.le_of_ble_eq_true rfl)) (fun _ h => h.get 2 rfl) (moX r 1) (rfl) dX3_kinetic_15 16 rfl ?_
  refine r_eql (y := r 14) (rfl) ?_
  refine r_aload_n hC 2 dX3_kinetic_16 rfl 17 rfl ?_
  refine r_get (v := .ref (o 5)) hC kX3 4 rfl q188 (fun _ h => h.get 0 rfl) rfl dX3_kinetic_17 20 rfl ?_
  refine r_iload_n hC 0 dX3_kinetic_20 rfl 21 rfl ?_
  refine r_lald hC 1 (xix_n 1 (Nat.le_of_ble_eq_true rfl) (Nat.le_of_ble_eq_true rfl)) (fun _ h => h.get 2 rfl) (moX r 1) (rfl) dX3_kinetic_21 22 rfl ?_
  refine r_eql (y := r 14) (rfl) ?_
  refine r_lmul hC ((r 14) * (r 14)) dX3_kinetic_22  (rfl) 23 rfl ?_
  refine r_aload_n hC 2 dX3_kinetic_23 rfl 24 rfl ?_
  refine r_get (v := .ref (o 6)) hC kX3 5 rfl q191 (fun _ h => h.get 0 rfl) rfl dX3_kinetic_24 27 rfl ?_
  refine r_iload_n hC 0 dX3_kinetic_27 rfl 28 rfl ?_
  refine r_lald hC 1 (xix_n 1 (Nat.le_of_ble_eq_true rfl) (Nat.le_of_ble_eq_true rfl)) (fun _ h => h.get 3 rfl) (moY r 1) (rfl) dX3_kinetic_28 29 rfl ?_
  refine r_eql (y := r 15) (rfl) ?_
  refine r_aload_n hC 2 dX3_kinetic_29 rfl 30 rfl ?_
  refine r_get (v := .ref (o 6)) hC kX3 5 rfl q191 (fun _ h => h.get 0 rfl) rfl dX3_kinetic_30 33 rfl ?_
  refine r_iload_n hC 0 dX3_kinetic_33 rfl 34 rfl ?_
  refine r_lald hC 1 (xix_n 1 (Nat.le_of_ble_eq_true rfl) (Nat.le_of_ble_eq_true rfl)) (fun _ h => h.get 3 rfl) (moY r 1) (rfl) dX3_kinetic_34 35 rfl ?_
  refine r_eql (y := r 15) (rfl) ?_
  refine r_lmul hC ((r 15) * (r 15)) dX3_kinetic_35  (rfl) 36 rfl ?_
  refine r_ladd hC (((r 14) * (r 14)) + ((r 15) * (r 15))) dX3_kinetic_36  (rfl) 37 rfl ?_
  refine r_ldc2 hC q262 dX3_kinetic_37 40 rfl ?_
  refine r_aload_n hC 2 dX3_kinetic_40 rfl 41 rfl ?_
  refine r_get (v := .ref (o 2)) hC kX3 1 rfl q177 (fun _ h => h.get 0 rfl) rfl dX3_kinetic_41 44 rfl ?_
  refine r_iload_n hC 0 dX3_kinetic_44 rfl 45 rfl ?_
  refine r_iald hC 1 (xix_n 1 (Nat.le_of_ble_eq_true rfl) (Nat.le_of_ble_eq_true rfl)) (fun _ h => h.get 1 rfl) (maF r 1) (rfl) dX3_kinetic_45 46 rfl ?_
  refine r_i2l hC ((maF r 1).toInt64) dX3_kinetic_46 (rfl) 47 rfl ?_
  refine r_eql (y := r 11) (maF_l hm (Nat.le_of_ble_eq_true rfl)) ?_
  refine r_lmul hC (2 * (r 11)) dX3_kinetic_47  (rfl) 48 rfl ?_
  refine r_ldiv hC ((((r 14) * (r 14)) + ((r 15) * (r 15))) / (2 * (r 11))) dX3_kinetic_48 (by assumption) (rfl) 49 rfl ?_
  refine r_ladd hC ((0 + ((((r 9) * (r 9)) + ((r 10) * (r 10))) / (2 * (r 6)))) + ((((r 14) * (r 14)) + ((r 15) * (r 15))) / (2 * (r 11)))) dX3_kinetic_49  (rfl) 50 rfl ?_
  refine r_lstore_n hC 1 [(1, .long ((0 + ((((r 9) * (r 9)) + ((r 10) * (r 10))) / (2 * (r 6)))) + ((((r 14) * (r 14)) + ((r 15) * (r 15))) / (2 * (r 11))))), (3, .int 1), (0, .ref (o 0))] dX3_kinetic_50 rfl (Nat.le_of_ble_eq_true rfl) rfl 51 rfl ?_
  refine r_iinc hC 2 3 1 [(3, .int 2), (1, .long ((0 + ((((r 9) * (r 9)) + ((r 10) * (r 10))) / (2 * (r 6)))) + ((((r 14) * (r 14)) + ((r 15) * (r 15))) / (2 * (r 11))))), (0, .ref (o 0))] dX3_kinetic_51 rfl (by decide) (Nat.le_of_ble_eq_true rfl) rfl 54 rfl ?_
  refine r_goto hC 4 dX3_kinetic_54 (by decide) ?_
  refine r_iload_n hC 0 dX3_kinetic_4 rfl 5 rfl ?_
  refine r_iconst hC 3 dX3_kinetic_5 ic_3 6 rfl ?_
  refine r_icge hC 57 dX3_kinetic_6 (by decide) 9 rfl (fun h => absurd h (by decide)) (fun _ => ?_)
  refine r_lload_n hC 1 dX3_kinetic_9 rfl 10 rfl ?_
  refine r_aload_n hC 2 dX3_kinetic_10 rfl 11 rfl ?_
  refine r_get (v := .ref (o 5)) hC kX3 4 rfl q188 (fun _ h => h.get 0 rfl) rfl dX3_kinetic_11 14 rfl ?_
  refine r_iload_n hC 0 dX3_kinetic_14 rfl 15 rfl ?_
  refine r_lald hC 2 (xix_n 2 (Nat.le_of_ble_eq_true rfl) (Nat.le_of_ble_eq_true rfl)) (fun _ h => h.get 2 rfl) (moX r 2) (rfl) dX3_kinetic_15 16 rfl ?_
  refine r_eql (y := r 19) (rfl) ?_
  refine r_aload_n hC 2 dX3_kinetic_16 rfl 17 rfl ?_
  refine r_get (v := .ref (o 5)) hC kX3 4 rfl q188 (fun _ h => h.get 0 rfl) rfl dX3_kinetic_17 20 rfl ?_
  refine r_iload_n hC 0 dX3_kinetic_20 rfl 21 rfl ?_
  refine r_lald hC 2 (xix_n 2 (Nat.le_of_ble_eq_true rfl) (Nat.le_of_ble_eq_true rfl)) (fun _ h => h.get 2 rfl) (moX r 2) (rfl) dX3_kinetic_21 22 rfl ?_
  refine r_eql (y := r 19) (rfl) ?_
  refine r_lmul hC ((r 19) * (r 19)) dX3_kinetic_22  (rfl) 23 rfl ?_
  refine r_aload_n hC 2 dX3_kinetic_23 rfl 24 rfl ?_
  refine r_get (v := .ref (o 6)) hC kX3 5 rfl q191 (fun _ h => h.get 0 rfl) rfl dX3_kinetic_24 27 rfl ?_
  refine r_iload_n hC 0 dX3_kinetic_27 rfl 28 rfl ?_
  refine r_lald hC 2 (xix_n 2 (Nat.le_of_ble_eq_true rfl) (Nat.le_of_ble_eq_true rfl)) (fun _ h => h.get 3 rfl) (moY r 2) (rfl) dX3_kinetic_28 29 rfl ?_
  refine r_eql (y := r 20) (rfl) ?_
  refine r_aload_n hC 2 dX3_kinetic_29 rfl 30 rfl ?_
  refine r_get (v := .ref (o 6)) hC kX3 5 rfl q191 (fun _ h => h.get 0 rfl) rfl dX3_kinetic_30 33 rfl ?_
  refine r_iload_n hC 0 dX3_kinetic_33 rfl 34 rfl ?_
  refine r_lald hC 2 (xix_n 2 (Nat.le_of_ble_eq_true rfl) (Nat.le_of_ble_eq_true rfl)) (fun _ h => h.get 3 rfl) (moY r 2) (rfl) dX3_kinetic_34 35 rfl ?_
  refine r_eql (y := r 20) (rfl) ?_
  refine r_lmul hC ((r 20) * (r 20)) dX3_kinetic_35  (rfl) 36 rfl ?_
  refine r_ladd hC (((r 19) * (r 19)) + ((r 20) * (r 20))) dX3_kinetic_36  (rfl) 37 rfl ?_
  refine r_ldc2 hC q262 dX3_kinetic_37 40 rfl ?_
  refine r_aload_n hC 2 dX3_kinetic_40 rfl 41 rfl ?_
  refine r_get (v := .ref (o 2)) hC kX3 1 rfl q177 (fun _ h => h.get 0 rfl) rfl dX3_kinetic_41 44 rfl ?_
  refine r_iload_n hC 0 dX3_kinetic_44 rfl 45 rfl ?_
  refine r_iald hC 2 (xix_n 2 (Nat.le_of_ble_eq_true rfl) (Nat.le_of_ble_eq_true rfl)) (fun _ h => h.get 1 rfl) (maF r 2) (rfl) dX3_kinetic_45 46 rfl ?_
  refine r_i2l hC ((maF r 2).toInt64) dX3_kinetic_46 (rfl) 47 rfl ?_
  refine r_eql (y := r 16) (maF_l hm (Nat.le_of_ble_eq_true rfl)) ?_
  refine r_lmul hC (2 * (r 16)) dX3_kinetic_47  (rfl) 48 rfl ?_
  refine r_ldiv hC ((((r 19) * (r 19)) + ((r 20) * (r 20))) / (2 * (r 16))) dX3_kinetic_48 (by assumption) (rfl) 49 rfl ?_
  refine r_ladd hC (((0 + ((((r 9) * (r 9)) + ((r 10) * (r 10))) / (2 * (r 6)))) + ((((r 14) * (r 14)) + ((r 15) * (r 15))) / (2 * (r 11)))) + ((((r 19) * (r 19)) + ((r 20) * (r 20))) / (2 * (r 16)))) dX3_kinetic_49  (rfl) 50 rfl ?_
  refine r_lstore_n hC 1 [(1, .long (((0 + ((((r 9) * (r 9)) + ((r 10) * (r 10))) / (2 * (r 6)))) + ((((r 14) * (r 14)) + ((r 15) * (r 15))) / (2 * (r 11)))) + ((((r 19) * (r 19)) + ((r 20) * (r 20))) / (2 * (r 16))))), (3, .int 2), (0, .ref (o 0))] dX3_kinetic_50 rfl (Nat.le_of_ble_eq_true rfl) rfl 51 rfl ?_
  refine r_iinc hC 3 3 1 [(3, .int 3), (1, .long (((0 + ((((r 9) * (r 9)) + ((r 10) * (r 10))) / (2 * (r 6)))) + ((((r 14) * (r 14)) + ((r 15) * (r 15))) / (2 * (r 11)))) + ((((r 19) * (r 19)) + ((r 20) * (r 20))) / (2 * (r 16))))), (0, .ref (o 0))] dX3_kinetic_51 rfl (by decide) (Nat.le_of_ble_eq_true rfl) rfl 54 rfl ?_
  refine r_goto hC 4 dX3_kinetic_54 (by decide) ?_
  refine r_iload_n hC 0 dX3_kinetic_4 rfl 5 rfl ?_
  refine r_iconst hC 3 dX3_kinetic_5 ic_3 6 rfl ?_
  refine r_icge hC 57 dX3_kinetic_6 (by decide) 9 rfl (fun _ => ?_) (fun h => absurd h (by decide))
  refine r_lload_n hC 1 dX3_kinetic_57 rfl 58 rfl ?_
  exact r_lret hC (Nat.le_of_ble_eq_true rfl) (Nat.le_of_ble_eq_true rfl) (fun V9 h => hQ _ _ ⟨rfl, h.1⟩) dX3_kinetic_58
set_option maxHeartbeats 4000000 in
set_option maxRecDepth 100000 in
theorem metX3_potential (l : Launch) (G : xG) (hG : xGood G) (o : Nat → Nat) (t r : Nat → Int64) (hpl : plR r) (ht : tOK t) (hm : mOK r) : xRm l G yX3_potential (Cond.code yX3_potential cX3_potential 4 (some .long)) { frames := 3, locals := 73, cells := 0, slots := 0 } [.ref (o 0)] [(o 0, .inr (2, [.ref (o 1), .ref (o 2), .ref (o 3), .ref (o 4), .ref (o 5), .ref (o 6), .ref (o 7), .ref (o 8), .ref (o 9), .ref (o 10), .int ((r 0).toInt32)])), (o 1, .inl (0, 6, .inl (seF t r))), (o 2, .inl (0, 3, .inl (maF r))), (o 3, .inl (0, 3, .inl (plX r))), (o 4, .inl (0, 3, .inl (plY r)))] (some (.long (potQ t r))) := by
  intro V hV
  refine xMet_ofT RX3 hG rfl (by decide) (Nat.le_of_ble_eq_true rfl) fun C hC hQ hX hl hg _ hTab => ?_
  subst hl hg
  have hR := rowOK_of ht hm
  have hd0 := hR.2.1.1
  have hd1 := hR.2.1.2.1
  have hd2 := hR.2.1.2.2
  have hr0 := (hR.1 0 (by decide)).1
  have hr1 := (hR.1 1 (by decide)).1
  have hr2 := (hR.1 2 (by decide)).1
  refine rn.mono (J := xRo [(o 0, .inr (2, [.ref (o 1), .ref (o 2), .ref (o 3), .ref (o 4), .ref (o 5), .ref (o 6), .ref (o 7), .ref (o 8), .ref (o 9), .ref (o 10), .int ((r 0).toInt32)])), (o 1, .inl (0, 6, .inl (seF t r))), (o 2, .inl (0, 3, .inl (maF r))), (o 3, .inl (0, 3, .inl (plX r))), (o 4, .inl (0, 3, .inl (plY r)))] V) (fun V9 h => ⟨h, hV⟩) ?_
  show rn C (xRo [(o 0, .inr (2, [.ref (o 1), .ref (o 2), .ref (o 3), .ref (o 4), .ref (o 5), .ref (o 6), .ref (o 7), .ref (o 8), .ref (o 9), .ref (o 10), .int ((r 0).toInt32)])), (o 1, .inl (0, 6, .inl (seF t r))), (o 2, .inl (0, 3, .inl (maF r))), (o 3, .inl (0, 3, .inl (plX r))), (o 4, .inl (0, 3, .inl (plY r)))] V) 0 0 0 [(0, .ref (o 0))] []
  refine r_lconst hC 0 dX3_potential_0 lc_0 1 rfl ?_
  refine r_lstore_n hC 1 [(1, .long 0), (0, .ref (o 0))] dX3_potential_1 rfl (Nat.le_of_ble_eq_true rfl) rfl 2 rfl ?_
  refine r_iconst hC 0 dX3_potential_2 ic_0 3 rfl ?_
  refine r_istore_n hC 3 [(3, .int 0), (1, .long 0), (0, .ref (o 0))] dX3_potential_3 rfl (Nat.le_of_ble_eq_true rfl) rfl 4 rfl ?_
  refine r_iload_n hC 0 dX3_potential_4 rfl 5 rfl ?_
  refine r_iconst hC 3 dX3_potential_5 ic_3 6 rfl ?_
  refine r_icge hC 29 dX3_potential_6 (by decide) 9 rfl (fun h => absurd h (by decide)) (fun _ => ?_)
  refine r_lload_n hC 1 dX3_potential_9 rfl 10 rfl ?_
  refine r_aload_n hC 2 dX3_potential_10 rfl 11 rfl ?_
  refine r_iload_n hC 0 dX3_potential_11 rfl 12 rfl ?_
  refine xCall.r (r := some (.long (t 0 * r 6 * r 11))) (r_cV hC kX3 (o 0) [.int 0] mVX3_strength q267 (fun _ h => ⟨_, h.get 0 rfl⟩) (fun V9 h9 => (metX3_strength _ _ hG o t r 0 (Nat.le_of_ble_eq_true rfl) ht hm) V9 (h9.in.sub [0, 1, 2] rfl rfl)) ⟨rfl, rfl⟩ (Nat.le_of_ble_eq_true rfl) (Nat.le_of_ble_eq_true rfl) rfl (Nat.le_of_ble_eq_true rfl) dX3_potential_12) 0 0 15 rfl rfl rfl ?_
  refine r_aload_n hC 2 dX3_potential_15 rfl 16 rfl ?_
  refine r_iload_n hC 0 dX3_potential_16 rfl 17 rfl ?_
  refine xCall.r (r := some (.long (reachQ t r 0))) (r_cV hC kX3 (o 0) [.int 0] mVX3_reach q275 (fun _ h => ⟨_, h.get 0 rfl⟩) (fun V9 h9 => (metX3_reach _ _ hG o t r 0 (Nat.le_of_ble_eq_true rfl) hpl ht) V9 (h9.in.sub [0, 1, 3, 4] rfl rfl)) ⟨rfl, rfl⟩ (Nat.le_of_ble_eq_true rfl) (Nat.le_of_ble_eq_true rfl) rfl (Nat.le_of_ble_eq_true rfl) dX3_potential_17) 0 0 20 rfl rfl rfl ?_
  refine r_ldiv hC ((t 0 * r 6 * r 11) / (reachQ t r 0)) dX3_potential_20 (by assumption) (rfl) 21 rfl ?_
  refine r_lsub hC (0 - ((t 0 * r 6 * r 11) / (reachQ t r 0))) dX3_potential_21  (rfl) 22 rfl ?_
  refine r_lstore_n hC 1 [(1, .long (0 - ((t 0 * r 6 * r 11) / (reachQ t r 0)))), (3, .int 0), (0, .ref (o 0))] dX3_potential_22 rfl (Nat.le_of_ble_eq_true rfl) rfl 23 rfl ?_
  refine r_iinc hC 1 3 1 [(3, .int 1), (1, .long (0 - ((t 0 * r 6 * r 11) / (reachQ t r 0)))), (0, .ref (o 0))] dX3_potential_23 rfl (by decide) (Nat.le_of_ble_eq_true rfl) rfl 26 rfl ?_
  refine r_goto hC 4 dX3_potential_26 (by decide) ?_
  refine r_iload_n hC 0 dX3_potential_4 rfl 5 rfl ?_
  refine r_iconst hC 3 dX3_potential_5 ic_3 6 rfl ?_
  refine r_icge hC 29 dX3_potential_6 (by decide) 9 rfl (fun h => absurd h (by decide)) (fun _ => ?_)
  refine r_lload_n hC 1 dX3_potential_9 rfl 10 rfl ?_
  refine r_aload_n hC 2 dX3_potential_10 rfl 11 rfl ?_
  refine r_iload_n hC 0 dX3_potential_11 rfl 12 rfl ?_
  refine xCall.r (r := some (.long (t 0 * r 6 * r 16))) (r_cV hC kX3 (o 0) [.int 1] mVX3_strength q267 (fun _ h => ⟨_, h.get 0 rfl⟩) (fun V9 h9 => (metX3_strength _ _ hG o t r 1 (Nat.le_of_ble_eq_true rfl) ht hm) V9 (h9.in.sub [0, 1, 2] rfl rfl)) ⟨rfl, rfl⟩ (Nat.le_of_ble_eq_true rfl) (Nat.le_of_ble_eq_true rfl) rfl (Nat.le_of_ble_eq_true rfl) dX3_potential_12) 0 0 15 rfl rfl rfl ?_
  refine r_aload_n hC 2 dX3_potential_15 rfl 16 rfl ?_
  refine r_iload_n hC 0 dX3_potential_16 rfl 17 rfl ?_
  refine xCall.r (r := some (.long (reachQ t r 1))) (r_cV hC kX3 (o 0) [.int 1] mVX3_reach q275 (fun _ h => ⟨_, h.get 0 rfl⟩) (fun V9 h9 => (metX3_reach _ _ hG o t r 1 (Nat.le_of_ble_eq_true rfl) hpl ht) V9 (h9.in.sub [0, 1, 3, 4] rfl rfl)) ⟨rfl, rfl⟩ (Nat.le_of_ble_eq_true rfl) (Nat.le_of_ble_eq_true rfl) rfl (Nat.le_of_ble_eq_true rfl) dX3_potential_17) 0 0 20 rfl rfl rfl ?_
  refine r_ldiv hC ((t 0 * r 6 * r 16) / (reachQ t r 1)) dX3_potential_20 (by assumption) (rfl) 21 rfl ?_
  refine r_lsub hC ((0 - ((t 0 * r 6 * r 11) / (reachQ t r 0))) - ((t 0 * r 6 * r 16) / (reachQ t r 1))) dX3_potential_21  (rfl) 22 rfl ?_
  refine r_lstore_n hC 1 [(1, .long ((0 - ((t 0 * r 6 * r 11) / (reachQ t r 0))) - ((t 0 * r 6 * r 16) / (reachQ t r 1)))), (3, .int 1), (0, .ref (o 0))] dX3_potential_22 rfl (Nat.le_of_ble_eq_true rfl) rfl 23 rfl ?_
  refine r_iinc hC 2 3 1 [(3, .int 2), (1, .long ((0 - ((t 0 * r 6 * r 11) / (reachQ t r 0))) - ((t 0 * r 6 * r 16) / (reachQ t r 1)))), (0, .ref (o 0))] dX3_potential_23 rfl (by decide) (Nat.le_of_ble_eq_true rfl) rfl 26 rfl ?_
  refine r_goto hC 4 dX3_potential_26 (by decide) ?_
  refine r_iload_n hC 0 dX3_potential_4 rfl 5 rfl ?_
  refine r_iconst hC 3 dX3_potential_5 ic_3 6 rfl ?_
  refine r_icge hC 29 dX3_potential_6 (by decide) 9 rfl (fun h => absurd h (by decide)) (fun _ => ?_)
  refine r_lload_n hC 1 dX3_potential_9 rfl 10 rfl ?_
  refine r_aload_n hC 2 dX3_potential_10 rfl 11 rfl ?_
  refine r_iload_n hC 0 dX3_potential_11 rfl 12 rfl ?_
  refine xCall.r (r := some (.long (t 0 * r 11 * r 16))) (r_cV hC kX3 (o 0) [.int 2] mVX3_strength q267 (fun _ h => ⟨_, h.get 0 rfl⟩) (fun V9 h9 => (metX3_strength _ _ hG o t r 2 (Nat.le_of_ble_eq_true rfl) ht hm) V9 (h9.in.sub [0, 1, 2] rfl rfl)) ⟨rfl, rfl⟩ (Nat.le_of_ble_eq_true rfl) (Nat.le_of_ble_eq_true rfl) rfl (Nat.le_of_ble_eq_true rfl) dX3_potential_12) 0 0 15 rfl rfl rfl ?_
  refine r_aload_n hC 2 dX3_potential_15 rfl 16 rfl ?_
  refine r_iload_n hC 0 dX3_potential_16 rfl 17 rfl ?_
  refine xCall.r (r := some (.long (reachQ t r 2))) (r_cV hC kX3 (o 0) [.int 2] mVX3_reach q275 (fun _ h => ⟨_, h.get 0 rfl⟩) (fun V9 h9 => (metX3_reach _ _ hG o t r 2 (Nat.le_of_ble_eq_true rfl) hpl ht) V9 (h9.in.sub [0, 1, 3, 4] rfl rfl)) ⟨rfl, rfl⟩ (Nat.le_of_ble_eq_true rfl) (Nat.le_of_ble_eq_true rfl) rfl (Nat.le_of_ble_eq_true rfl) dX3_potential_17) 0 0 20 rfl rfl rfl ?_
  refine r_ldiv hC ((t 0 * r 11 * r 16) / (reachQ t r 2)) dX3_potential_20 (by assumption) (rfl) 21 rfl ?_
  refine r_lsub hC (((0 - ((t 0 * r 6 * r 11) / (reachQ t r 0))) - ((t 0 * r 6 * r 16) / (reachQ t r 1))) - ((t 0 * r 11 * r 16) / (reachQ t r 2))) dX3_potential_21  (rfl) 22 rfl ?_
  refine r_lstore_n hC 1 [(1, .long (((0 - ((t 0 * r 6 * r 11) / (reachQ t r 0))) - ((t 0 * r 6 * r 16) / (reachQ t r 1))) - ((t 0 * r 11 * r 16) / (reachQ t r 2)))), (3, .int 2), (0, .ref (o 0))] dX3_potential_22 rfl (Nat.le_of_ble_eq_true rfl) rfl 23 rfl ?_
  refine r_iinc hC 3 3 1 [(3, .int 3), (1, .long (((0 - ((t 0 * r 6 * r 11) / (reachQ t r 0))) - ((t 0 * r 6 * r 16) / (reachQ t r 1))) - ((t 0 * r 11 * r 16) / (reachQ t r 2)))), (0, .ref (o 0))] dX3_potential_23 rfl (by decide) (Nat.le_of_ble_eq_true rfl) rfl 26 rfl ?_
  refine r_goto hC 4 dX3_potential_26 (by decide) ?_
  refine r_iload_n hC 0 dX3_potential_4 rfl 5 rfl ?_
  refine r_iconst hC 3 dX3_potential_5 ic_3 6 rfl ?_
  refine r_icge hC 29 dX3_potential_6 (by decide) 9 rfl (fun _ => ?_) (fun h => absurd h (by decide))
  refine r_lload_n hC 1 dX3_potential_29 rfl 30 rfl ?_
  exact r_lret hC (Nat.le_of_ble_eq_true rfl) (Nat.le_of_ble_eq_true rfl) (fun V9 h => hQ _ _ ⟨rfl, h.1⟩) dX3_potential_30
set_option maxHeartbeats 4000000 in
set_option maxRecDepth 100000 in
theorem metX3_energy (l : Launch) (G : xG) (hG : xGood G) (o : Nat → Nat) (t r : Nat → Int64) (hpl : plR r) (ht : tOK t) (hm : mOK r) : xRm l G yX3_energy (Cond.code yX3_energy cX3_energy 1 (some .long)) { frames := 4, locals := 96, cells := 0, slots := 0 } [.ref (o 0)] [(o 0, .inr (2, [.ref (o 1), .ref (o 2), .ref (o 3), .ref (o 4), .ref (o 5), .ref (o 6), .ref (o 7), .ref (o 8), .ref (o 9), .ref (o 10), .int ((r 0).toInt32)])), (o 1, .inl (0, 6, .inl (seF t r))), (o 2, .inl (0, 3, .inl (maF r))), (o 3, .inl (0, 3, .inl (plX r))), (o 4, .inl (0, 3, .inl (plY r))), (o 5, .inl (1, 3, .inr (.inl (moX r)))), (o 6, .inl (1, 3, .inr (.inl (moY r))))] (some (.long (enQ t r))) := by
  intro V hV
  refine xMet_ofT RX3 hG rfl (by decide) (Nat.le_of_ble_eq_true rfl) fun C hC hQ hX hl hg _ hTab => ?_
  subst hl hg
  refine rn.mono (J := xRo [(o 0, .inr (2, [.ref (o 1), .ref (o 2), .ref (o 3), .ref (o 4), .ref (o 5), .ref (o 6), .ref (o 7), .ref (o 8), .ref (o 9), .ref (o 10), .int ((r 0).toInt32)])), (o 1, .inl (0, 6, .inl (seF t r))), (o 2, .inl (0, 3, .inl (maF r))), (o 3, .inl (0, 3, .inl (plX r))), (o 4, .inl (0, 3, .inl (plY r))), (o 5, .inl (1, 3, .inr (.inl (moX r)))), (o 6, .inl (1, 3, .inr (.inl (moY r))))] V) (fun V9 h => ⟨h, hV⟩) ?_
  show rn C (xRo [(o 0, .inr (2, [.ref (o 1), .ref (o 2), .ref (o 3), .ref (o 4), .ref (o 5), .ref (o 6), .ref (o 7), .ref (o 8), .ref (o 9), .ref (o 10), .int ((r 0).toInt32)])), (o 1, .inl (0, 6, .inl (seF t r))), (o 2, .inl (0, 3, .inl (maF r))), (o 3, .inl (0, 3, .inl (plX r))), (o 4, .inl (0, 3, .inl (plY r))), (o 5, .inl (1, 3, .inr (.inl (moX r)))), (o 6, .inl (1, 3, .inr (.inl (moY r))))] V) 0 0 0 [(0, .ref (o 0))] []
  refine r_aload_n hC 0 dX3_energy_0 rfl 1 rfl ?_
  refine xCall.r (r := some (.long (kinQ r))) (r_cV hC kX3 (o 0) [] mVX3_kinetic q258 (fun _ h => ⟨_, h.get 0 rfl⟩) (fun V9 h9 => (metX3_kinetic _ _ hG o t r ht hm) V9 (h9.in.sub [0, 2, 5, 6] rfl rfl)) ⟨rfl, rfl⟩ (Nat.le_of_ble_eq_true rfl) (Nat.le_of_ble_eq_true rfl) rfl (Nat.le_of_ble_eq_true rfl) dX3_energy_1) 0 0 4 rfl rfl rfl ?_
  refine r_aload_n hC 0 dX3_energy_4 rfl 5 rfl ?_
  refine xCall.r (r := some (.long (potQ t r))) (r_cV hC kX3 (o 0) [] mVX3_potential q263 (fun _ h => ⟨_, h.get 0 rfl⟩) (fun V9 h9 => (metX3_potential _ _ hG o t r hpl ht hm) V9 (h9.in.sub [0, 1, 2, 3, 4] rfl rfl)) ⟨rfl, rfl⟩ (Nat.le_of_ble_eq_true rfl) (Nat.le_of_ble_eq_true rfl) rfl (Nat.le_of_ble_eq_true rfl) dX3_energy_5) 0 0 8 rfl rfl rfl ?_
  refine r_ladd hC ((kinQ r) + (potQ t r)) dX3_energy_8  (rfl) 9 rfl ?_
  exact r_lret hC (Nat.le_of_ble_eq_true rfl) (Nat.le_of_ble_eq_true rfl) (fun V9 h => hQ _ _ ⟨rfl, h.1⟩) dX3_energy_9
set_option maxHeartbeats 4000000 in
set_option maxRecDepth 100000 in
theorem metX3_band (l : Launch) (G : xG) (hG : xGood G) (o : Nat → Nat) (t r : Nat → Int64) (hpl : plR r) (ht : tOK t) (hm : mOK r) : xRm l G yX3_band (Cond.code yX3_band cX3_band 1 (some .long)) { frames := 5, locals := 116, cells := 0, slots := 0 } [.ref (o 0)] [(o 0, .inr (2, [.ref (o 1), .ref (o 2), .ref (o 3), .ref (o 4), .ref (o 5), .ref (o 6), .ref (o 7), .ref (o 8), .ref (o 9), .ref (o 10), .int ((r 0).toInt32)])), (o 1, .inl (0, 6, .inl (seF t r))), (o 2, .inl (0, 3, .inl (maF r))), (o 3, .inl (0, 3, .inl (plX r))), (o 4, .inl (0, 3, .inl (plY r))), (o 5, .inl (1, 3, .inr (.inl (moX r)))), (o 6, .inl (1, 3, .inr (.inl (moY r))))] (some (.long (bandQ t r))) := by
  intro V hV
  refine xMet_ofT RX3 hG rfl (by decide) (Nat.le_of_ble_eq_true rfl) fun C hC hQ hX hl hg _ hTab => ?_
  subst hl hg
  refine rn.mono (J := xRo [(o 0, .inr (2, [.ref (o 1), .ref (o 2), .ref (o 3), .ref (o 4), .ref (o 5), .ref (o 6), .ref (o 7), .ref (o 8), .ref (o 9), .ref (o 10), .int ((r 0).toInt32)])), (o 1, .inl (0, 6, .inl (seF t r))), (o 2, .inl (0, 3, .inl (maF r))), (o 3, .inl (0, 3, .inl (plX r))), (o 4, .inl (0, 3, .inl (plY r))), (o 5, .inl (1, 3, .inr (.inl (moX r)))), (o 6, .inl (1, 3, .inr (.inl (moY r))))] V) (fun V9 h => ⟨h, hV⟩) ?_
  show rn C (xRo [(o 0, .inr (2, [.ref (o 1), .ref (o 2), .ref (o 3), .ref (o 4), .ref (o 5), .ref (o 6), .ref (o 7), .ref (o 8), .ref (o 9), .ref (o 10), .int ((r 0).toInt32)])), (o 1, .inl (0, 6, .inl (seF t r))), (o 2, .inl (0, 3, .inl (maF r))), (o 3, .inl (0, 3, .inl (plX r))), (o 4, .inl (0, 3, .inl (plY r))), (o 5, .inl (1, 3, .inr (.inl (moX r)))), (o 6, .inl (1, 3, .inr (.inl (moY r))))] V) 0 0 0 [(0, .ref (o 0))] []
  refine r_aload_n hC 0 dX3_band_0 rfl 1 rfl ?_
  refine xCall.r (r := some (.long (enQ t r))) (r_cV hC kX3 (o 0) [] mVX3_energy q595 (fun _ h => ⟨_, h.get 0 rfl⟩) (fun V9 h9 => (metX3_energy _ _ hG o t r hpl ht hm) V9 (h9.in.sub [0, 1, 2, 3, 4, 5, 6] rfl rfl)) ⟨rfl, rfl⟩ (Nat.le_of_ble_eq_true rfl) (Nat.le_of_ble_eq_true rfl) rfl (Nat.le_of_ble_eq_true rfl) dX3_band_1) 0 0 4 rfl rfl rfl ?_
  refine r_aload_n hC 0 dX3_band_4 rfl 5 rfl ?_
  refine r_get (v := .ref (o 1)) hC kX3 0 rfl q173 (fun _ h => h.get 0 rfl) rfl dX3_band_5 8 rfl ?_
  refine r_iconst hC 5 dX3_band_8 ic_5 9 rfl ?_
  refine r_iald hC 5 (xix_n 5 (Nat.le_of_ble_eq_true rfl) (Nat.le_of_ble_eq_true rfl)) (fun _ h => h.get 1 rfl) (seF t r 5) (rfl) dX3_band_9 10 rfl ?_
  refine r_i2l hC ((seF t r 5).toInt64) dX3_band_10 (rfl) 11 rfl ?_
  refine r_eql (y := t 4) (se5_l ht) ?_
  refine xCall.r (r := some (.long (x_fdL (enQ t r) (t 4)))) (r_cS hC [.long (enQ t r), .long (t 4)] mSJ4_floorDiv q420 (fun V9 h9 => (metJ4_floorDiv _ _ hG (enQ t r) (t 4) ((rowOK_of ht hm).2.2.2)) V9 xIn.nil) ⟨rfl, rfl⟩ (Nat.le_of_ble_eq_true rfl) (Nat.le_of_ble_eq_true rfl) rfl (Nat.le_of_ble_eq_true rfl) dX3_band_11) 0 0 14 rfl rfl rfl ?_
  exact r_lret hC (Nat.le_of_ble_eq_true rfl) (Nat.le_of_ble_eq_true rfl) (fun V9 h => hQ _ _ ⟨by rw [bandQ, fdL_eq (by have := ht.2.2.2.2; omega)], h.1⟩) dX3_band_14
