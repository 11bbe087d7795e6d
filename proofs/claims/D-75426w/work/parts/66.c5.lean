/-! ===== the class: drifts, copies, likeness ===== -/
set_option maxRecDepth 100000
def mvQ (t : Nat → Int64) (cx : Int32) (mo : Int64) (dv : Int32) (sg : Int64) : Int64 := cx.toInt64 + sg * x_fdL (t 2 * mo) dv.toInt64
theorem mul1 (x : Int32) : (1 : Int32) * x = x := by rw [Int32.one_mul]
theorem dv2 {r : Nat → Int64} {j : Nat} (h : mOK r) (hj : j < 3) : ((2 : Int32) * maF r j).toInt64 = 2 * r (6 + 5 * j) := by
  have h1 := maF_i h hj
  have h2 := mOK_at h hj
  apply Int64.toInt_inj.mp
  rw [Int32.toInt_toInt64, Int32.toInt_mul, Int64.toInt_mul, h1]
  have e2 : (2 : Int32).toInt = 2 := rfl
  have e3 : (2 : Int64).toInt = 2 := rfl
  rw [e2, e3, Int.bmod_eq_of_le (by omega) (by omega), Int.bmod_eq_of_le (by omega) (by omega)]
theorem dv1 {r : Nat → Int64} {j : Nat} (h : mOK r) (hj : j < 3) : ((1 : Int32) * maF r j).toInt64 = r (6 + 5 * j) := by
  rw [mul1]; exact maF_l h hj
theorem dvp {r : Nat → Int64} {j : Nat} (h : mOK r) (hj : j < 3) : 0 < (r (6 + 5 * j)).toInt ∧ 0 < (2 * r (6 + 5 * j)).toInt := by
  have h2 := mOK_at h hj
  refine ⟨by omega, ?_⟩
  rw [Int64.toInt_mul]
  have e3 : (2 : Int64).toInt = 2 := rfl
  rw [e3, Int.bmod_eq_of_le (by omega) (by omega)]
  omega
theorem dv1_n {r : Nat → Int64} {j : Nat} (h : mOK r) (hj : j < 3) : ¬ ((1 : Int32) * maF r j).toInt64 = 0 := by
  rw [dv1 h hj]; exact l_ne0 (by have := mOK_at h hj; omega)
theorem dv2_n {r : Nat → Int64} {j : Nat} (h : mOK r) (hj : j < 3) : ¬ ((2 : Int32) * maF r j).toInt64 = 0 := by
  rw [dv2 h hj]; exact l_ne0 (by have := (dvp h hj).2; omega)
section MVE
variable {t r : Nat → Int64} {j : Nat}
theorem mvX00 (hpl : plR r) (hm : mOK r) (hj : j < 3) : mvQ t (plX r j) (r (6 + 5 * j + 3)) (1 * maF r j) 1 = r (6 + 5 * j + 1) + fQ t r false false j 0 := by
  have hd := dvp hm hj
  unfold mvQ
  rw [plX_l hpl hj, dv1 hm hj, fdL_eq hd.1, Int64.one_mul]
  rfl
theorem mvY00 (hpl : plR r) (hm : mOK r) (hj : j < 3) : mvQ t (plY r j) (r (6 + 5 * j + 4)) (1 * maF r j) 1 = r (6 + 5 * j + 2) + fQ t r false false j 1 := by
  have hd := dvp hm hj
  unfold mvQ
  rw [plY_l hpl hj, dv1 hm hj, fdL_eq hd.1, Int64.one_mul]
  rfl
theorem mvX01 (hpl : plR r) (hm : mOK r) (hj : j < 3) : mvQ t (plX r j) (r (6 + 5 * j + 3)) (1 * maF r j) (-1) = r (6 + 5 * j + 1) + fQ t r false true j 0 := by
  have hd := dvp hm hj
  unfold mvQ
  rw [plX_l hpl hj, dv1 hm hj, fdL_eq hd.1, Int64.neg_mul, Int64.one_mul]
  rfl
theorem mvY01 (hpl : plR r) (hm : mOK r) (hj : j < 3) : mvQ t (plY r j) (r (6 + 5 * j + 4)) (1 * maF r j) (-1) = r (6 + 5 * j + 2) + fQ t r false true j 1 := by
  have hd := dvp hm hj
  unfold mvQ
  rw [plY_l hpl hj, dv1 hm hj, fdL_eq hd.1, Int64.neg_mul, Int64.one_mul]
  rfl
theorem mvX10 (hpl : plR r) (hm : mOK r) (hj : j < 3) : mvQ t (plX r j) (r (6 + 5 * j + 3)) (2 * maF r j) 1 = r (6 + 5 * j + 1) + fQ t r true false j 0 := by
  have hd := dvp hm hj
  unfold mvQ
  rw [plX_l hpl hj, dv2 hm hj, fdL_eq hd.2, Int64.one_mul]
  rfl
theorem mvY10 (hpl : plR r) (hm : mOK r) (hj : j < 3) : mvQ t (plY r j) (r (6 + 5 * j + 4)) (2 * maF r j) 1 = r (6 + 5 * j + 2) + fQ t r true false j 1 := by
  have hd := dvp hm hj
  unfold mvQ
  rw [plY_l hpl hj, dv2 hm hj, fdL_eq hd.2, Int64.one_mul]
  rfl
theorem mvX11 (hpl : plR r) (hm : mOK r) (hj : j < 3) : mvQ t (plX r j) (r (6 + 5 * j + 3)) (2 * maF r j) (-1) = r (6 + 5 * j + 1) + fQ t r true true j 0 := by
  have hd := dvp hm hj
  unfold mvQ
  rw [plX_l hpl hj, dv2 hm hj, fdL_eq hd.2, Int64.neg_mul, Int64.one_mul]
  rfl
theorem mvY11 (hpl : plR r) (hm : mOK r) (hj : j < 3) : mvQ t (plY r j) (r (6 + 5 * j + 4)) (2 * maF r j) (-1) = r (6 + 5 * j + 2) + fQ t r true true j 1 := by
  have hd := dvp hm hj
  unfold mvQ
  rw [plY_l hpl hj, dv2 hm hj, fdL_eq hd.2, Int64.neg_mul, Int64.one_mul]
  rfl
end MVE
set_option maxHeartbeats 4000000 in
set_option maxRecDepth 100000 in
theorem metX3_moved0G (l : Launch) (G : xG) (hG : xGood G) (o : Nat → Nat) (t r : Nat → Int64) (cx : Int32) (mo : Int64) (dv : Int32) (hdv : ¬ dv.toInt64 = 0) (ht : tOK t) (hz : m_in (mvQ t cx mo dv 1) (-100000) 100000 = true) : xRm l G yX3_moved (Cond.code yX3_moved cX3_moved 8 (some .int)) { frames := 2, locals := 48, cells := 0, slots := 0 } [.ref (o 0), .int cx, .long mo, .int dv, .int 1] [(o 0, .inr (2, [.ref (o 1), .ref (o 2), .ref (o 3), .ref (o 4), .ref (o 5), .ref (o 6), .ref (o 7), .ref (o 8), .ref (o 9), .ref (o 10), .int ((r 0).toInt32)])), (o 1, .inl (0, 6, .inl (seF t r)))] (some (.int ((mvQ t cx mo dv 1).toInt32))) := by
  intro V hV
  refine xMet_ofT RX3 hG rfl (by decide) (Nat.le_of_ble_eq_true rfl) fun C hC hQ hX hl hg _ hTab => ?_
  subst hl hg
  refine rn.mono (J := xRo [(o 0, .inr (2, [.ref (o 1), .ref (o 2), .ref (o 3), .ref (o 4), .ref (o 5), .ref (o 6), .ref (o 7), .ref (o 8), .ref (o 9), .ref (o 10), .int ((r 0).toInt32)])), (o 1, .inl (0, 6, .inl (seF t r)))] V) (fun V9 h => ⟨h, hV⟩) ?_
  show rn C (xRo [(o 0, .inr (2, [.ref (o 1), .ref (o 2), .ref (o 3), .ref (o 4), .ref (o 5), .ref (o 6), .ref (o 7), .ref (o 8), .ref (o 9), .ref (o 10), .int ((r 0).toInt32)])), (o 1, .inl (0, 6, .inl (seF t r)))] V) 0 0 0 [(0, .ref (o 0)), (1, .int cx), (2, .long mo), (4, .int dv), (5, .int 1)] []
  refine r_iload_n hC 1 dX3_moved_0 rfl 1 rfl ?_
  refine r_i2l hC cx.toInt64 dX3_moved_1 (rfl) 2 rfl ?_
  refine r_iload hC 4 dX3_moved_2 rfl 4 rfl ?_
  refine r_i2l hC 1 dX3_moved_4 (by decide) 5 rfl ?_
  refine r_aload_n hC 0 dX3_moved_5 rfl 6 rfl ?_
  refine r_get (v := .ref (o 1)) hC kX3 0 rfl q173 (fun _ h => h.get 0 rfl) rfl dX3_moved_6 9 rfl ?_
  refine r_iconst hC 2 dX3_moved_9 ic_2 10 rfl ?_
  refine r_iald hC 2 (xix_n 2 (Nat.le_of_ble_eq_true rfl) (Nat.le_of_ble_eq_true rfl)) (fun _ h => h.get 1 rfl) (seF t r 2) (rfl) dX3_moved_10 11 rfl ?_
  refine r_i2l hC ((seF t r 2).toInt64) dX3_moved_11 (rfl) 12 rfl ?_
  refine r_eql (y := t 2) (se2_l ht) ?_
  refine r_lload_n hC 2 dX3_moved_12 rfl 13 rfl ?_
  refine r_lmul hC ((t 2) * mo) dX3_moved_13  (rfl) 14 rfl ?_
  refine r_iload hC 3 dX3_moved_14 rfl 16 rfl ?_
  refine r_i2l hC dv.toInt64 dX3_moved_16 (rfl) 17 rfl ?_
  refine xCall.r (r := some (.long (x_fdL ((t 2) * mo) dv.toInt64))) (r_cS hC [.long ((t 2) * mo), .long dv.toInt64] mSJ4_floorDiv q420 (fun V9 h9 => (metJ4_floorDiv _ _ hG ((t 2) * mo) dv.toInt64 (hdv)) V9 xIn.nil) ⟨rfl, rfl⟩ (Nat.le_of_ble_eq_true rfl) (Nat.le_of_ble_eq_true rfl) rfl (Nat.le_of_ble_eq_true rfl) dX3_moved_17) 0 0 20 rfl rfl rfl ?_
  refine r_lmul hC (1 * (x_fdL ((t 2) * mo) dv.toInt64)) dX3_moved_20  (rfl) 21 rfl ?_
  refine r_ladd hC (cx.toInt64 + (1 * (x_fdL ((t 2) * mo) dv.toInt64))) dX3_moved_21  (rfl) 22 rfl ?_
  show rn C (xRo [(o 0, .inr (2, [.ref (o 1), .ref (o 2), .ref (o 3), .ref (o 4), .ref (o 5), .ref (o 6), .ref (o 7), .ref (o 8), .ref (o 9), .ref (o 10), .int ((r 0).toInt32)])), (o 1, .inl (0, 6, .inl (seF t r)))] V) 0 0 22 [(0, .ref (o 0)), (1, .int cx), (2, .long mo), (4, .int dv), (5, .int 1)] [.long (mvQ t cx mo dv 1)]
  refine r_lstore hC 6 [(6, .long (mvQ t cx mo dv 1)), (0, .ref (o 0)), (1, .int cx), (2, .long mo), (4, .int dv), (5, .int 1)] dX3_moved_22 (Nat.le_of_ble_eq_true rfl) rfl 24 rfl ?_
  refine r_lload hC 0 dX3_moved_24 rfl 26 rfl ?_
  refine r_ldc2 hC q423 dX3_moved_26 29 rfl ?_
  refine xCall.r (r := none) (r_cS hC [.long (mvQ t cx mo dv 1), .long 100000] mSX3_check q336 (fun V9 h9 => (metX3_checkG _ _ hG (mvQ t cx mo dv 1) 100000 hz) V9 xIn.nil) ⟨rfl, rfl⟩ (Nat.le_of_ble_eq_true rfl) (Nat.le_of_ble_eq_true rfl) rfl (Nat.le_of_ble_eq_true rfl) dX3_moved_29) 0 0 32 rfl rfl rfl ?_
  refine r_lload hC 0 dX3_moved_32 rfl 34 rfl ?_
  refine r_l2i hC ((mvQ t cx mo dv 1).toInt32) dX3_moved_34 (rfl) 35 rfl ?_
  exact r_iret hC (Nat.le_of_ble_eq_true rfl) (Nat.le_of_ble_eq_true rfl) (fun V9 h => hQ _ _ ⟨rfl, h.1⟩) dX3_moved_35
set_option maxHeartbeats 4000000 in
set_option maxRecDepth 100000 in
theorem metX3_moved0B (l : Launch) (G : xG) (hG : xGood G) (o : Nat → Nat) (t r : Nat → Int64) (cx : Int32) (mo : Int64) (dv : Int32) (hdv : ¬ dv.toInt64 = 0) (ht : tOK t) (hz : m_in (mvQ t cx mo dv 1) (-100000) 100000 = false) : xWm l G yX3_moved (Cond.code yX3_moved cX3_moved 8 (some .int)) { frames := 5, locals := 111, cells := 1, slots := 6 } [.ref (o 0), .int cx, .long mo, .int dv, .int 1] [(o 0, .inr (2, [.ref (o 1), .ref (o 2), .ref (o 3), .ref (o 4), .ref (o 5), .ref (o 6), .ref (o 7), .ref (o 8), .ref (o 9), .ref (o 10), .int ((r 0).toInt32)])), (o 1, .inl (0, 6, .inl (seF t r)))] (fun _ _ => False) (fun q w' => w' = [(o 0, .inr (2, [.ref (o 1), .ref (o 2), .ref (o 3), .ref (o 4), .ref (o 5), .ref (o 6), .ref (o 7), .ref (o 8), .ref (o 9), .ref (o 10), .int ((r 0).toInt32)])), (o 1, .inl (0, 6, .inl (seF t r))), (q, .inr (3, [.null, .null, .null, .null, .null, .int 0]))]) := by
  intro V hV
  refine xMet_ofT RX3 hG rfl (by decide) (Nat.le_of_ble_eq_true rfl) fun C hC hQ hX hl hg _ hTab => ?_
  subst hl hg
  obtain ⟨V0, hV0⟩ : ∃ V0, V0 = V := ⟨_, rfl⟩
  obtain ⟨F, hF⟩ : ∃ F, F = xF [(o 0, .inr (2, [.ref (o 1), .ref (o 2), .ref (o 3), .ref (o 4), .ref (o 5), .ref (o 6), .ref (o 7), .ref (o 8), .ref (o 9), .ref (o 10), .int ((r 0).toInt32)])), (o 1, .inl (0, 6, .inl (seF t r)))] := ⟨_, rfl⟩
  refine rn.mono (J := xSt F V0 [(o 0, .inr (2, [.ref (o 1), .ref (o 2), .ref (o 3), .ref (o 4), .ref (o 5), .ref (o 6), .ref (o 7), .ref (o 8), .ref (o 9), .ref (o 10), .int ((r 0).toInt32)])), (o 1, .inl (0, 6, .inl (seF t r)))]) (fun V9 h => by rw [h, hV0, hF]; exact hV.st) ?_
  show rn C (xSt F V0 [(o 0, .inr (2, [.ref (o 1), .ref (o 2), .ref (o 3), .ref (o 4), .ref (o 5), .ref (o 6), .ref (o 7), .ref (o 8), .ref (o 9), .ref (o 10), .int ((r 0).toInt32)])), (o 1, .inl (0, 6, .inl (seF t r)))]) 0 0 0 [(0, .ref (o 0)), (1, .int cx), (2, .long mo), (4, .int dv), (5, .int 1)] []
  refine r_iload_n hC 1 dX3_moved_0 rfl 1 rfl ?_
  refine r_i2l hC cx.toInt64 dX3_moved_1 (rfl) 2 rfl ?_
  refine r_iload hC 4 dX3_moved_2 rfl 4 rfl ?_
  refine r_i2l hC 1 dX3_moved_4 (by decide) 5 rfl ?_
  refine r_aload_n hC 0 dX3_moved_5 rfl 6 rfl ?_
  refine r_get (v := .ref (o 1)) hC kX3 0 rfl q173 (fun _ h => h.get 0 rfl) rfl dX3_moved_6 9 rfl ?_
  refine r_iconst hC 2 dX3_moved_9 ic_2 10 rfl ?_
  refine r_iald hC 2 (xix_n 2 (Nat.le_of_ble_eq_true rfl) (Nat.le_of_ble_eq_true rfl)) (fun _ h => h.get 1 rfl) (seF t r 2) (rfl) dX3_moved_10 11 rfl ?_
  refine r_i2l hC ((seF t r 2).toInt64) dX3_moved_11 (rfl) 12 rfl ?_
  refine r_eql (y := t 2) (se2_l ht) ?_
  refine r_lload_n hC 2 dX3_moved_12 rfl 13 rfl ?_
  refine r_lmul hC ((t 2) * mo) dX3_moved_13  (rfl) 14 rfl ?_
  refine r_iload hC 3 dX3_moved_14 rfl 16 rfl ?_
  refine r_i2l hC dv.toInt64 dX3_moved_16 (rfl) 17 rfl ?_
  refine xCall.r (r := some (.long (x_fdL ((t 2) * mo) dv.toInt64))) (r_cS hC [.long ((t 2) * mo), .long dv.toInt64] mSJ4_floorDiv q420 (fun V9 h9 => (metJ4_floorDiv _ _ hG ((t 2) * mo) dv.toInt64 (hdv)) V9 xIn.nil) ⟨rfl, rfl⟩ (Nat.le_of_ble_eq_true rfl) (Nat.le_of_ble_eq_true rfl) rfl (Nat.le_of_ble_eq_true rfl) dX3_moved_17) 0 0 20 rfl rfl rfl ?_
  refine r_lmul hC (1 * (x_fdL ((t 2) * mo) dv.toInt64)) dX3_moved_20  (rfl) 21 rfl ?_
  refine r_ladd hC (cx.toInt64 + (1 * (x_fdL ((t 2) * mo) dv.toInt64))) dX3_moved_21  (rfl) 22 rfl ?_
  show rn C (xSt F V0 [(o 0, .inr (2, [.ref (o 1), .ref (o 2), .ref (o 3), .ref (o 4), .ref (o 5), .ref (o 6), .ref (o 7), .ref (o 8), .ref (o 9), .ref (o 10), .int ((r 0).toInt32)])), (o 1, .inl (0, 6, .inl (seF t r)))]) 0 0 22 [(0, .ref (o 0)), (1, .int cx), (2, .long mo), (4, .int dv), (5, .int 1)] [.long (mvQ t cx mo dv 1)]
  refine r_lstore hC 6 [(6, .long (mvQ t cx mo dv 1)), (0, .ref (o 0)), (1, .int cx), (2, .long mo), (4, .int dv), (5, .int 1)] dX3_moved_22 (Nat.le_of_ble_eq_true rfl) rfl 24 rfl ?_
  refine r_lload hC 0 dX3_moved_24 rfl 26 rfl ?_
  refine r_ldc2 hC q423 dX3_moved_26 29 rfl ?_
  refine xCall.w (wr := [(o 0, .inr (2, [.ref (o 1), .ref (o 2), .ref (o 3), .ref (o 4), .ref (o 5), .ref (o 6), .ref (o 7), .ref (o 8), .ref (o 9), .ref (o 10), .int ((r 0).toInt32)])), (o 1, .inl (0, 6, .inl (seF t r)))]) (r_cS hC [.long (mvQ t cx mo dv 1), .long 100000] mSX3_check q336 (fun V9 h9 => (metX3_checkB _ _ hG (mvQ t cx mo dv 1) 100000 hz) V9 xIn.nil) ⟨rfl, rfl⟩ (Nat.le_of_ble_eq_true rfl) (Nat.le_of_ble_eq_true rfl) rfl (Nat.le_of_ble_eq_true rfl) dX3_moved_29) [] [0, 1] rfl rfl rfl (by decide) 1 6 32 rfl rfl rfl (fun _ _ h => h.elim) (fun q5 w6 h7 => ?_)
  obtain rfl := h7
  show rx C (xSt F V0 [(o 0, .inr (2, [.ref (o 1), .ref (o 2), .ref (o 3), .ref (o 4), .ref (o 5), .ref (o 6), .ref (o 7), .ref (o 8), .ref (o 9), .ref (o 10), .int ((r 0).toInt32)])), (o 1, .inl (0, 6, .inl (seF t r))), (q5, .inr (3, [.null, .null, .null, .null, .null, .int 0]))]) 1 6 29 [(6, .long (mvQ t cx mo dv 1)), (0, .ref (o 0)), (1, .int cx), (2, .long mo), (4, .int dv), (5, .int 1)] [] q5
  exact rx_out hC hTab (fun _ h => by cases h) (Nat.le_of_ble_eq_true rfl) (Nat.le_of_ble_eq_true rfl) (fun V9 h => hX _ _ ⟨[(o 0, .inr (2, [.ref (o 1), .ref (o 2), .ref (o 3), .ref (o 4), .ref (o 5), .ref (o 6), .ref (o 7), .ref (o 8), .ref (o 9), .ref (o 10), .int ((r 0).toInt32)])), (o 1, .inl (0, 6, .inl (seF t r))), (q5, .inr (3, [.null, .null, .null, .null, .null, .int 0]))], rfl, by rw [← hV0, ← hF]; exact h⟩)
set_option maxHeartbeats 4000000 in
set_option maxRecDepth 100000 in
theorem metX3_moved1G (l : Launch) (G : xG) (hG : xGood G) (o : Nat → Nat) (t r : Nat → Int64) (cx : Int32) (mo : Int64) (dv : Int32) (hdv : ¬ dv.toInt64 = 0) (ht : tOK t) (hz : m_in (mvQ t cx mo dv (-1)) (-100000) 100000 = true) : xRm l G yX3_moved (Cond.code yX3_moved cX3_moved 8 (some .int)) { frames := 2, locals := 48, cells := 0, slots := 0 } [.ref (o 0), .int cx, .long mo, .int dv, .int (-1)] [(o 0, .inr (2, [.ref (o 1), .ref (o 2), .ref (o 3), .ref (o 4), .ref (o 5), .ref (o 6), .ref (o 7), .ref (o 8), .ref (o 9), .ref (o 10), .int ((r 0).toInt32)])), (o 1, .inl (0, 6, .inl (seF t r)))] (some (.int ((mvQ t cx mo dv (-1)).toInt32))) := by
  intro V hV
  refine xMet_ofT RX3 hG rfl (by decide) (Nat.le_of_ble_eq_true rfl) fun C hC hQ hX hl hg _ hTab => ?_
  subst hl hg
  refine rn.mono (J := xRo [(o 0, .inr (2, [.ref (o 1), .ref (o 2), .ref (o 3), .ref (o 4), .ref (o 5), .ref (o 6), .ref (o 7), .ref (o 8), .ref (o 9), .ref (o 10), .int ((r 0).toInt32)])), (o 1, .inl (0, 6, .inl (seF t r)))] V) (fun V9 h => ⟨h, hV⟩) ?_
  show rn C (xRo [(o 0, .inr (2, [.ref (o 1), .ref (o 2), .ref (o 3), .ref (o 4), .ref (o 5), .ref (o 6), .ref (o 7), .ref (o 8), .ref (o 9), .ref (o 10), .int ((r 0).toInt32)])), (o 1, .inl (0, 6, .inl (seF t r)))] V) 0 0 0 [(0, .ref (o 0)), (1, .int cx), (2, .long mo), (4, .int dv), (5, .int (-1))] []
  refine r_iload_n hC 1 dX3_moved_0 rfl 1 rfl ?_
  refine r_i2l hC cx.toInt64 dX3_moved_1 (rfl) 2 rfl ?_
  refine r_iload hC 4 dX3_moved_2 rfl 4 rfl ?_
  refine r_i2l hC (-1) dX3_moved_4 (by decide) 5 rfl ?_
  refine r_aload_n hC 0 dX3_moved_5 rfl 6 rfl ?_
  refine r_get (v := .ref (o 1)) hC kX3 0 rfl q173 (fun _ h => h.get 0 rfl) rfl dX3_moved_6 9 rfl ?_
  refine r_iconst hC 2 dX3_moved_9 ic_2 10 rfl ?_
  refine r_iald hC 2 (xix_n 2 (Nat.le_of_ble_eq_true rfl) (Nat.le_of_ble_eq_true rfl)) (fun _ h => h.get 1 rfl) (seF t r 2) (rfl) dX3_moved_10 11 rfl ?_
  refine r_i2l hC ((seF t r 2).toInt64) dX3_moved_11 (rfl) 12 rfl ?_
  refine r_eql (y := t 2) (se2_l ht) ?_
  refine r_lload_n hC 2 dX3_moved_12 rfl 13 rfl ?_
  refine r_lmul hC ((t 2) * mo) dX3_moved_13  (rfl) 14 rfl ?_
  refine r_iload hC 3 dX3_moved_14 rfl 16 rfl ?_
  refine r_i2l hC dv.toInt64 dX3_moved_16 (rfl) 17 rfl ?_
  refine xCall.r (r := some (.long (x_fdL ((t 2) * mo) dv.toInt64))) (r_cS hC [.long ((t 2) * mo), .long dv.toInt64] mSJ4_floorDiv q420 (fun V9 h9 => (metJ4_floorDiv _ _ hG ((t 2) * mo) dv.toInt64 (hdv)) V9 xIn.nil) ⟨rfl, rfl⟩ (Nat.le_of_ble_eq_true rfl) (Nat.le_of_ble_eq_true rfl) rfl (Nat.le_of_ble_eq_true rfl) dX3_moved_17) 0 0 20 rfl rfl rfl ?_
  refine r_lmul hC ((-1) * (x_fdL ((t 2) * mo) dv.toInt64)) dX3_moved_20  (rfl) 21 rfl ?_
  refine r_ladd hC (cx.toInt64 + ((-1) * (x_fdL ((t 2) * mo) dv.toInt64))) dX3_moved_21  (rfl) 22 rfl ?_
  show rn C (xRo [(o 0, .inr (2, [.ref (o 1), .ref (o 2), .ref (o 3), .ref (o 4), .ref (o 5), .ref (o 6), .ref (o 7), .ref (o 8), .ref (o 9), .ref (o 10), .int ((r 0).toInt32)])), (o 1, .inl (0, 6, .inl (seF t r)))] V) 0 0 22 [(0, .ref (o 0)), (1, .int cx), (2, .long mo), (4, .int dv), (5, .int (-1))] [.long (mvQ t cx mo dv (-1))]
  refine r_lstore hC 6 [(6, .long (mvQ t cx mo dv (-1))), (0, .ref (o 0)), (1, .int cx), (2, .long mo), (4, .int dv), (5, .int (-1))] dX3_moved_22 (Nat.le_of_ble_eq_true rfl) rfl 24 rfl ?_
  refine r_lload hC 0 dX3_moved_24 rfl 26 rfl ?_
  refine r_ldc2 hC q423 dX3_moved_26 29 rfl ?_
  refine xCall.r (r := none) (r_cS hC [.long (mvQ t cx mo dv (-1)), .long 100000] mSX3_check q336 (fun V9 h9 => (metX3_checkG _ _ hG (mvQ t cx mo dv (-1)) 100000 hz) V9 xIn.nil) ⟨rfl, rfl⟩ (Nat.le_of_ble_eq_true rfl) (Nat.le_of_ble_eq_true rfl) rfl (Nat.le_of_ble_eq_true rfl) dX3_moved_29) 0 0 32 rfl rfl rfl ?_
  refine r_lload hC 0 dX3_moved_32 rfl 34 rfl ?_
  refine r_l2i hC ((mvQ t cx mo dv (-1)).toInt32) dX3_moved_34 (rfl) 35 rfl ?_
  exact r_iret hC (Nat.le_of_ble_eq_true rfl) (Nat.le_of_ble_eq_true rfl) (fun V9 h => hQ _ _ ⟨rfl, h.1⟩) dX3_moved_35
set_option maxHeartbeats 4000000 in
set_option maxRecDepth 100000 in
theorem metX3_moved1B (l : Launch) (G : xG) (hG : xGood G) (o : Nat → Nat) (t r : Nat → Int64) (cx : Int32) (mo : Int64) (dv : Int32) (hdv : ¬ dv.toInt64 = 0) (ht : tOK t) (hz : m_in (mvQ t cx mo dv (-1)) (-100000) 100000 = false) : xWm l G yX3_moved (Cond.code yX3_moved cX3_moved 8 (some .int)) { frames := 5, locals := 111, cells := 1, slots := 6 } [.ref (o 0), .int cx, .long mo, .int dv, .int (-1)] [(o 0, .inr (2, [.ref (o 1), .ref (o 2), .ref (o 3), .ref (o 4), .ref (o 5), .ref (o 6), .ref (o 7), .ref (o 8), .ref (o 9), .ref (o 10), .int ((r 0).toInt32)])), (o 1, .inl (0, 6, .inl (seF t r)))] (fun _ _ => False) (fun q w' => w' = [(o 0, .inr (2, [.ref (o 1), .ref (o 2), .ref (o 3), .ref (o 4), .ref (o 5), .ref (o 6), .ref (o 7), .ref (o 8), .ref (o 9), .ref (o 10), .int ((r 0).toInt32)])), (o 1, .inl (0, 6, .inl (seF t r))), (q, .inr (3, [.null, .null, .null, .null, .null, .int 0]))]) := by
  intro V hV
  refine xMet_ofT RX3 hG rfl (by decide) (Nat.le_of_ble_eq_true rfl) fun C hC hQ hX hl hg _ hTab => ?_
  subst hl hg
  obtain ⟨V0, hV0⟩ : ∃ V0, V0 = V := ⟨_, rfl⟩
  obtain ⟨F, hF⟩ : ∃ F, F = xF [(o 0, .inr (2, [.ref (o 1), .ref (o 2), .ref (o 3), .ref (o 4), .ref (o 5), .ref (o 6), .ref (o 7), .ref (o 8), .ref (o 9), .ref (o 10), .int ((r 0).toInt32)])), (o 1, .inl (0, 6, .inl (seF t r)))] := ⟨_, rfl⟩
  refine rn.mono (J := xSt F V0 [(o 0, .inr (2, [.ref (o 1), .ref (o 2), .ref (o 3), .ref (o 4), .ref (o 5), .ref (o 6), .ref (o 7), .ref (o 8), .ref (o 9), .ref (o 10), .int ((r 0).toInt32)])), (o 1, .inl (0, 6, .inl (seF t r)))]) (fun V9 h => by rw [h, hV0, hF]; exact hV.st) ?_
  show rn C (xSt F V0 [(o 0, .inr (2, [.ref (o 1), .ref (o 2), .ref (o 3), .ref (o 4), .ref (o 5), .ref (o 6), .ref (o 7), .ref (o 8), .ref (o 9), .ref (o 10), .int ((r 0).toInt32)])), (o 1, .inl (0, 6, .inl (seF t r)))]) 0 0 0 [(0, .ref (o 0)), (1, .int cx), (2, .long mo), (4, .int dv), (5, .int (-1))] []
  refine r_iload_n hC 1 dX3_moved_0 rfl 1 rfl ?_
  refine r_i2l hC cx.toInt64 dX3_moved_1 (rfl) 2 rfl ?_
  refine r_iload hC 4 dX3_moved_2 rfl 4 rfl ?_
  refine r_i2l hC (-1) dX3_moved_4 (by decide) 5 rfl ?_
  refine r_aload_n hC 0 dX3_moved_5 rfl 6 rfl ?_
  refine r_get (v := .ref (o 1)) hC kX3 0 rfl q173 (fun _ h => h.get 0 rfl) rfl dX3_moved_6 9 rfl ?_
  refine r_iconst hC 2 dX3_moved_9 ic_2 10 rfl ?_
  refine r_iald hC 2 (xix_n 2 (Nat.le_of_ble_eq_true rfl) (Nat.le_of_ble_eq_true rfl)) (fun _ h => h.get 1 rfl) (seF t r 2) (rfl) dX3_moved_10 11 rfl ?_
  refine r_i2l hC ((seF t r 2).toInt64) dX3_moved_11 (rfl) 12 rfl ?_
  refine r_eql (y := t 2) (se2_l ht) ?_
  refine r_lload_n hC 2 dX3_moved_12 rfl 13 rfl ?_
  refine r_lmul hC ((t 2) * mo) dX3_moved_13  (rfl) 14 rfl ?_
  refine r_iload hC 3 dX3_moved_14 rfl 16 rfl ?_
  refine r_i2l hC dv.toInt64 dX3_moved_16 (rfl) 17 rfl ?_
  refine xCall.r (r := some (.long (x_fdL ((t 2) * mo) dv.toInt64))) (r_cS hC [.long ((t 2) * mo), .long dv.toInt64] mSJ4_floorDiv q420 (fun V9 h9 => (metJ4_floorDiv _ _ hG ((t 2) * mo) dv.toInt64 (hdv)) V9 xIn.nil) ⟨rfl, rfl⟩ (Nat.le_of_ble_eq_true rfl) (Nat.le_of_ble_eq_true rfl) rfl (Nat.le_of_ble_eq_true rfl) dX3_moved_17) 0 0 20 rfl rfl rfl ?_
  refine r_lmul hC ((-1) * (x_fdL ((t 2) * mo) dv.toInt64)) dX3_moved_20  (rfl) 21 rfl ?_
  refine r_ladd hC (cx.toInt64 + ((-1) * (x_fdL ((t 2) * mo) dv.toInt64))) dX3_moved_21  (rfl) 22 rfl ?_
  show rn C (xSt F V0 [(o 0, .inr (2, [.ref (o 1), .ref (o 2), .ref (o 3), .ref (o 4), .ref (o 5), .ref (o 6), .ref (o 7), .ref (o 8), .ref (o 9), .ref (o 10), .int ((r 0).toInt32)])), (o 1, .inl (0, 6, .inl (seF t r)))]) 0 0 22 [(0, .ref (o 0)), (1, .int cx), (2, .long mo), (4, .int dv), (5, .int (-1))] [.long (mvQ t cx mo dv (-1))]
  refine r_lstore hC 6 [(6, .long (mvQ t cx mo dv (-1))), (0, .ref (o 0)), (1, .int cx), (2, .long mo), (4, .int dv), (5, .int (-1))] dX3_moved_22 (Nat.le_of_ble_eq_true rfl) rfl 24 rfl ?_
  refine r_lload hC 0 dX3_moved_24 rfl 26 rfl ?_
  refine r_ldc2 hC q423 dX3_moved_26 29 rfl ?_
  refine xCall.w (wr := [(o 0, .inr (2, [.ref (o 1), .ref (o 2), .ref (o 3), .ref (o 4), .ref (o 5), .ref (o 6), .ref (o 7), .ref (o 8), .ref (o 9), .ref (o 10), .int ((r 0).toInt32)])), (o 1, .inl (0, 6, .inl (seF t r)))]) (r_cS hC [.long (mvQ t cx mo dv (-1)), .long 100000] mSX3_check q336 (fun V9 h9 => (metX3_checkB _ _ hG (mvQ t cx mo dv (-1)) 100000 hz) V9 xIn.nil) ⟨rfl, rfl⟩ (Nat.le_of_ble_eq_true rfl) (Nat.le_of_ble_eq_true rfl) rfl (Nat.le_of_ble_eq_true rfl) dX3_moved_29) [] [0, 1] rfl rfl rfl (by decide) 1 6 32 rfl rfl rfl (fun _ _ h => h.elim) (fun q5 w6 h7 => ?_)
  obtain rfl := h7
  show rx C (xSt F V0 [(o 0, .inr (2, [.ref (o 1), .ref (o 2), .ref (o 3), .ref (o 4), .ref (o 5), .ref (o 6), .ref (o 7), .ref (o 8), .ref (o 9), .ref (o 10), .int ((r 0).toInt32)])), (o 1, .inl (0, 6, .inl (seF t r))), (q5, .inr (3, [.null, .null, .null, .null, .null, .int 0]))]) 1 6 29 [(6, .long (mvQ t cx mo dv (-1))), (0, .ref (o 0)), (1, .int cx), (2, .long mo), (4, .int dv), (5, .int (-1))] [] q5
  exact rx_out hC hTab (fun _ h => by cases h) (Nat.le_of_ble_eq_true rfl) (Nat.le_of_ble_eq_true rfl) (fun V9 h => hX _ _ ⟨[(o 0, .inr (2, [.ref (o 1), .ref (o 2), .ref (o 3), .ref (o 4), .ref (o 5), .ref (o 6), .ref (o 7), .ref (o 8), .ref (o 9), .ref (o 10), .int ((r 0).toInt32)])), (o 1, .inl (0, 6, .inl (seF t r))), (q5, .inr (3, [.null, .null, .null, .null, .null, .int 0]))], rfl, by rw [← hV0, ← hF]; exact h⟩)
set_option maxHeartbeats 4000000 in
set_option maxRecDepth 100000 in
theorem metX3_drift00 (l : Launch) (G : xG) (hG : xGood G) (o : Nat → Nat) (t r : Nat → Int64) (hpl : plR r) (hmo : moR r) (ht : tOK t) (hm : mOK r) : xWm l G yX3_drift (Cond.code yX3_drift cX3_drift 4 none) { frames := 6, locals := 138, cells := 1, slots := 6 } [.ref (o 0), .int 1, .int 1] [(o 0, .inr (2, [.ref (o 1), .ref (o 2), .ref (o 3), .ref (o 4), .ref (o 5), .ref (o 6), .ref (o 7), .ref (o 8), .ref (o 9), .ref (o 10), .int ((r 0).toInt32)])), (o 1, .inl (0, 6, .inl (seF t r))), (o 2, .inl (0, 3, .inl (maF r))), (o 3, .inl (0, 3, .inl (plX r))), (o 4, .inl (0, 3, .inl (plY r))), (o 5, .inl (1, 3, .inr (.inl (moX r)))), (o 6, .inl (1, 3, .inr (.inl (moY r))))] (fun v w' => v = none ∧ isInQ (driftQ t r false false) = true ∧ w' = [(o 0, .inr (2, [.ref (o 1), .ref (o 2), .ref (o 3), .ref (o 4), .ref (o 5), .ref (o 6), .ref (o 7), .ref (o 8), .ref (o 9), .ref (o 10), .int (((driftQ t r false false) 0).toInt32)])), (o 1, .inl (0, 6, .inl (seF t (driftQ t r false false)))), (o 2, .inl (0, 3, .inl (maF (driftQ t r false false)))), (o 3, .inl (0, 3, .inl (plX (driftQ t r false false)))), (o 4, .inl (0, 3, .inl (plY (driftQ t r false false)))), (o 5, .inl (1, 3, .inr (.inl (moX (driftQ t r false false))))), (o 6, .inl (1, 3, .inr (.inl (moY (driftQ t r false false)))))]) (fun q w' => isInQ (driftQ t r false false) = false ∧ ∃ x' y' : Nat → Int32, w' = [(o 0, .inr (2, [.ref (o 1), .ref (o 2), .ref (o 3), .ref (o 4), .ref (o 5), .ref (o 6), .ref (o 7), .ref (o 8), .ref (o 9), .ref (o 10), .int ((r 0).toInt32)])), (o 1, .inl (0, 6, .inl (seF t r))), (o 2, .inl (0, 3, .inl (maF r))), (o 3, .inl (0, 3, .inl x')), (o 4, .inl (0, 3, .inl y')), (o 5, .inl (1, 3, .inr (.inl (moX r)))), (o 6, .inl (1, 3, .inr (.inl (moY r)))), (q, .inr (3, [.null, .null, .null, .null, .null, .int 0]))]) := by
  intro V hV
  refine xMet_ofT RX3 hG rfl (by decide) (Nat.le_of_ble_eq_true rfl) fun C hC hQ hX hl hg _ hTab => ?_
  subst hl hg
  obtain ⟨V0, hV0⟩ : ∃ V0, V0 = V := ⟨_, rfl⟩
  obtain ⟨F, hF⟩ : ∃ F, F = xF [(o 0, .inr (2, [.ref (o 1), .ref (o 2), .ref (o 3), .ref (o 4), .ref (o 5), .ref (o 6), .ref (o 7), .ref (o 8), .ref (o 9), .ref (o 10), .int ((r 0).toInt32)])), (o 1, .inl (0, 6, .inl (seF t r))), (o 2, .inl (0, 3, .inl (maF r))), (o 3, .inl (0, 3, .inl (plX r))), (o 4, .inl (0, 3, .inl (plY r))), (o 5, .inl (1, 3, .inr (.inl (moX r)))), (o 6, .inl (1, 3, .inr (.inl (moY r))))] := ⟨_, rfl⟩
  refine rn.mono (J := xSt F V0 [(o 0, .inr (2, [.ref (o 1), .ref (o 2), .ref (o 3), .ref (o 4), .ref (o 5), .ref (o 6), .ref (o 7), .ref (o 8), .ref (o 9), .ref (o 10), .int ((r 0).toInt32)])), (o 1, .inl (0, 6, .inl (seF t r))), (o 2, .inl (0, 3, .inl (maF r))), (o 3, .inl (0, 3, .inl (plX r))), (o 4, .inl (0, 3, .inl (plY r))), (o 5, .inl (1, 3, .inr (.inl (moX r)))), (o 6, .inl (1, 3, .inr (.inl (moY r))))]) (fun V9 h => by rw [h, hV0, hF]; exact hV.st) ?_
  show rn C (xSt F V0 [(o 0, .inr (2, [.ref (o 1), .ref (o 2), .ref (o 3), .ref (o 4), .ref (o 5), .ref (o 6), .ref (o 7), .ref (o 8), .ref (o 9), .ref (o 10), .int ((r 0).toInt32)])), (o 1, .inl (0, 6, .inl (seF t r))), (o 2, .inl (0, 3, .inl (maF r))), (o 3, .inl (0, 3, .inl (plX r))), (o 4, .inl (0, 3, .inl (plY r))), (o 5, .inl (1, 3, .inr (.inl (moX r)))), (o 6, .inl (1, 3, .inr (.inl (moY r))))]) 0 0 0 [(0, .ref (o 0)), (1, .int 1), (2, .int 1)] []
  refine r_iconst hC 0 dX3_drift_0 ic_0 1 rfl ?_
  refine r_istore_n hC 3 [(3, .int 0), (0, .ref (o 0)), (1, .int 1), (2, .int 1)] dX3_drift_1 rfl (Nat.le_of_ble_eq_true rfl) rfl 2 rfl ?_
  refine r_iload_n hC 0 dX3_drift_2 rfl 3 rfl ?_
  refine r_iconst hC 3 dX3_drift_3 ic_3 4 rfl ?_
  refine r_icge hC 75 dX3_drift_4 (by decide) 7 rfl (fun h => absurd h (by decide)) (fun _ => ?_)
  refine r_aload_n hC 1 dX3_drift_7 rfl 8 rfl ?_
  refine r_get (v := .ref (o 3)) hC kX3 2 rfl q180 (fun _ h => h.get 0 rfl) rfl dX3_drift_8 11 rfl ?_
  refine r_iload_n hC 0 dX3_drift_11 rfl 12 rfl ?_
  refine r_aload_n hC 1 dX3_drift_12 rfl 13 rfl ?_
  refine r_aload_n hC 1 dX3_drift_13 rfl 14 rfl ?_
  refine r_get (v := .ref (o 3)) hC kX3 2 rfl q180 (fun _ h => h.get 0 rfl) rfl dX3_drift_14 17 rfl ?_
  refine r_iload_n hC 0 dX3_drift_17 rfl 18 rfl ?_
  refine r_iald hC 0 (xix_n 0 (Nat.le_of_ble_eq_true rfl) (Nat.le_of_ble_eq_true rfl)) (fun _ h => h.get 3 rfl) (plX r 0) (rfl) dX3_drift_18 19 rfl ?_
  refine r_aload_n hC 1 dX3_drift_19 rfl 20 rfl ?_
  refine r_get (v := .ref (o 5)) hC kX3 4 rfl q188 (fun _ h => h.get 0 rfl) rfl dX3_drift_20 23 rfl ?_
  refine r_iload_n hC 0 dX3_drift_23 rfl 24 rfl ?_
  refine r_lald hC 0 (xix_n 0 (Nat.le_of_ble_eq_true rfl) (Nat.le_of_ble_eq_true rfl)) (fun _ h => h.get 5 rfl) (moX r 0) (rfl) dX3_drift_24 25 rfl ?_
  refine r_eql (y := r 9) (rfl) ?_
  refine r_iload_n hC 3 dX3_drift_25 rfl 26 rfl ?_
  refine r_aload_n hC 1 dX3_drift_26 rfl 27 rfl ?_
  refine r_get (v := .ref (o 2)) hC kX3 1 rfl q177 (fun _ h => h.get 0 rfl) rfl dX3_drift_27 30 rfl ?_
  refine r_iload_n hC 0 dX3_drift_30 rfl 31 rfl ?_
  refine r_iald hC 0 (xix_n 0 (Nat.le_of_ble_eq_true rfl) (Nat.le_of_ble_eq_true rfl)) (fun _ h => h.get 2 rfl) (maF r 0) (rfl) dX3_drift_31 32 rfl ?_
  refine r_imul hC (1 * (maF r 0)) dX3_drift_32  (rfl) 33 rfl ?_
  refine r_iload_n hC 2 dX3_drift_33 rfl 34 rfl ?_
  rcases Bool.eq_false_or_eq_true (m_in (mvQ t (plX r 0) (r 9) (1 * (maF r 0)) 1) (-100000) 100000) with hk1 | hk1
  · skip
    refine xCall.r (r := some (.int ((mvQ t (plX r 0) (r 9) (1 * (maF r 0)) 1).toInt32))) (r_cV hC kX3 (o 0) [.int (plX r 0), .long (r 9), .int (1 * (maF r 0)), .int 1] mVX3_moved q416 (fun _ h => ⟨_, h.get 0 rfl⟩) (fun V9 h9 => (metX3_moved0G _ _ hG o t r (plX r 0) (r 9) (1 * (maF r 0)) (dv1_n hm (by decide)) ht hk1) V9 (h9.in.sub [0, 1] rfl rfl)) ⟨rfl, rfl⟩ (Nat.le_of_ble_eq_true rfl) (Nat.le_of_ble_eq_true rfl) rfl (Nat.le_of_ble_eq_true rfl) dX3_drift_34) 0 0 37 rfl rfl rfl ?_
    refine r_iast (J := xSt F V0 [(o 0, .inr (2, [.ref (o 1), .ref (o 2), .ref (o 3), .ref (o 4), .ref (o 5), .ref (o 6), .ref (o 7), .ref (o 8), .ref (o 9), .ref (o 10), .int ((r 0).toInt32)])), (o 1, .inl (0, 6, .inl (seF t r))), (o 2, .inl (0, 3, .inl (maF r))), (o 3, .inl (0, 3, .inl (va_up (plX r) 0 ((mvQ t (plX r 0) (r 9) (1 * (maF r 0)) 1).toInt32)))), (o 4, .inl (0, 3, .inl (plY r))), (o 5, .inl (1, 3, .inr (.inl (moX r)))), (o 6, .inl (1, 3, .inr (.inl (moY r))))]) hC 0 (xix_n 0 (Nat.le_of_ble_eq_true rfl) (Nat.le_of_ble_eq_true rfl)) (fun _ h => h.get 3 rfl) dX3_drift_37 (fun _ h => h.set 3 _ rfl) 38 rfl ?_
    generalize hu2 : va_up (plX r) 0 ((mvQ t (plX r 0) (r 9) (1 * (maF r 0)) 1).toInt32) = u2
    refine r_aload_n hC 1 dX3_drift_38 rfl 39 rfl ?_
    refine r_get (v := .ref (o 4)) hC kX3 3 rfl q184 (fun _ h => h.get 0 rfl) rfl dX3_drift_39 42 rfl ?_
    refine r_iload_n hC 0 dX3_drift_42 rfl 43 rfl ?_
    refine r_aload_n hC 1 dX3_drift_43 rfl 44 rfl ?_
    refine r_aload_n hC 1 dX3_drift_44 rfl 45 rfl ?_
    refine r_get (v := .ref (o 4)) hC kX3 3 rfl q184 (fun _ h => h.get 0 rfl) rfl dX3_drift_45 48 rfl ?_
    refine r_iload_n hC 0 dX3_drift_48 rfl 49 rfl ?_
    refine r_iald hC 0 (xix_n 0 (Nat.le_of_ble_eq_true rfl) (Nat.le_of_ble_eq_true rfl)) (fun _ h => h.get 4 rfl) (plY r 0) (rfl) dX3_drift_49 50 rfl ?_
    refine r_aload_n hC 1 dX3_drift_50 rfl 51 rfl ?_
    refine r_get (v := .ref (o 6)) hC kX3 5 rfl q191 (fun _ h => h.get 0 rfl) rfl dX3_drift_51 54 rfl ?_
    refine r_iload_n hC 0 dX3_drift_54 rfl 55 rfl ?_
    refine r_lald hC 0 (xix_n 0 (Nat.le_of_ble_eq_true rfl) (Nat.le_of_ble_eq_true rfl)) (fun _ h => h.get 6 rfl) (moY r 0) (rfl) dX3_drift_55 56 rfl ?_
    refine r_eql (y := r 10) (rfl) ?_
    refine r_iload_n hC 3 dX3_drift_56 rfl 57 rfl ?_
    refine r_aload_n hC 1 dX3_drift_57 rfl 58 rfl ?_
    refine r_get (v := .ref (o 2)) hC kX3 1 rfl q177 (fun _ h => h.get 0 rfl) rfl dX3_drift_58 61 rfl ?_
    refine r_iload_n hC 0 dX3_drift_61 rfl 62 rfl ?_
    refine r_iald hC 0 (xix_n 0 (Nat.le_of_ble_eq_true rfl) (Nat.le_of_ble_eq_true rfl)) (fun _ h => h.get 2 rfl) (maF r 0) (rfl) dX3_drift_62 63 rfl ?_
    refine r_imul hC (1 * (maF r 0)) dX3_drift_63  (rfl) 64 rfl ?_
    refine r_iload_n hC 2 dX3_drift_64 rfl 65 rfl ?_
    rcases Bool.eq_false_or_eq_true (m_in (mvQ t (plY r 0) (r 10) (1 * (maF r 0)) 1) (-100000) 100000) with hk3 | hk3
    · skip
      refine xCall.r (r := some (.int ((mvQ t (plY r 0) (r 10) (1 * (maF r 0)) 1).toInt32))) (r_cV hC kX3 (o 0) [.int (plY r 0), .long (r 10), .int (1 * (maF r 0)), .int 1] mVX3_moved q416 (fun _ h => ⟨_, h.get 0 rfl⟩) (fun V9 h9 => (metX3_moved0G _ _ hG o t r (plY r 0) (r 10) (1 * (maF r 0)) (dv1_n hm (by decide)) ht hk3) V9 (h9.in.sub [0, 1] rfl rfl)) ⟨rfl, rfl⟩ (Nat.le_of_ble_eq_true rfl) (Nat.le_of_ble_eq_true rfl) rfl (Nat.le_of_ble_eq_true rfl) dX3_drift_65) 0 0 68 rfl rfl rfl ?_
      refine r_iast (J := xSt F V0 [(o 0, .inr (2, [.ref (o 1), .ref (o 2), .ref (o 3), .ref (o 4), .ref (o 5), .ref (o 6), .ref (o 7), .ref (o 8), .ref (o 9), .ref (o 10), .int ((r 0).toInt32)])), (o 1, .inl (0, 6, .inl (seF t r))), (o 2, .inl (0, 3, .inl (maF r))), (o 3, .inl (0, 3, .inl u2)), (o 4, .inl (0, 3, .inl (va_up (plY r) 0 ((mvQ t (plY r 0) (r 10) (1 * (maF r 0)) 1).toInt32)))), (o 5, .inl (1, 3, .inr (.inl (moX r)))), (o 6, .inl (1, 3, .inr (.inl (moY r))))]) hC 0 (xix_n 0 (Nat.le_of_ble_eq_true rfl) (Nat.le_of_ble_eq_true rfl)) (fun _ h => h.get 4 rfl) dX3_drift_68 (fun _ h => h.set 4 _ rfl) 69 rfl ?_
      generalize hu4 : va_up (plY r) 0 ((mvQ t (plY r 0) (r 10) (1 * (maF r 0)) 1).toInt32) = u4
      refine r_iinc hC 1 3 0 [(3, .int 1), (0, .ref (o 0)), (1, .int 1), (2, .int 1)] dX3_drift_69 rfl (by decide) (Nat.le_of_ble_eq_true rfl) rfl 72 rfl ?_
      refine r_goto hC 2 dX3_drift_72 (by decide) ?_
      refine r_iload_n hC 0 dX3_drift_2 rfl 3 rfl ?_
      refine r_iconst hC 3 dX3_drift_3 ic_3 4 rfl ?_
      refine r_icge hC 75 dX3_drift_4 (by decide) 7 rfl (fun h => absurd h (by decide)) (fun _ => ?_)
      refine r_aload_n hC 1 dX3_drift_7 rfl 8 rfl ?_
      refine r_get (v := .ref (o 3)) hC kX3 2 rfl q180 (fun _ h => h.get 0 rfl) rfl dX3_drift_8 11 rfl ?_
      refine r_iload_n hC 0 dX3_drift_11 rfl 12 rfl ?_
      refine r_aload_n hC 1 dX3_drift_12 rfl 13 rfl ?_
      refine r_aload_n hC 1 dX3_drift_13 rfl 14 rfl ?_
      refine r_get (v := .ref (o 3)) hC kX3 2 rfl q180 (fun _ h => h.get 0 rfl) rfl dX3_drift_14 17 rfl ?_
      refine r_iload_n hC 0 dX3_drift_17 rfl 18 rfl ?_
      refine r_iald hC 1 (xix_n 1 (Nat.le_of_ble_eq_true rfl) (Nat.le_of_ble_eq_true rfl)) (fun _ h => h.get 3 rfl) (plX r 1) (by rw [← hu2]; rfl) dX3_drift_18 19 rfl ?_
      refine r_aload_n hC 1 dX3_drift_19 rfl 20 rfl ?_
      refine r_get (v := .ref (o 5)) hC kX3 4 rfl q188 (fun _ h => h.get 0 rfl) rfl dX3_drift_20 23 rfl ?_
      refine r_iload_n hC 0 dX3_drift_23 rfl 24 rfl ?_
      refine r_lald hC 1 (xix_n 1 (Nat.le_of_ble_eq_true rfl) (Nat.le_of_ble_eq_true rfl)) (fun _ h => h.get 5 rfl) (moX r 1) (rfl) dX3_drift_24 25 rfl ?_
      refine r_eql (y := r 14) (rfl) ?_
      refine r_iload_n hC 3 dX3_drift_25 rfl 26 rfl ?_
      refine r_aload_n hC 1 dX3_drift_26 rfl 27 rfl ?_
      refine r_get (v := .ref (o 2)) hC kX3 1 rfl q177 (fun _ h => h.get 0 rfl) rfl dX3_drift_27 30 rfl ?_
      refine r_iload_n hC 0 dX3_drift_30 rfl 31 rfl ?_
      refine r_iald hC 1 (xix_n 1 (Nat.le_of_ble_eq_true rfl) (Nat.le_of_ble_eq_true rfl)) (fun _ h => h.get 2 rfl) (maF r 1) (rfl) dX3_drift_31 32 rfl ?_
      refine r_imul hC (1 * (maF r 1)) dX3_drift_32  (rfl) 33 rfl ?_
      refine r_iload_n hC 2 dX3_drift_33 rfl 34 rfl ?_
      rcases Bool.eq_false_or_eq_true (m_in (mvQ t (plX r 1) (r 14) (1 * (maF r 1)) 1) (-100000) 100000) with hk5 | hk5
      · skip
        refine xCall.r (r := some (.int ((mvQ t (plX r 1) (r 14) (1 * (maF r 1)) 1).toInt32))) (r_cV hC kX3 (o 0) [.int (plX r 1), .long (r 14), .int (1 * (maF r 1)), .int 1] mVX3_moved q416 (fun _ h => ⟨_, h.get 0 rfl⟩) (fun V9 h9 => (metX3_moved0G _ _ hG o t r (plX r 1) (r 14) (1 * (maF r 1)) (dv1_n hm (by decide)) ht hk5) V9 (h9.in.sub [0, 1] rfl rfl)) ⟨rfl, rfl⟩ (Nat.le_of_ble_eq_true rfl) (Nat.le_of_ble_eq_true rfl) rfl (Nat.le_of_ble_eq_true rfl) dX3_drift_34) 0 0 37 rfl rfl rfl ?_
        refine r_iast (J := xSt F V0 [(o 0, .inr (2, [.ref (o 1), .ref (o 2), .ref (o 3), .ref (o 4), .ref (o 5), .ref (o 6), .ref (o 7), .ref (o 8), .ref (o 9), .ref (o 10), .int ((r 0).toInt32)])), (o 1, .inl (0, 6, .inl (seF t r))), (o 2, .inl (0, 3, .inl (maF r))), (o 3, .inl (0, 3, .inl (va_up u2 1 ((mvQ t (plX r 1) (r 14) (1 * (maF r 1)) 1).toInt32)))), (o 4, .inl (0, 3, .inl u4)), (o 5, .inl (1, 3, .inr (.inl (moX r)))), (o 6, .inl (1, 3, .inr (.inl (moY r))))]) hC 1 (xix_n 1 (Nat.le_of_ble_eq_true rfl) (Nat.le_of_ble_eq_true rfl)) (fun _ h => h.get 3 rfl) dX3_drift_37 (fun _ h => h.set 3 _ rfl) 38 rfl ?_
        generalize hu6 : va_up u2 1 ((mvQ t (plX r 1) (r 14) (1 * (maF r 1)) 1).toInt32) = u6
        refine r_aload_n hC 1 dX3_drift_38 rfl 39 rfl ?_
        refine r_get (v := .ref (o 4)) hC kX3 3 rfl q184 (fun _ h => h.get 0 rfl) rfl dX3_drift_39 42 rfl ?_
        refine r_iload_n hC 0 dX3_drift_42 rfl 43 rfl ?_
        refine r_aload_n hC 1 dX3_drift_43 rfl 44 rfl ?_
        refine r_aload_n hC 1 dX3_drift_44 rfl 45 rfl ?_
        refine r_get (v := .ref (o 4)) hC kX3 3 rfl q184 (fun _ h => h.get 0 rfl) rfl dX3_drift_45 48 rfl ?_
        refine r_iload_n hC 0 dX3_drift_48 rfl 49 rfl ?_
        refine r_iald hC 1 (xix_n 1 (Nat.le_of_ble_eq_true rfl) (Nat.le_of_ble_eq_true rfl)) (fun _ h => h.get 4 rfl) (plY r 1) (by rw [← hu4]; rfl) dX3_drift_49 50 rfl ?_
        refine r_aload_n hC 1 dX3_drift_50 rfl 51 rfl ?_
        refine r_get (v := .ref (o 6)) hC kX3 5 rfl q191 (fun _ h => h.get 0 rfl) rfl dX3_drift_51 54 rfl ?_
        refine r_iload_n hC 0 dX3_drift_54 rfl 55 rfl ?_
        refine r_lald hC 1 (xix_n 1 (Nat.le_of_ble_eq_true rfl) (Nat.le_of_ble_eq_true rfl)) (fun _ h => h.get 6 rfl) (moY r 1) (rfl) dX3_drift_55 56 rfl ?_
        refine r_eql (y := r 15) (rfl) ?_
        refine r_iload_n hC 3 dX3_drift_56 rfl 57 rfl ?_
        refine r_aload_n hC 1 dX3_drift_57 rfl 58 rfl ?_
        refine r_get (v := .ref (o 2)) hC kX3 1 rfl q177 (fun _ h => h.get 0 rfl) rfl dX3_drift_58 61 rfl ?_
        refine r_iload_n hC 0 dX3_drift_61 rfl 62 rfl ?_
        refine r_iald hC 1 (xix_n 1 (Nat.le_of_ble_eq_true rfl) (Nat.le_of_ble_eq_true rfl)) (fun _ h => h.get 2 rfl) (maF r 1) (rfl) dX3_drift_62 63 rfl ?_
        refine r_imul hC (1 * (maF r 1)) dX3_drift_63  (rfl) 64 rfl ?_
        refine r_iload_n hC 2 dX3_drift_64 rfl 65 rfl ?_
        rcases Bool.eq_false_or_eq_true (m_in (mvQ t (plY r 1) (r 15) (1 * (maF r 1)) 1) (-100000) 100000) with hk7 | hk7
        · skip
          refine xCall.r (r := some (.int ((mvQ t (plY r 1) (r 15) (1 * (maF r 1)) 1).toInt32))) (r_cV hC kX3 (o 0) [.int (plY r 1), .long (r 15), .int (1 * (maF r 1)), .int 1] mVX3_moved q416 (fun _ h => ⟨_, h.get 0 rfl⟩) (fun V9 h9 => (metX3_moved0G _ _ hG o t r (plY r 1) (r 15) (1 * (maF r 1)) (dv1_n hm (by decide)) ht hk7) V9 (h9.in.sub [0, 1] rfl rfl)) ⟨rfl, rfl⟩ (Nat.le_of_ble_eq_true rfl) (Nat.le_of_ble_eq_true rfl) rfl (Nat.le_of_ble_eq_true rfl) dX3_drift_65) 0 0 68 rfl rfl rfl ?_
          refine r_iast (J := xSt F V0 [(o 0, .inr (2, [.ref (o 1), .ref (o 2), .ref (o 3), .ref (o 4), .ref (o 5), .ref (o 6), .ref (o 7), .ref (o 8), .ref (o 9), .ref (o 10), .int ((r 0).toInt32)])), (o 1, .inl (0, 6, .inl (seF t r))), (o 2, .inl (0, 3, .inl (maF r))), (o 3, .inl (0, 3, .inl u6)), (o 4, .inl (0, 3, .inl (va_up u4 1 ((mvQ t (plY r 1) (r 15) (1 * (maF r 1)) 1).toInt32)))), (o 5, .inl (1, 3, .inr (.inl (moX r)))), (o 6, .inl (1, 3, .inr (.inl (moY r))))]) hC 1 (xix_n 1 (Nat.le_of_ble_eq_true rfl) (Nat.le_of_ble_eq_true rfl)) (fun _ h => h.get 4 rfl) dX3_drift_68 (fun _ h => h.set 4 _ rfl) 69 rfl ?_
          generalize hu8 : va_up u4 1 ((mvQ t (plY r 1) (r 15) (1 * (maF r 1)) 1).toInt32) = u8
          refine r_iinc hC 2 3 0 [(3, .int 2), (0, .ref (o 0)), (1, .int 1), (2, .int 1)] dX3_drift_69 rfl (by decide) (Nat.le_of_ble_eq_true rfl) rfl 72 rfl ?_
          refine r_goto hC 2 dX3_drift_72 (by decide) ?_
          refine r_iload_n hC 0 dX3_drift_2 rfl 3 rfl ?_
          refine r_iconst hC 3 dX3_drift_3 ic_3 4 rfl ?_
          refine r_icge hC 75 dX3_drift_4 (by decide) 7 rfl (fun h => absurd h (by decide)) (fun _ => ?_)
          refine r_aload_n hC 1 dX3_drift_7 rfl 8 rfl ?_
          refine r_get (v := .ref (o 3)) hC kX3 2 rfl q180 (fun _ h => h.get 0 rfl) rfl dX3_drift_8 11 rfl ?_
          refine r_iload_n hC 0 dX3_drift_11 rfl 12 rfl ?_
          refine r_aload_n hC 1 dX3_drift_12 rfl 13 rfl ?_
          refine r_aload_n hC 1 dX3_drift_13 rfl 14 rfl ?_
          refine r_get (v := .ref (o 3)) hC kX3 2 rfl q180 (fun _ h => h.get 0 rfl) rfl dX3_drift_14 17 rfl ?_
          refine r_iload_n hC 0 dX3_drift_17 rfl 18 rfl ?_
          refine r_iald hC 2 (xix_n 2 (Nat.le_of_ble_eq_true rfl) (Nat.le_of_ble_eq_true rfl)) (fun _ h => h.get 3 rfl) (plX r 2) (by rw [← hu6, ← hu2]; rfl) dX3_drift_18 19 rfl ?_
          refine r_aload_n hC 1 dX3_drift_19 rfl 20 rfl ?_
          refine r_get (v := .ref (o 5)) hC kX3 4 rfl q188 (fun _ h => h.get 0 rfl) rfl dX3_drift_20 23 rfl ?_
          refine r_iload_n hC 0 dX3_drift_23 rfl 24 rfl ?_
          refine r_lald hC 2 (xix_n 2 (Nat.le_of_ble_eq_true rfl) (Nat.le_of_ble_eq_true rfl)) (fun _ h => h.get 5 rfl) (moX r 2) (rfl) dX3_drift_24 25 rfl ?_
          refine r_eql (y := r 19) (rfl) ?_
          refine r_iload_n hC 3 dX3_drift_25 rfl 26 rfl ?_
          refine r_aload_n hC 1 dX3_drift_26 rfl 27 rfl ?_
          refine r_get (v := .ref (o 2)) hC kX3 1 rfl q177 (fun _ h => h.get 0 rfl) rfl dX3_drift_27 30 rfl ?_
          refine r_iload_n hC 0 dX3_drift_30 rfl 31 rfl ?_
          refine r_iald hC 2 (xix_n 2 (Nat.le_of_ble_eq_true rfl) (Nat.le_of_ble_eq_true rfl)) (fun _ h => h.get 2 rfl) (maF r 2) (rfl) dX3_drift_31 32 rfl ?_
          refine r_imul hC (1 * (maF r 2)) dX3_drift_32  (rfl) 33 rfl ?_
          refine r_iload_n hC 2 dX3_drift_33 rfl 34 rfl ?_
          rcases Bool.eq_false_or_eq_true (m_in (mvQ t (plX r 2) (r 19) (1 * (maF r 2)) 1) (-100000) 100000) with hk9 | hk9
          · skip
            refine xCall.r (r := some (.int ((mvQ t (plX r 2) (r 19) (1 * (maF r 2)) 1).toInt32))) (r_cV hC kX3 (o 0) [.int (plX r 2), .long (r 19), .int (1 * (maF r 2)), .int 1] mVX3_moved q416 (fun _ h => ⟨_, h.get 0 rfl⟩) (fun V9 h9 => (metX3_moved0G _ _ hG o t r (plX r 2) (r 19) (1 * (maF r 2)) (dv1_n hm (by decide)) ht hk9) V9 (h9.in.sub [0, 1] rfl rfl)) ⟨rfl, rfl⟩ (Nat.le_of_ble_eq_true rfl) (Nat.le_of_ble_eq_true rfl) rfl (Nat.le_of_ble_eq_true rfl) dX3_drift_34) 0 0 37 rfl rfl rfl ?_
            refine r_iast (J := xSt F V0 [(o 0, .inr (2, [.ref (o 1), .ref (o 2), .ref (o 3), .ref (o 4), .ref (o 5), .ref (o 6), .ref (o 7), .ref (o 8), .ref (o 9), .ref (o 10), .int ((r 0).toInt32)])), (o 1, .inl (0, 6, .inl (seF t r))), (o 2, .inl (0, 3, .inl (maF r))), (o 3, .inl (0, 3, .inl (va_up u6 2 ((mvQ t (plX r 2) (r 19) (1 * (maF r 2)) 1).toInt32)))), (o 4, .inl (0, 3, .inl u8)), (o 5, .inl (1, 3, .inr (.inl (moX r)))), (o 6, .inl (1, 3, .inr (.inl (moY r))))]) hC 2 (xix_n 2 (Nat.le_of_ble_eq_true rfl) (Nat.le_of_ble_eq_true rfl)) (fun _ h => h.get 3 rfl) dX3_drift_37 (fun _ h => h.set 3 _ rfl) 38 rfl ?_
            generalize hu10 : va_up u6 2 ((mvQ t (plX r 2) (r 19) (1 * (maF r 2)) 1).toInt32) = u10
            refine r_aload_n hC 1 dX3_drift_38 rfl 39 rfl ?_
            refine r_get (v := .ref (o 4)) hC kX3 3 rfl q184 (fun _ h => h.get 0 rfl) rfl dX3_drift_39 42 rfl ?_
            refine r_iload_n hC 0 dX3_drift_42 rfl 43 rfl ?_
            refine r_aload_n hC 1 dX3_drift_43 rfl 44 rfl ?_
            refine r_aload_n hC 1 dX3_drift_44 rfl 45 rfl ?_
            refine r_get (v := .ref (o 4)) hC kX3 3 rfl q184 (fun _ h => h.get 0 rfl) rfl dX3_drift_45 48 rfl ?_
            refine r_iload_n hC 0 dX3_drift_48 rfl 49 rfl ?_
            refine r_iald hC 2 (xix_n 2 (Nat.le_of_ble_eq_true rfl) (Nat.le_of_ble_eq_true rfl)) (fun _ h => h.get 4 rfl) (plY r 2) (by rw [← hu8, ← hu4]; rfl) dX3_drift_49 50 rfl ?_
            refine r_aload_n hC 1 dX3_drift_50 rfl 51 rfl ?_
            refine r_get (v := .ref (o 6)) hC kX3 5 rfl q191 (fun _ h => h.get 0 rfl) rfl dX3_drift_51 54 rfl ?_
            refine r_iload_n hC 0 dX3_drift_54 rfl 55 rfl ?_
            refine r_lald hC 2 (xix_n 2 (Nat.le_of_ble_eq_true rfl) (Nat.le_of_ble_eq_true rfl)) (fun _ h => h.get 6 rfl) (moY r 2) (rfl) dX3_drift_55 56 rfl ?_
            refine r_eql (y := r 20) (rfl) ?_
            refine r_iload_n hC 3 dX3_drift_56 rfl 57 rfl ?_
            refine r_aload_n hC 1 dX3_drift_57 rfl 58 rfl ?_
            refine r_get (v := .ref (o 2)) hC kX3 1 rfl q177 (fun _ h => h.get 0 rfl) rfl dX3_drift_58 61 rfl ?_
            refine r_iload_n hC 0 dX3_drift_61 rfl 62 rfl ?_
            refine r_iald hC 2 (xix_n 2 (Nat.le_of_ble_eq_true rfl) (Nat.le_of_ble_eq_true rfl)) (fun _ h => h.get 2 rfl) (maF r 2) (rfl) dX3_drift_62 63 rfl ?_
            refine r_imul hC (1 * (maF r 2)) dX3_drift_63  (rfl) 64 rfl ?_
            refine r_iload_n hC 2 dX3_drift_64 rfl 65 rfl ?_
            rcases Bool.eq_false_or_eq_true (m_in (mvQ t (plY r 2) (r 20) (1 * (maF r 2)) 1) (-100000) 100000) with hk11 | hk11
            · skip
              refine xCall.r (r := some (.int ((mvQ t (plY r 2) (r 20) (1 * (maF r 2)) 1).toInt32))) (r_cV hC kX3 (o 0) [.int (plY r 2), .long (r 20), .int (1 * (maF r 2)), .int 1] mVX3_moved q416 (fun _ h => ⟨_, h.get 0 rfl⟩) (fun V9 h9 => (metX3_moved0G _ _ hG o t r (plY r 2) (r 20) (1 * (maF r 2)) (dv1_n hm (by decide)) ht hk11) V9 (h9.in.sub [0, 1] rfl rfl)) ⟨rfl, rfl⟩ (Nat.le_of_ble_eq_true rfl) (Nat.le_of_ble_eq_true rfl) rfl (Nat.le_of_ble_eq_true rfl) dX3_drift_65) 0 0 68 rfl rfl rfl ?_
              refine r_iast (J := xSt F V0 [(o 0, .inr (2, [.ref (o 1), .ref (o 2), .ref (o 3), .ref (o 4), .ref (o 5), .ref (o 6), .ref (o 7), .ref (o 8), .ref (o 9), .ref (o 10), .int ((r 0).toInt32)])), (o 1, .inl (0, 6, .inl (seF t r))), (o 2, .inl (0, 3, .inl (maF r))), (o 3, .inl (0, 3, .inl u10)), (o 4, .inl (0, 3, .inl (va_up u8 2 ((mvQ t (plY r 2) (r 20) (1 * (maF r 2)) 1).toInt32)))), (o 5, .inl (1, 3, .inr (.inl (moX r)))), (o 6, .inl (1, 3, .inr (.inl (moY r))))]) hC 2 (xix_n 2 (Nat.le_of_ble_eq_true rfl) (Nat.le_of_ble_eq_true rfl)) (fun _ h => h.get 4 rfl) dX3_drift_68 (fun _ h => h.set 4 _ rfl) 69 rfl ?_
              generalize hu12 : va_up u8 2 ((mvQ t (plY r 2) (r 20) (1 * (maF r 2)) 1).toInt32) = u12
              refine r_iinc hC 3 3 0 [(3, .int 3), (0, .ref (o 0)), (1, .int 1), (2, .int 1)] dX3_drift_69 rfl (by decide) (Nat.le_of_ble_eq_true rfl) rfl 72 rfl ?_
              refine r_goto hC 2 dX3_drift_72 (by decide) ?_
              refine r_iload_n hC 0 dX3_drift_2 rfl 3 rfl ?_
              refine r_iconst hC 3 dX3_drift_3 ic_3 4 rfl ?_
              refine r_icge hC 75 dX3_drift_4 (by decide) 7 rfl (fun _ => ?_) (fun h => absurd h (by decide))
              subst hu12
              subst hu10
              subst hu8
              subst hu6
              subst hu4
              subst hu2
              refine rn_cellI (J := xSt F V0 [(o 0, .inr (2, [.ref (o 1), .ref (o 2), .ref (o 3), .ref (o 4), .ref (o 5), .ref (o 6), .ref (o 7), .ref (o 8), .ref (o 9), .ref (o 10), .int ((r 0).toInt32)])), (o 1, .inl (0, 6, .inl (seF t r))), (o 2, .inl (0, 3, .inl (maF (driftQ t r false false)))), (o 3, .inl (0, 3, .inl (va_up (va_up (va_up (plX r) 0 ((mvQ t (plX r 0) (r 9) (1 * (maF r 0)) 1).toInt32)) 1 ((mvQ t (plX r 1) (r 14) (1 * (maF r 1)) 1).toInt32)) 2 ((mvQ t (plX r 2) (r 19) (1 * (maF r 2)) 1).toInt32)))), (o 4, .inl (0, 3, .inl (va_up (va_up (va_up (plY r) 0 ((mvQ t (plY r 0) (r 10) (1 * (maF r 0)) 1).toInt32)) 1 ((mvQ t (plY r 1) (r 15) (1 * (maF r 1)) 1).toInt32)) 2 ((mvQ t (plY r 2) (r 20) (1 * (maF r 2)) 1).toInt32)))), (o 5, .inl (1, 3, .inr (.inl (moX r)))), (o 6, .inl (1, 3, .inr (.inl (moY r))))]) (fun _ h => h.get 2 rfl) (fun j9 hj9 => by
                  rcases (show j9 = 0 ∨ j9 = 1 ∨ j9 = 2 by omega) with rfl | rfl | rfl
                  · exact congrArg Int64.toInt32 (drq_6).symm
                  · exact congrArg Int64.toInt32 (drq_11).symm
                  · exact congrArg Int64.toInt32 (drq_16).symm) (fun _ h => h.set 2 _ rfl) ?_
              refine rn_cellI (J := xSt F V0 [(o 0, .inr (2, [.ref (o 1), .ref (o 2), .ref (o 3), .ref (o 4), .ref (o 5), .ref (o 6), .ref (o 7), .ref (o 8), .ref (o 9), .ref (o 10), .int ((r 0).toInt32)])), (o 1, .inl (0, 6, .inl (seF t r))), (o 2, .inl (0, 3, .inl (maF (driftQ t r false false)))), (o 3, .inl (0, 3, .inl (plX (driftQ t r false false)))), (o 4, .inl (0, 3, .inl (va_up (va_up (va_up (plY r) 0 ((mvQ t (plY r 0) (r 10) (1 * (maF r 0)) 1).toInt32)) 1 ((mvQ t (plY r 1) (r 15) (1 * (maF r 1)) 1).toInt32)) 2 ((mvQ t (plY r 2) (r 20) (1 * (maF r 2)) 1).toInt32)))), (o 5, .inl (1, 3, .inr (.inl (moX r)))), (o 6, .inl (1, 3, .inr (.inl (moY r))))]) (fun _ h => h.get 3 rfl) (fun j9 hj9 => by
                  rcases (show j9 = 0 ∨ j9 = 1 ∨ j9 = 2 by omega) with rfl | rfl | rfl
                  · exact ((up_ne (by decide)).trans ((up_ne (by decide)).trans (up_same _ _ _))).trans (congrArg Int64.toInt32 ((mvX00 (t := t) (j := 0) hpl hm (by decide)).trans (drq_7).symm))
                  · exact ((up_ne (by decide)).trans (up_same _ _ _)).trans (congrArg Int64.toInt32 ((mvX00 (t := t) (j := 1) hpl hm (by decide)).trans (drq_12).symm))
                  · exact (up_same _ _ _).trans (congrArg Int64.toInt32 ((mvX00 (t := t) (j := 2) hpl hm (by decide)).trans (drq_17).symm))) (fun _ h => h.set 3 _ rfl) ?_
              refine rn_cellI (J := xSt F V0 [(o 0, .inr (2, [.ref (o 1), .ref (o 2), .ref (o 3), .ref (o 4), .ref (o 5), .ref (o 6), .ref (o 7), .ref (o 8), .ref (o 9), .ref (o 10), .int ((r 0).toInt32)])), (o 1, .inl (0, 6, .inl (seF t r))), (o 2, .inl (0, 3, .inl (maF (driftQ t r false false)))), (o 3, .inl (0, 3, .inl (plX (driftQ t r false false)))), (o 4, .inl (0, 3, .inl (plY (driftQ t r false false)))), (o 5, .inl (1, 3, .inr (.inl (moX r)))), (o 6, .inl (1, 3, .inr (.inl (moY r))))]) (fun _ h => h.get 4 rfl) (fun j9 hj9 => by
                  rcases (show j9 = 0 ∨ j9 = 1 ∨ j9 = 2 by omega) with rfl | rfl | rfl
                  · exact ((up_ne (by decide)).trans ((up_ne (by decide)).trans (up_same _ _ _))).trans (congrArg Int64.toInt32 ((mvY00 (t := t) (j := 0) hpl hm (by decide)).trans (drq_8).symm))
                  · exact ((up_ne (by decide)).trans (up_same _ _ _)).trans (congrArg Int64.toInt32 ((mvY00 (t := t) (j := 1) hpl hm (by decide)).trans (drq_13).symm))
                  · exact (up_same _ _ _).trans (congrArg Int64.toInt32 ((mvY00 (t := t) (j := 2) hpl hm (by decide)).trans (drq_18).symm))) (fun _ h => h.set 4 _ rfl) ?_
              refine rn_cellJ (J := xSt F V0 [(o 0, .inr (2, [.ref (o 1), .ref (o 2), .ref (o 3), .ref (o 4), .ref (o 5), .ref (o 6), .ref (o 7), .ref (o 8), .ref (o 9), .ref (o 10), .int ((r 0).toInt32)])), (o 1, .inl (0, 6, .inl (seF t r))), (o 2, .inl (0, 3, .inl (maF (driftQ t r false false)))), (o 3, .inl (0, 3, .inl (plX (driftQ t r false false)))), (o 4, .inl (0, 3, .inl (plY (driftQ t r false false)))), (o 5, .inl (1, 3, .inr (.inl (moX (driftQ t r false false))))), (o 6, .inl (1, 3, .inr (.inl (moY r))))]) (fun _ h => h.get 5 rfl) (fun j9 hj9 => by
                  rcases (show j9 = 0 ∨ j9 = 1 ∨ j9 = 2 by omega) with rfl | rfl | rfl
                  · exact (drq_9).symm
                  · exact (drq_14).symm
                  · exact (drq_19).symm) (fun _ h => h.set 5 _ rfl) ?_
              refine rn_cellJ (J := xSt F V0 [(o 0, .inr (2, [.ref (o 1), .ref (o 2), .ref (o 3), .ref (o 4), .ref (o 5), .ref (o 6), .ref (o 7), .ref (o 8), .ref (o 9), .ref (o 10), .int ((r 0).toInt32)])), (o 1, .inl (0, 6, .inl (seF t r))), (o 2, .inl (0, 3, .inl (maF (driftQ t r false false)))), (o 3, .inl (0, 3, .inl (plX (driftQ t r false false)))), (o 4, .inl (0, 3, .inl (plY (driftQ t r false false)))), (o 5, .inl (1, 3, .inr (.inl (moX (driftQ t r false false))))), (o 6, .inl (1, 3, .inr (.inl (moY (driftQ t r false false)))))]) (fun _ h => h.get 6 rfl) (fun j9 hj9 => by
                  rcases (show j9 = 0 ∨ j9 = 1 ∨ j9 = 2 by omega) with rfl | rfl | rfl
                  · exact (drq_10).symm
                  · exact (drq_15).symm
                  · exact (drq_20).symm) (fun _ h => h.set 6 _ rfl) ?_
              exact r_vret hC (Nat.le_of_ble_eq_true rfl) (Nat.le_of_ble_eq_true rfl) (fun V9 h => hQ _ _ ⟨[(o 0, .inr (2, [.ref (o 1), .ref (o 2), .ref (o 3), .ref (o 4), .ref (o 5), .ref (o 6), .ref (o 7), .ref (o 8), .ref (o 9), .ref (o 10), .int (((driftQ t r false false) 0).toInt32)])), (o 1, .inl (0, 6, .inl (seF t (driftQ t r false false)))), (o 2, .inl (0, 3, .inl (maF (driftQ t r false false)))), (o 3, .inl (0, 3, .inl (plX (driftQ t r false false)))), (o 4, .inl (0, 3, .inl (plY (driftQ t r false false)))), (o 5, .inl (1, 3, .inr (.inl (moX (driftQ t r false false))))), (o 6, .inl (1, 3, .inr (.inl (moY (driftQ t r false false)))))], ⟨rfl, in_t2 (moR_drift hmo) (by rw [← ((mvX00 (t := t) (j := 0) hpl hm (by decide)).trans (drq_7).symm)]; exact hk1) (by rw [← ((mvY00 (t := t) (j := 0) hpl hm (by decide)).trans (drq_8).symm)]; exact hk3) (by rw [← ((mvX00 (t := t) (j := 1) hpl hm (by decide)).trans (drq_12).symm)]; exact hk5) (by rw [← ((mvY00 (t := t) (j := 1) hpl hm (by decide)).trans (drq_13).symm)]; exact hk7) (by rw [← ((mvX00 (t := t) (j := 2) hpl hm (by decide)).trans (drq_17).symm)]; exact hk9) (by rw [← ((mvY00 (t := t) (j := 2) hpl hm (by decide)).trans (drq_18).symm)]; exact hk11), rfl⟩, by rw [← hV0, ← hF]; exact h⟩) dX3_drift_75
            · skip
              refine xCall.w (wr := [(o 2, .inl (0, 3, .inl (maF r))), (o 3, .inl (0, 3, .inl u10)), (o 4, .inl (0, 3, .inl u8)), (o 5, .inl (1, 3, .inr (.inl (moX r)))), (o 6, .inl (1, 3, .inr (.inl (moY r))))]) (r_cV hC kX3 (o 0) [.int (plY r 2), .long (r 20), .int (1 * (maF r 2)), .int 1] mVX3_moved q416 (fun _ h => ⟨_, h.get 0 rfl⟩) (fun V9 h9 => (metX3_moved0B _ _ hG o t r (plY r 2) (r 20) (1 * (maF r 2)) (dv1_n hm (by decide)) ht hk11) V9 (h9.in.sub [0, 1] rfl rfl)) ⟨rfl, rfl⟩ (Nat.le_of_ble_eq_true rfl) (Nat.le_of_ble_eq_true rfl) rfl (Nat.le_of_ble_eq_true rfl) dX3_drift_65) [0, 1] [2, 3, 4, 5, 6] rfl rfl rfl (by decide) 1 6 68 rfl rfl rfl (fun _ _ h => h.elim) (fun q16 w17 h18 => ?_)
              obtain rfl := h18
              show rx C (xSt F V0 [(o 2, .inl (0, 3, .inl (maF r))), (o 3, .inl (0, 3, .inl u10)), (o 4, .inl (0, 3, .inl u8)), (o 5, .inl (1, 3, .inr (.inl (moX r)))), (o 6, .inl (1, 3, .inr (.inl (moY r)))), (o 0, .inr (2, [.ref (o 1), .ref (o 2), .ref (o 3), .ref (o 4), .ref (o 5), .ref (o 6), .ref (o 7), .ref (o 8), .ref (o 9), .ref (o 10), .int ((r 0).toInt32)])), (o 1, .inl (0, 6, .inl (seF t r))), (q16, .inr (3, [.null, .null, .null, .null, .null, .int 0]))]) 1 6 65 [(3, .int 2), (0, .ref (o 0)), (1, .int 1), (2, .int 1)] [.int 2, .ref (o 4)] q16
              subst hu10
              subst hu8
              subst hu6
              subst hu4
              subst hu2
              exact rx_out hC hTab (fun _ h => by cases h) (Nat.le_of_ble_eq_true rfl) (Nat.le_of_ble_eq_true rfl) (fun V9 h => hX _ _ ⟨[(o 0, .inr (2, [.ref (o 1), .ref (o 2), .ref (o 3), .ref (o 4), .ref (o 5), .ref (o 6), .ref (o 7), .ref (o 8), .ref (o 9), .ref (o 10), .int ((r 0).toInt32)])), (o 1, .inl (0, 6, .inl (seF t r))), (o 2, .inl (0, 3, .inl (maF r))), (o 3, .inl (0, 3, .inl (va_up (va_up (va_up (plX r) 0 ((mvQ t (plX r 0) (r 9) (1 * (maF r 0)) 1).toInt32)) 1 ((mvQ t (plX r 1) (r 14) (1 * (maF r 1)) 1).toInt32)) 2 ((mvQ t (plX r 2) (r 19) (1 * (maF r 2)) 1).toInt32)))), (o 4, .inl (0, 3, .inl (va_up (va_up (plY r) 0 ((mvQ t (plY r 0) (r 10) (1 * (maF r 0)) 1).toInt32)) 1 ((mvQ t (plY r 1) (r 15) (1 * (maF r 1)) 1).toInt32)))), (o 5, .inl (1, 3, .inr (.inl (moX r)))), (o 6, .inl (1, 3, .inr (.inl (moY r)))), (q16, .inr (3, [.null, .null, .null, .null, .null, .int 0]))], ⟨in_f18 (by rw [← ((mvY00 (t := t) (j := 2) hpl hm (by decide)).trans (drq_18).symm)]; exact hk11), _, _, rfl⟩, by rw [← hV0, ← hF]; exact (h.sub [5, 6, 0, 1, 2, 3, 4, 7] rfl rfl)⟩)
          · skip
            refine xCall.w (wr := [(o 2, .inl (0, 3, .inl (maF r))), (o 3, .inl (0, 3, .inl u6)), (o 4, .inl (0, 3, .inl u8)), (o 5, .inl (1, 3, .inr (.inl (moX r)))), (o 6, .inl (1, 3, .inr (.inl (moY r))))]) (r_cV hC kX3 (o 0) [.int (plX r 2), .long (r 19), .int (1 * (maF r 2)), .int 1] mVX3_moved q416 (fun _ h => ⟨_, h.get 0 rfl⟩) (fun V9 h9 => (metX3_moved0B _ _ hG o t r (plX r 2) (r 19) (1 * (maF r 2)) (dv1_n hm (by decide)) ht hk9) V9 (h9.in.sub [0, 1] rfl rfl)) ⟨rfl, rfl⟩ (Nat.le_of_ble_eq_true rfl) (Nat.le_of_ble_eq_true rfl) rfl (Nat.le_of_ble_eq_true rfl) dX3_drift_34) [0, 1] [2, 3, 4, 5, 6] rfl rfl rfl (by decide) 1 6 37 rfl rfl rfl (fun _ _ h => h.elim) (fun q22 w23 h24 => ?_)
            obtain rfl := h24
            show rx C (xSt F V0 [(o 2, .inl (0, 3, .inl (maF r))), (o 3, .inl (0, 3, .inl u6)), (o 4, .inl (0, 3, .inl u8)), (o 5, .inl (1, 3, .inr (.inl (moX r)))), (o 6, .inl (1, 3, .inr (.inl (moY r)))), (o 0, .inr (2, [.ref (o 1), .ref (o 2), .ref (o 3), .ref (o 4), .ref (o 5), .ref (o 6), .ref (o 7), .ref (o 8), .ref (o 9), .ref (o 10), .int ((r 0).toInt32)])), (o 1, .inl (0, 6, .inl (seF t r))), (q22, .inr (3, [.null, .null, .null, .null, .null, .int 0]))]) 1 6 34 [(3, .int 2), (0, .ref (o 0)), (1, .int 1), (2, .int 1)] [.int 2, .ref (o 3)] q22
            subst hu8
            subst hu6
            subst hu4
            subst hu2
            exact rx_out hC hTab (fun _ h => by cases h) (Nat.le_of_ble_eq_true rfl) (Nat.le_of_ble_eq_true rfl) (fun V9 h => hX _ _ ⟨[(o 0, .inr (2, [.ref (o 1), .ref (o 2), .ref (o 3), .ref (o 4), .ref (o 5), .ref (o 6), .ref (o 7), .ref (o 8), .ref (o 9), .ref (o 10), .int ((r 0).toInt32)])), (o 1, .inl (0, 6, .inl (seF t r))), (o 2, .inl (0, 3, .inl (maF r))), (o 3, .inl (0, 3, .inl (va_up (va_up (plX r) 0 ((mvQ t (plX r 0) (r 9) (1 * (maF r 0)) 1).toInt32)) 1 ((mvQ t (plX r 1) (r 14) (1 * (maF r 1)) 1).toInt32)))), (o 4, .inl (0, 3, .inl (va_up (va_up (plY r) 0 ((mvQ t (plY r 0) (r 10) (1 * (maF r 0)) 1).toInt32)) 1 ((mvQ t (plY r 1) (r 15) (1 * (maF r 1)) 1).toInt32)))), (o 5, .inl (1, 3, .inr (.inl (moX r)))), (o 6, .inl (1, 3, .inr (.inl (moY r)))), (q22, .inr (3, [.null, .null, .null, .null, .null, .int 0]))], ⟨in_f17 (by rw [← ((mvX00 (t := t) (j := 2) hpl hm (by decide)).trans (drq_17).symm)]; exact hk9), _, _, rfl⟩, by rw [← hV0, ← hF]; exact (h.sub [5, 6, 0, 1, 2, 3, 4, 7] rfl rfl)⟩)
        · skip
          refine xCall.w (wr := [(o 2, .inl (0, 3, .inl (maF r))), (o 3, .inl (0, 3, .inl u6)), (o 4, .inl (0, 3, .inl u4)), (o 5, .inl (1, 3, .inr (.inl (moX r)))), (o 6, .inl (1, 3, .inr (.inl (moY r))))]) (r_cV hC kX3 (o 0) [.int (plY r 1), .long (r 15), .int (1 * (maF r 1)), .int 1] mVX3_moved q416 (fun _ h => ⟨_, h.get 0 rfl⟩) (fun V9 h9 => (metX3_moved0B _ _ hG o t r (plY r 1) (r 15) (1 * (maF r 1)) (dv1_n hm (by decide)) ht hk7) V9 (h9.in.sub [0, 1] rfl rfl)) ⟨rfl, rfl⟩ (Nat.le_of_ble_eq_true rfl) (Nat.le_of_ble_eq_true rfl) rfl (Nat.le_of_ble_eq_true rfl) dX3_drift_65) [0, 1] [2, 3, 4, 5, 6] rfl rfl rfl (by decide) 1 6 68 rfl rfl rfl (fun _ _ h => h.elim) (fun q28 w29 h30 => ?_)
          obtain rfl := h30
          show rx C (xSt F V0 [(o 2, .inl (0, 3, .inl (maF r))), (o 3, .inl (0, 3, .inl u6)), (o 4, .inl (0, 3, .inl u4)), (o 5, .inl (1, 3, .inr (.inl (moX r)))), (o 6, .inl (1, 3, .inr (.inl (moY r)))), (o 0, .inr (2, [.ref (o 1), .ref (o 2), .ref (o 3), .ref (o 4), .ref (o 5), .ref (o 6), .ref (o 7), .ref (o 8), .ref (o 9), .ref (o 10), .int ((r 0).toInt32)])), (o 1, .inl (0, 6, .inl (seF t r))), (q28, .inr (3, [.null, .null, .null, .null, .null, .int 0]))]) 1 6 65 [(3, .int 1), (0, .ref (o 0)), (1, .int 1), (2, .int 1)] [.int 1, .ref (o 4)] q28
          subst hu6
          subst hu4
          subst hu2
          exact rx_out hC hTab (fun _ h => by cases h) (Nat.le_of_ble_eq_true rfl) (Nat.le_of_ble_eq_true rfl) (fun V9 h => hX _ _ ⟨[(o 0, .inr (2, [.ref (o 1), .ref (o 2), .ref (o 3), .ref (o 4), .ref (o 5), .ref (o 6), .ref (o 7), .ref (o 8), .ref (o 9), .ref (o 10), .int ((r 0).toInt32)])), (o 1, .inl (0, 6, .inl (seF t r))), (o 2, .inl (0, 3, .inl (maF r))), (o 3, .inl (0, 3, .inl (va_up (va_up (plX r) 0 ((mvQ t (plX r 0) (r 9) (1 * (maF r 0)) 1).toInt32)) 1 ((mvQ t (plX r 1) (r 14) (1 * (maF r 1)) 1).toInt32)))), (o 4, .inl (0, 3, .inl (va_up (plY r) 0 ((mvQ t (plY r 0) (r 10) (1 * (maF r 0)) 1).toInt32)))), (o 5, .inl (1, 3, .inr (.inl (moX r)))), (o 6, .inl (1, 3, .inr (.inl (moY r)))), (q28, .inr (3, [.null, .null, .null, .null, .null, .int 0]))], ⟨in_f13 (by rw [← ((mvY00 (t := t) (j := 1) hpl hm (by decide)).trans (drq_13).symm)]; exact hk7), _, _, rfl⟩, by rw [← hV0, ← hF]; exact (h.sub [5, 6, 0, 1, 2, 3, 4, 7] rfl rfl)⟩)
      · skip
        refine xCall.w (wr := [(o 2, .inl (0, 3, .inl (maF r))), (o 3, .inl (0, 3, .inl u2)), (o 4, .inl (0, 3, .inl u4)), (o 5, .inl (1, 3, .inr (.inl (moX r)))), (o 6, .inl (1, 3, .inr (.inl (moY r))))]) (r_cV hC kX3 (o 0) [.int (plX r 1), .long (r 14), .int (1 * (maF r 1)), .int 1] mVX3_moved q416 (fun _ h => ⟨_, h.get 0 rfl⟩) (fun V9 h9 => (metX3_moved0B _ _ hG o t r (plX r 1) (r 14) (1 * (maF r 1)) (dv1_n hm (by decide)) ht hk5) V9 (h9.in.sub [0, 1] rfl rfl)) ⟨rfl, rfl⟩ (Nat.le_of_ble_eq_true rfl) (Nat.le_of_ble_eq_true rfl) rfl (Nat.le_of_ble_eq_true rfl) dX3_drift_34) [0, 1] [2, 3, 4, 5, 6] rfl rfl rfl (by decide) 1 6 37 rfl rfl rfl (fun _ _ h => h.elim) (fun q34 w35 h36 => ?_)
        obtain rfl := h36
        show rx C (xSt F V0 [(o 2, .inl (0, 3, .inl (maF r))), (o 3, .inl (0, 3, .inl u2)), (o 4, .inl (0, 3, .inl u4)), (o 5, .inl (1, 3, .inr (.inl (moX r)))), (o 6, .inl (1, 3, .inr (.inl (moY r)))), (o 0, .inr (2, [.ref (o 1), .ref (o 2), .ref (o 3), .ref (o 4), .ref (o 5), .ref (o 6), .ref (o 7), .ref (o 8), .ref (o 9), .ref (o 10), .int ((r 0).toInt32)])), (o 1, .inl (0, 6, .inl (seF t r))), (q34, .inr (3, [.null, .null, .null, .null, .null, .int 0]))]) 1 6 34 [(3, .int 1), (0, .ref (o 0)), (1, .int 1), (2, .int 1)] [.int 1, .ref (o 3)] q34
        subst hu4
        subst hu2
        exact rx_out hC hTab (fun _ h => by cases h) (Nat.le_of_ble_eq_true rfl) (Nat.le_of_ble_eq_true rfl) (fun V9 h => hX _ _ ⟨[(o 0, .inr (2, [.ref (o 1), .ref (o 2), .ref (o 3), .ref (o 4), .ref (o 5), .ref (o 6), .ref (o 7), .ref (o 8), .ref (o 9), .ref (o 10), .int ((r 0).toInt32)])), (o 1, .inl (0, 6, .inl (seF t r))), (o 2, .inl (0, 3, .inl (maF r))), (o 3, .inl (0, 3, .inl (va_up (plX r) 0 ((mvQ t (plX r 0) (r 9) (1 * (maF r 0)) 1).toInt32)))), (o 4, .inl (0, 3, .inl (va_up (plY r) 0 ((mvQ t (plY r 0) (r 10) (1 * (maF r 0)) 1).toInt32)))), (o 5, .inl (1, 3, .inr (.inl (moX r)))), (o 6, .inl (1, 3, .inr (.inl (moY r)))), (q34, .inr (3, [.null, .null, .null, .null, .null, .int 0]))], ⟨in_f12 (by rw [← ((mvX00 (t := t) (j := 1) hpl hm (by decide)).trans (drq_12).symm)]; exact hk5), _, _, rfl⟩, by rw [← hV0, ← hF]; exact (h.sub [5, 6, 0, 1, 2, 3, 4, 7] rfl rfl)⟩)
    · skip
      refine xCall.w (wr := [(o 2, .inl (0, 3, .inl (maF r))), (o 3, .inl (0, 3, .inl u2)), (o 4, .inl (0, 3, .inl (plY r))), (o 5, .inl (1, 3, .inr (.inl (moX r)))), (o 6, .inl (1, 3, .inr (.inl (moY r))))]) (r_cV hC kX3 (o 0) [.int (plY r 0), .long (r 10), .int (1 * (maF r 0)), .int 1] mVX3_moved q416 (fun _ h => ⟨_, h.get 0 rfl⟩) (fun V9 h9 => (metX3_moved0B _ _ hG o t r (plY r 0) (r 10) (1 * (maF r 0)) (dv1_n hm (by decide)) ht hk3) V9 (h9.in.sub [0, 1] rfl rfl)) ⟨rfl, rfl⟩ (Nat.le_of_ble_eq_true rfl) (Nat.le_of_ble_eq_true rfl) rfl (Nat.le_of_ble_eq_true rfl) dX3_drift_65) [0, 1] [2, 3, 4, 5, 6] rfl rfl rfl (by decide) 1 6 68 rfl rfl rfl (fun _ _ h => h.elim) (fun q40 w41 h42 => ?_)
      obtain rfl := h42
      show rx C (xSt F V0 [(o 2, .inl (0, 3, .inl (maF r))), (o 3, .inl (0, 3, .inl u2)), (o 4, .inl (0, 3, .inl (plY r))), (o 5, .inl (1, 3, .inr (.inl (moX r)))), (o 6, .inl (1, 3, .inr (.inl (moY r)))), (o 0, .inr (2, [.ref (o 1), .ref (o 2), .ref (o 3), .ref (o 4), .ref (o 5), .ref (o 6), .ref (o 7), .ref (o 8), .ref (o 9), .ref (o 10), .int ((r 0).toInt32)])), (o 1, .inl (0, 6, .inl (seF t r))), (q40, .inr (3, [.null, .null, .null, .null, .null, .int 0]))]) 1 6 65 [(3, .int 0), (0, .ref (o 0)), (1, .int 1), (2, .int 1)] [.int 0, .ref (o 4)] q40
      subst hu2
      exact rx_out hC hTab (fun _ h => by cases h) (Nat.le_of_ble_eq_true rfl) (Nat.le_of_ble_eq_true rfl) (fun V9 h => hX _ _ ⟨[(o 0, .inr (2, [.ref (o 1), .ref (o 2), .ref (o 3), .ref (o 4), .ref (o 5), .ref (o 6), .ref (o 7), .ref (o 8), .ref (o 9), .ref (o 10), .int ((r 0).toInt32)])), (o 1, .inl (0, 6, .inl (seF t r))), (o 2, .inl (0, 3, .inl (maF r))), (o 3, .inl (0, 3, .inl (va_up (plX r) 0 ((mvQ t (plX r 0) (r 9) (1 * (maF r 0)) 1).toInt32)))), (o 4, .inl (0, 3, .inl (plY r))), (o 5, .inl (1, 3, .inr (.inl (moX r)))), (o 6, .inl (1, 3, .inr (.inl (moY r)))), (q40, .inr (3, [.null, .null, .null, .null, .null, .int 0]))], ⟨in_f8 (by rw [← ((mvY00 (t := t) (j := 0) hpl hm (by decide)).trans (drq_8).symm)]; exact hk3), _, _, rfl⟩, by rw [← hV0, ← hF]; exact (h.sub [5, 6, 0, 1, 2, 3, 4, 7] rfl rfl)⟩)
  · skip
    refine xCall.w (wr := [(o 2, .inl (0, 3, .inl (maF r))), (o 3, .inl (0, 3, .inl (plX r))), (o 4, .inl (0, 3, .inl (plY r))), (o 5, .inl (1, 3, .inr (.inl (moX r)))), (o 6, .inl (1, 3, .inr (.inl (moY r))))]) (r_cV hC kX3 (o 0) [.int (plX r 0), .long (r 9), .int (1 * (maF r 0)), .int 1] mVX3_moved q416 (fun _ h => ⟨_, h.get 0 rfl⟩) (fun V9 h9 => (metX3_moved0B _ _ hG o t r (plX r 0) (r 9) (1 * (maF r 0)) (dv1_n hm (by decide)) ht hk1) V9 (h9.in.sub [0, 1] rfl rfl)) ⟨rfl, rfl⟩ (Nat.le_of_ble_eq_true rfl) (Nat.le_of_ble_eq_true rfl) rfl (Nat.le_of_ble_eq_true rfl) dX3_drift_34) [0, 1] [2, 3, 4, 5, 6] rfl rfl rfl (by decide) 1 6 37 rfl rfl rfl (fun _ _ h => h.elim) (fun q46 w47 h48 => ?_)
    obtain rfl := h48
    show rx C (xSt F V0 [(o 2, .inl (0, 3, .inl (maF r))), (o 3, .inl (0, 3, .inl (plX r))), (o 4, .inl (0, 3, .inl (plY r))), (o 5, .inl (1, 3, .inr (.inl (moX r)))), (o 6, .inl (1, 3, .inr (.inl (moY r)))), (o 0, .inr (2, [.ref (o 1), .ref (o 2), .ref (o 3), .ref (o 4), .ref (o 5), .ref (o 6), .ref (o 7), .ref (o 8), .ref (o 9), .ref (o 10), .int ((r 0).toInt32)])), (o 1, .inl (0, 6, .inl (seF t r))), (q46, .inr (3, [.null, .null, .null, .null, .null, .int 0]))]) 1 6 34 [(3, .int 0), (0, .ref (o 0)), (1, .int 1), (2, .int 1)] [.int 0, .ref (o 3)] q46
    exact rx_out hC hTab (fun _ h => by cases h) (Nat.le_of_ble_eq_true rfl) (Nat.le_of_ble_eq_true rfl) (fun V9 h => hX _ _ ⟨[(o 0, .inr (2, [.ref (o 1), .ref (o 2), .ref (o 3), .ref (o 4), .ref (o 5), .ref (o 6), .ref (o 7), .ref (o 8), .ref (o 9), .ref (o 10), .int ((r 0).toInt32)])), (o 1, .inl (0, 6, .inl (seF t r))), (o 2, .inl (0, 3, .inl (maF r))), (o 3, .inl (0, 3, .inl (plX r))), (o 4, .inl (0, 3, .inl (plY r))), (o 5, .inl (1, 3, .inr (.inl (moX r)))), (o 6, .inl (1, 3, .inr (.inl (moY r)))), (q46, .inr (3, [.null, .null, .null, .null, .null, .int 0]))], ⟨in_f7 (by rw [← ((mvX00 (t := t) (j := 0) hpl hm (by decide)).trans (drq_7).symm)]; exact hk1), _, _, rfl⟩, by rw [← hV0, ← hF]; exact (h.sub [5, 6, 0, 1, 2, 3, 4, 7] rfl rfl)⟩)
set_option maxHeartbeats 4000000 in
set_option maxRecDepth 100000 in
theorem metX3_drift00S (l : Launch) (G : xG) (hG : xGood G) (o : Nat → Nat) (t r : Nat → Int64) (hpl : plR r) (hmo : moR r) (ht : tOK t) (hm : mOK r) (hin : isInQ (driftQ t r false false) = true) : xWm l G yX3_drift (Cond.code yX3_drift cX3_drift 4 none) { frames := 3, locals := 75, cells := 0, slots := 0 } [.ref (o 0), .int 1, .int 1] [(o 0, .inr (2, [.ref (o 1), .ref (o 2), .ref (o 3), .ref (o 4), .ref (o 5), .ref (o 6), .ref (o 7), .ref (o 8), .ref (o 9), .ref (o 10), .int ((r 0).toInt32)])), (o 1, .inl (0, 6, .inl (seF t r))), (o 2, .inl (0, 3, .inl (maF r))), (o 3, .inl (0, 3, .inl (plX r))), (o 4, .inl (0, 3, .inl (plY r))), (o 5, .inl (1, 3, .inr (.inl (moX r)))), (o 6, .inl (1, 3, .inr (.inl (moY r))))] (fun v w' => v = none ∧ isInQ (driftQ t r false false) = true ∧ w' = [(o 0, .inr (2, [.ref (o 1), .ref (o 2), .ref (o 3), .ref (o 4), .ref (o 5), .ref (o 6), .ref (o 7), .ref (o 8), .ref (o 9), .ref (o 10), .int (((driftQ t r false false) 0).toInt32)])), (o 1, .inl (0, 6, .inl (seF t (driftQ t r false false)))), (o 2, .inl (0, 3, .inl (maF (driftQ t r false false)))), (o 3, .inl (0, 3, .inl (plX (driftQ t r false false)))), (o 4, .inl (0, 3, .inl (plY (driftQ t r false false)))), (o 5, .inl (1, 3, .inr (.inl (moX (driftQ t r false false))))), (o 6, .inl (1, 3, .inr (.inl (moY (driftQ t r false false)))))]) (fun _ _ => False) := by
  intro V hV
  refine xMet_ofT RX3 hG rfl (by decide) (Nat.le_of_ble_eq_true rfl) fun C hC hQ hX hl hg _ hTab => ?_
  subst hl hg
  obtain ⟨V0, hV0⟩ : ∃ V0, V0 = V := ⟨_, rfl⟩
  obtain ⟨F, hF⟩ : ∃ F, F = xF [(o 0, .inr (2, [.ref (o 1), .ref (o 2), .ref (o 3), .ref (o 4), .ref (o 5), .ref (o 6), .ref (o 7), .ref (o 8), .ref (o 9), .ref (o 10), .int ((r 0).toInt32)])), (o 1, .inl (0, 6, .inl (seF t r))), (o 2, .inl (0, 3, .inl (maF r))), (o 3, .inl (0, 3, .inl (plX r))), (o 4, .inl (0, 3, .inl (plY r))), (o 5, .inl (1, 3, .inr (.inl (moX r)))), (o 6, .inl (1, 3, .inr (.inl (moY r))))] := ⟨_, rfl⟩
  refine rn.mono (J := xSt F V0 [(o 0, .inr (2, [.ref (o 1), .ref (o 2), .ref (o 3), .ref (o 4), .ref (o 5), .ref (o 6), .ref (o 7), .ref (o 8), .ref (o 9), .ref (o 10), .int ((r 0).toInt32)])), (o 1, .inl (0, 6, .inl (seF t r))), (o 2, .inl (0, 3, .inl (maF r))), (o 3, .inl (0, 3, .inl (plX r))), (o 4, .inl (0, 3, .inl (plY r))), (o 5, .inl (1, 3, .inr (.inl (moX r)))), (o 6, .inl (1, 3, .inr (.inl (moY r))))]) (fun V9 h => by rw [h, hV0, hF]; exact hV.st) ?_
  show rn C (xSt F V0 [(o 0, .inr (2, [.ref (o 1), .ref (o 2), .ref (o 3), .ref (o 4), .ref (o 5), .ref (o 6), .ref (o 7), .ref (o 8), .ref (o 9), .ref (o 10), .int ((r 0).toInt32)])), (o 1, .inl (0, 6, .inl (seF t r))), (o 2, .inl (0, 3, .inl (maF r))), (o 3, .inl (0, 3, .inl (plX r))), (o 4, .inl (0, 3, .inl (plY r))), (o 5, .inl (1, 3, .inr (.inl (moX r)))), (o 6, .inl (1, 3, .inr (.inl (moY r))))]) 0 0 0 [(0, .ref (o 0)), (1, .int 1), (2, .int 1)] []
  refine r_iconst hC 0 dX3_drift_0 ic_0 1 rfl ?_
  refine r_istore_n hC 3 [(3, .int 0), (0, .ref (o 0)), (1, .int 1), (2, .int 1)] dX3_drift_1 rfl (Nat.le_of_ble_eq_true rfl) rfl 2 rfl ?_
  refine r_iload_n hC 0 dX3_drift_2 rfl 3 rfl ?_
  refine r_iconst hC 3 dX3_drift_3 ic_3 4 rfl ?_
  refine r_icge hC 75 dX3_drift_4 (by decide) 7 rfl (fun h => absurd h (by decide)) (fun _ => ?_)
  refine r_aload_n hC 1 dX3_drift_7 rfl 8 rfl ?_
  refine r_get (v := .ref (o 3)) hC kX3 2 rfl q180 (fun _ h => h.get 0 rfl) rfl dX3_drift_8 11 rfl ?_
  refine r_iload_n hC 0 dX3_drift_11 rfl 12 rfl ?_
  refine r_aload_n hC 1 dX3_drift_12 rfl 13 rfl ?_
  refine r_aload_n hC 1 dX3_drift_13 rfl 14 rfl ?_
  refine r_get (v := .ref (o 3)) hC kX3 2 rfl q180 (fun _ h => h.get 0 rfl) rfl dX3_drift_14 17 rfl ?_
  refine r_iload_n hC 0 dX3_drift_17 rfl 18 rfl ?_
  refine r_iald hC 0 (xix_n 0 (Nat.le_of_ble_eq_true rfl) (Nat.le_of_ble_eq_true rfl)) (fun _ h => h.get 3 rfl) (plX r 0) (rfl) dX3_drift_18 19 rfl ?_
  refine r_aload_n hC 1 dX3_drift_19 rfl 20 rfl ?_
  refine r_get (v := .ref (o 5)) hC kX3 4 rfl q188 (fun _ h => h.get 0 rfl) rfl dX3_drift_20 23 rfl ?_
  refine r_iload_n hC 0 dX3_drift_23 rfl 24 rfl ?_
  refine r_lald hC 0 (xix_n 0 (Nat.le_of_ble_eq_true rfl) (Nat.le_of_ble_eq_true rfl)) (fun _ h => h.get 5 rfl) (moX r 0) (rfl) dX3_drift_24 25 rfl ?_
  refine r_eql (y := r 9) (rfl) ?_
  refine r_iload_n hC 3 dX3_drift_25 rfl 26 rfl ?_
  refine r_aload_n hC 1 dX3_drift_26 rfl 27 rfl ?_
  refine r_get (v := .ref (o 2)) hC kX3 1 rfl q177 (fun _ h => h.get 0 rfl) rfl dX3_drift_27 30 rfl ?_
  refine r_iload_n hC 0 dX3_drift_30 rfl 31 rfl ?_
  refine r_iald hC 0 (xix_n 0 (Nat.le_of_ble_eq_true rfl) (Nat.le_of_ble_eq_true rfl)) (fun _ h => h.get 2 rfl) (maF r 0) (rfl) dX3_drift_31 32 rfl ?_
  refine r_imul hC (1 * (maF r 0)) dX3_drift_32  (rfl) 33 rfl ?_
  refine r_iload_n hC 2 dX3_drift_33 rfl 34 rfl ?_
  have hk1 : m_in (mvQ t (plX r 0) (r 9) (1 * (maF r 0)) 1) (-100000) 100000 = true := by rw [((mvX00 (t := t) (j := 0) hpl hm (by decide)).trans (drq_7).symm)]; exact in_y7 hin
  refine xCall.r (r := some (.int ((mvQ t (plX r 0) (r 9) (1 * (maF r 0)) 1).toInt32))) (r_cV hC kX3 (o 0) [.int (plX r 0), .long (r 9), .int (1 * (maF r 0)), .int 1] mVX3_moved q416 (fun _ h => ⟨_, h.get 0 rfl⟩) (fun V9 h9 => (metX3_moved0G _ _ hG o t r (plX r 0) (r 9) (1 * (maF r 0)) (dv1_n hm (by decide)) ht hk1) V9 (h9.in.sub [0, 1] rfl rfl)) ⟨rfl, rfl⟩ (Nat.le_of_ble_eq_true rfl) (Nat.le_of_ble_eq_true rfl) rfl (Nat.le_of_ble_eq_true rfl) dX3_drift_34) 0 0 37 rfl rfl rfl ?_
  refine r_iast (J := xSt F V0 [(o 0, .inr (2, [.ref (o 1), .ref (o 2), .ref (o 3), .ref (o 4), .ref (o 5), .ref (o 6), .ref (o 7), .ref (o 8), .ref (o 9), .ref (o 10), .int ((r 0).toInt32)])), (o 1, .inl (0, 6, .inl (seF t r))), (o 2, .inl (0, 3, .inl (maF r))), (o 3, .inl (0, 3, .inl (va_up (plX r) 0 ((mvQ t (plX r 0) (r 9) (1 * (maF r 0)) 1).toInt32)))), (o 4, .inl (0, 3, .inl (plY r))), (o 5, .inl (1, 3, .inr (.inl (moX r)))), (o 6, .inl (1, 3, .inr (.inl (moY r))))]) hC 0 (xix_n 0 (Nat.le_of_ble_eq_true rfl) (Nat.le_of_ble_eq_true rfl)) (fun _ h => h.get 3 rfl) dX3_drift_37 (fun _ h => h.set 3 _ rfl) 38 rfl ?_
  generalize hu2 : va_up (plX r) 0 ((mvQ t (plX r 0) (r 9) (1 * (maF r 0)) 1).toInt32) = u2
  refine r_aload_n hC 1 dX3_drift_38 rfl 39 rfl ?_
  refine r_get (v := .ref (o 4)) hC kX3 3 rfl q184 (fun _ h => h.get 0 rfl) rfl dX3_drift_39 42 rfl ?_
  refine r_iload_n hC 0 dX3_drift_42 rfl 43 rfl ?_
  refine r_aload_n hC 1 dX3_drift_43 rfl 44 rfl ?_
  refine r_aload_n hC 1 dX3_drift_44 rfl 45 rfl ?_
  refine r_get (v := .ref (o 4)) hC kX3 3 rfl q184 (fun _ h => h.get 0 rfl) rfl dX3_drift_45 48 rfl ?_
  refine r_iload_n hC 0 dX3_drift_48 rfl 49 rfl ?_
  refine r_iald hC 0 (xix_n 0 (Nat.le_of_ble_eq_true rfl) (Nat.le_of_ble_eq_true rfl)) (fun _ h => h.get 4 rfl) (plY r 0) (rfl) dX3_drift_49 50 rfl ?_
  refine r_aload_n hC 1 dX3_drift_50 rfl 51 rfl ?_
  refine r_get (v := .ref (o 6)) hC kX3 5 rfl q191 (fun _ h => h.get 0 rfl) rfl dX3_drift_51 54 rfl ?_
  refine r_iload_n hC 0 dX3_drift_54 rfl 55 rfl ?_
  refine r_lald hC 0 (xix_n 0 (Nat.le_of_ble_eq_true rfl) (Nat.le_of_ble_eq_true rfl)) (fun _ h => h.get 6 rfl) (moY r 0) (rfl) dX3_drift_55 56 rfl ?_
  refine r_eql (y := r 10) (rfl) ?_
  refine r_iload_n hC 3 dX3_drift_56 rfl 57 rfl ?_
  refine r_aload_n hC 1 dX3_drift_57 rfl 58 rfl ?_
  refine r_get (v := .ref (o 2)) hC kX3 1 rfl q177 (fun _ h => h.get 0 rfl) rfl dX3_drift_58 61 rfl ?_
  refine r_iload_n hC 0 dX3_drift_61 rfl 62 rfl ?_
  refine r_iald hC 0 (xix_n 0 (Nat.le_of_ble_eq_true rfl) (Nat.le_of_ble_eq_true rfl)) (fun _ h => h.get 2 rfl) (maF r 0) (rfl) dX3_drift_62 63 rfl ?_
  refine r_imul hC (1 * (maF r 0)) dX3_drift_63  (rfl) 64 rfl ?_
  refine r_iload_n hC 2 dX3_drift_64 rfl 65 rfl ?_
  have hk3 : m_in (mvQ t (plY r 0) (r 10) (1 * (maF r 0)) 1) (-100000) 100000 = true := by rw [((mvY00 (t := t) (j := 0) hpl hm (by decide)).trans (drq_8).symm)]; exact in_y8 hin
  refine xCall.r (r := some (.int ((mvQ t (plY r 0) (r 10) (1 * (maF r 0)) 1).toInt32))) (r_cV hC kX3 (o 0) [.int (plY r 0), .long (r 10), .int (1 * (maF r 0)), .int 1] mVX3_moved q416 (fun _ h => ⟨_, h.get 0 rfl⟩) (fun V9 h9 => (metX3_moved0G _ _ hG o t r (plY r 0) (r 10) (1 * (maF r 0)) (dv1_n hm (by decide)) ht hk3) V9 (h9.in.sub [0, 1] rfl rfl)) ⟨rfl, rfl⟩ (Nat.le_of_ble_eq_true rfl) (Nat.le_of_ble_eq_true rfl) rfl (Nat.le_of_ble_eq_true rfl) dX3_drift_65) 0 0 68 rfl rfl rfl ?_
  refine r_iast (J := xSt F V0 [(o 0, .inr (2, [.ref (o 1), .ref (o 2), .ref (o 3), .ref (o 4), .ref (o 5), .ref (o 6), .ref (o 7), .ref (o 8), .ref (o 9), .ref (o 10), .int ((r 0).toInt32)])), (o 1, .inl (0, 6, .inl (seF t r))), (o 2, .inl (0, 3, .inl (maF r))), (o 3, .inl (0, 3, .inl u2)), (o 4, .inl (0, 3, .inl (va_up (plY r) 0 ((mvQ t (plY r 0) (r 10) (1 * (maF r 0)) 1).toInt32)))), (o 5, .inl (1, 3, .inr (.inl (moX r)))), (o 6, .inl (1, 3, .inr (.inl (moY r))))]) hC 0 (xix_n 0 (Nat.le_of_ble_eq_true rfl) (Nat.le_of_ble_eq_true rfl)) (fun _ h => h.get 4 rfl) dX3_drift_68 (fun _ h => h.set 4 _ rfl) 69 rfl ?_
  generalize hu4 : va_up (plY r) 0 ((mvQ t (plY r 0) (r 10) (1 * (maF r 0)) 1).toInt32) = u4
  refine r_iinc hC 1 3 0 [(3, .int 1), (0, .ref (o 0)), (1, .int 1), (2, .int 1)] dX3_drift_69 rfl (by decide) (Nat.le_of_ble_eq_true rfl) rfl 72 rfl ?_
  refine r_goto hC 2 dX3_drift_72 (by decide) ?_
  refine r_iload_n hC 0 dX3_drift_2 rfl 3 rfl ?_
  refine r_iconst hC 3 dX3_drift_3 ic_3 4 rfl ?_
  refine r_icge hC 75 dX3_drift_4 (by decide) 7 rfl (fun h => absurd h (by decide)) (fun _ => ?_)
  refine r_aload_n hC 1 dX3_drift_7 rfl 8 rfl ?_
  refine r_get (v := .ref (o 3)) hC kX3 2 rfl q180 (fun _ h => h.get 0 rfl) rfl dX3_drift_8 11 rfl ?_
  refine r_iload_n hC 0 dX3_drift_11 rfl 12 rfl ?_
  refine r_aload_n hC 1 dX3_drift_12 rfl 13 rfl ?_
  refine r_aload_n hC 1 dX3_drift_13 rfl 14 rfl ?_
  refine r_get (v := .ref (o 3)) hC kX3 2 rfl q180 (fun _ h => h.get 0 rfl) rfl dX3_drift_14 17 rfl ?_
  refine r_iload_n hC 0 dX3_drift_17 rfl 18 rfl ?_
  refine r_iald hC 1 (xix_n 1 (Nat.le_of_ble_eq_true rfl) (Nat.le_of_ble_eq_true rfl)) (fun _ h => h.get 3 rfl) (plX r 1) (by rw [← hu2]; rfl) dX3_drift_18 19 rfl ?_
  refine r_aload_n hC 1 dX3_drift_19 rfl 20 rfl ?_
  refine r_get (v := .ref (o 5)) hC kX3 4 rfl q188 (fun _ h => h.get 0 rfl) rfl dX3_drift_20 23 rfl ?_
  refine r_iload_n hC 0 dX3_drift_23 rfl 24 rfl ?_
  refine r_lald hC 1 (xix_n 1 (Nat.le_of_ble_eq_true rfl) (Nat.le_of_ble_eq_true rfl)) (fun _ h => h.get 5 rfl) (moX r 1) (rfl) dX3_drift_24 25 rfl ?_
  refine r_eql (y := r 14) (rfl) ?_
  refine r_iload_n hC 3 dX3_drift_25 rfl 26 rfl ?_
  refine r_aload_n hC 1 dX3_drift_26 rfl 27 rfl ?_
  refine r_get (v := .ref (o 2)) hC kX3 1 rfl q177 (fun _ h => h.get 0 rfl) rfl dX3_drift_27 30 rfl ?_
  refine r_iload_n hC 0 dX3_drift_30 rfl 31 rfl ?_
  refine r_iald hC 1 (xix_n 1 (Nat.le_of_ble_eq_true rfl) (Nat.le_of_ble_eq_true rfl)) (fun _ h => h.get 2 rfl) (maF r 1) (rfl) dX3_drift_31 32 rfl ?_
  refine r_imul hC (1 * (maF r 1)) dX3_drift_32  (rfl) 33 rfl ?_
  refine r_iload_n hC 2 dX3_drift_33 rfl 34 rfl ?_
  have hk5 : m_in (mvQ t (plX r 1) (r 14) (1 * (maF r 1)) 1) (-100000) 100000 = true := by rw [((mvX00 (t := t) (j := 1) hpl hm (by decide)).trans (drq_12).symm)]; exact in_y12 hin
  refine xCall.r (r := some (.int ((mvQ t (plX r 1) (r 14) (1 * (maF r 1)) 1).toInt32))) (r_cV hC kX3 (o 0) [.int (plX r 1), .long (r 14), .int (1 * (maF r 1)), .int 1] mVX3_moved q416 (fun _ h => ⟨_, h.get 0 rfl⟩) (fun V9 h9 => (metX3_moved0G _ _ hG o t r (plX r 1) (r 14) (1 * (maF r 1)) (dv1_n hm (by decide)) ht hk5) V9 (h9.in.sub [0, 1] rfl rfl)) ⟨rfl, rfl⟩ (Nat.le_of_ble_eq_true rfl) (Nat.le_of_ble_eq_true rfl) rfl (Nat.le_of_ble_eq_true rfl) dX3_drift_34) 0 0 37 rfl rfl rfl ?_
  refine r_iast (J := xSt F V0 [(o 0, .inr (2, [.ref (o 1), .ref (o 2), .ref (o 3), .ref (o 4), .ref (o 5), .ref (o 6), .ref (o 7), .ref (o 8), .ref (o 9), .ref (o 10), .int ((r 0).toInt32)])), (o 1, .inl (0, 6, .inl (seF t r))), (o 2, .inl (0, 3, .inl (maF r))), (o 3, .inl (0, 3, .inl (va_up u2 1 ((mvQ t (plX r 1) (r 14) (1 * (maF r 1)) 1).toInt32)))), (o 4, .inl (0, 3, .inl u4)), (o 5, .inl (1, 3, .inr (.inl (moX r)))), (o 6, .inl (1, 3, .inr (.inl (moY r))))]) hC 1 (xix_n 1 (Nat.le_of_ble_eq_true rfl) (Nat.le_of_ble_eq_true rfl)) (fun _ h => h.get 3 rfl) dX3_drift_37 (fun _ h => h.set 3 _ rfl) 38 rfl ?_
  generalize hu6 : va_up u2 1 ((mvQ t (plX r 1) (r 14) (1 * (maF r 1)) 1).toInt32) = u6
  refine r_aload_n hC 1 dX3_drift_38 rfl 39 rfl ?_
  refine r_get (v := .ref (o 4)) hC kX3 3 rfl q184 (fun _ h => h.get 0 rfl) rfl dX3_drift_39 42 rfl ?_
  refine r_iload_n hC 0 dX3_drift_42 rfl 43 rfl ?_
  refine r_aload_n hC 1 dX3_drift_43 rfl 44 rfl ?_
  refine r_aload_n hC 1 dX3_drift_44 rfl 45 rfl ?_
  refine r_get (v := .ref (o 4)) hC kX3 3 rfl q184 (fun _ h => h.get 0 rfl) rfl dX3_drift_45 48 rfl ?_
  refine r_iload_n hC 0 dX3_drift_48 rfl 49 rfl ?_
  refine r_iald hC 1 (xix_n 1 (Nat.le_of_ble_eq_true rfl) (Nat.le_of_ble_eq_true rfl)) (fun _ h => h.get 4 rfl) (plY r 1) (by rw [← hu4]; rfl) dX3_drift_49 50 rfl ?_
  refine r_aload_n hC 1 dX3_drift_50 rfl 51 rfl ?_
  refine r_get (v := .ref (o 6)) hC kX3 5 rfl q191 (fun _ h => h.get 0 rfl) rfl dX3_drift_51 54 rfl ?_
  refine r_iload_n hC 0 dX3_drift_54 rfl 55 rfl ?_
  refine r_lald hC 1 (xix_n 1 (Nat.le_of_ble_eq_true rfl) (Nat.le_of_ble_eq_true rfl)) (fun _ h => h.get 6 rfl) (moY r 1) (rfl) dX3_drift_55 56 rfl ?_
  refine r_eql (y := r 15) (rfl) ?_
  refine r_iload_n hC 3 dX3_drift_56 rfl 57 rfl ?_
  refine r_aload_n hC 1 dX3_drift_57 rfl 58 rfl ?_
  refine r_get (v := .ref (o 2)) hC kX3 1 rfl q177 (fun _ h => h.get 0 rfl) rfl dX3_drift_58 61 rfl ?_
  refine r_iload_n hC 0 dX3_drift_61 rfl 62 rfl ?_
  refine r_iald hC 1 (xix_n 1 (Nat.le_of_ble_eq_true rfl) (Nat.le_of_ble_eq_true rfl)) (fun _ h => h.get 2 rfl) (maF r 1) (rfl) dX3_drift_62 63 rfl ?_
  refine r_imul hC (1 * (maF r 1)) dX3_drift_63  (rfl) 64 rfl ?_
  refine r_iload_n hC 2 dX3_drift_64 rfl 65 rfl ?_
  have hk7 : m_in (mvQ t (plY r 1) (r 15) (1 * (maF r 1)) 1) (-100000) 100000 = true := by rw [((mvY00 (t := t) (j := 1) hpl hm (by decide)).trans (drq_13).symm)]; exact in_y13 hin
  refine xCall.r (r := some (.int ((mvQ t (plY r 1) (r 15) (1 * (maF r 1)) 1).toInt32))) (r_cV hC kX3 (o 0) [.int (plY r 1), .long (r 15), .int (1 * (maF r 1)), .int 1] mVX3_moved q416 (fun _ h => ⟨_, h.get 0 rfl⟩) (fun V9 h9 => (metX3_moved0G _ _ hG o t r (plY r 1) (r 15) (1 * (maF r 1)) (dv1_n hm (by decide)) ht hk7) V9 (h9.in.sub [0, 1] rfl rfl)) ⟨rfl, rfl⟩ (Nat.le_of_ble_eq_true rfl) (Nat.le_of_ble_eq_true rfl) rfl (Nat.le_of_ble_eq_true rfl) dX3_drift_65) 0 0 68 rfl rfl rfl ?_
  refine r_iast (J := xSt F V0 [(o 0, .inr (2, [.ref (o 1), .ref (o 2), .ref (o 3), .ref (o 4), .ref (o 5), .ref (o 6), .ref (o 7), .ref (o 8), .ref (o 9), .ref (o 10), .int ((r 0).toInt32)])), (o 1, .inl (0, 6, .inl (seF t r))), (o 2, .inl (0, 3, .inl (maF r))), (o 3, .inl (0, 3, .inl u6)), (o 4, .inl (0, 3, .inl (va_up u4 1 ((mvQ t (plY r 1) (r 15) (1 * (maF r 1)) 1).toInt32)))), (o 5, .inl (1, 3, .inr (.inl (moX r)))), (o 6, .inl (1, 3, .inr (.inl (moY r))))]) hC 1 (xix_n 1 (Nat.le_of_ble_eq_true rfl) (Nat.le_of_ble_eq_true rfl)) (fun _ h => h.get 4 rfl) dX3_drift_68 (fun _ h => h.set 4 _ rfl) 69 rfl ?_
  generalize hu8 : va_up u4 1 ((mvQ t (plY r 1) (r 15) (1 * (maF r 1)) 1).toInt32) = u8
  refine r_iinc hC 2 3 0 [(3, .int 2), (0, .ref (o 0)), (1, .int 1), (2, .int 1)] dX3_drift_69 rfl (by decide) (Nat.le_of_ble_eq_true rfl) rfl 72 rfl ?_
  refine r_goto hC 2 dX3_drift_72 (by decide) ?_
  refine r_iload_n hC 0 dX3_drift_2 rfl 3 rfl ?_
  refine r_iconst hC 3 dX3_drift_3 ic_3 4 rfl ?_
  refine r_icge hC 75 dX3_drift_4 (by decide) 7 rfl (fun h => absurd h (by decide)) (fun _ => ?_)
  refine r_aload_n hC 1 dX3_drift_7 rfl 8 rfl ?_
  refine r_get (v := .ref (o 3)) hC kX3 2 rfl q180 (fun _ h => h.get 0 rfl) rfl dX3_drift_8 11 rfl ?_
  refine r_iload_n hC 0 dX3_drift_11 rfl 12 rfl ?_
  refine r_aload_n hC 1 dX3_drift_12 rfl 13 rfl ?_
  refine r_aload_n hC 1 dX3_drift_13 rfl 14 rfl ?_
  refine r_get (v := .ref (o 3)) hC kX3 2 rfl q180 (fun _ h => h.get 0 rfl) rfl dX3_drift_14 17 rfl ?_
  refine r_iload_n hC 0 dX3_drift_17 rfl 18 rfl ?_
  refine r_iald hC 2 (xix_n 2 (Nat.le_of_ble_eq_true rfl) (Nat.le_of_ble_eq_true rfl)) (fun _ h => h.get 3 rfl) (plX r 2) (by rw [← hu6, ← hu2]; rfl) dX3_drift_18 19 rfl ?_
  refine r_aload_n hC 1 dX3_drift_19 rfl 20 rfl ?_
  refine r_get (v := .ref (o 5)) hC kX3 4 rfl q188 (fun _ h => h.get 0 rfl) rfl dX3_drift_20 23 rfl ?_
  refine r_iload_n hC 0 dX3_drift_23 rfl 24 rfl ?_
  refine r_lald hC 2 (xix_n 2 (Nat.le_of_ble_eq_true rfl) (Nat.le_of_ble_eq_true rfl)) (fun _ h => h.get 5 rfl) (moX r 2) (rfl) dX3_drift_24 25 rfl ?_
  refine r_eql (y := r 19) (rfl) ?_
  refine r_iload_n hC 3 dX3_drift_25 rfl 26 rfl ?_
  refine r_aload_n hC 1 dX3_drift_26 rfl 27 rfl ?_
  refine r_get (v := .ref (o 2)) hC kX3 1 rfl q177 (fun _ h => h.get 0 rfl) rfl dX3_drift_27 30 rfl ?_
  refine r_iload_n hC 0 dX3_drift_30 rfl 31 rfl ?_
  refine r_iald hC 2 (xix_n 2 (Nat.le_of_ble_eq_true rfl) (Nat.le_of_ble_eq_true rfl)) (fun _ h => h.get 2 rfl) (maF r 2) (rfl) dX3_drift_31 32 rfl ?_
  refine r_imul hC (1 * (maF r 2)) dX3_drift_32  (rfl) 33 rfl ?_
  refine r_iload_n hC 2 dX3_drift_33 rfl 34 rfl ?_
  have hk9 : m_in (mvQ t (plX r 2) (r 19) (1 * (maF r 2)) 1) (-100000) 100000 = true := by rw [((mvX00 (t := t) (j := 2) hpl hm (by decide)).trans (drq_17).symm)]; exact in_y17 hin
  refine xCall.r (r := some (.int ((mvQ t (plX r 2) (r 19) (1 * (maF r 2)) 1).toInt32))) (r_cV hC kX3 (o 0) [.int (plX r 2), .long (r 19), .int (1 * (maF r 2)), .int 1] mVX3_moved q416 (fun _ h => ⟨_, h.get 0 rfl⟩) (fun V9 h9 => (metX3_moved0G _ _ hG o t r (plX r 2) (r 19) (1 * (maF r 2)) (dv1_n hm (by decide)) ht hk9) V9 (h9.in.sub [0, 1] rfl rfl)) ⟨rfl, rfl⟩ (Nat.le_of_ble_eq_true rfl) (Nat.le_of_ble_eq_true rfl) rfl (Nat.le_of_ble_eq_true rfl) dX3_drift_34) 0 0 37 rfl rfl rfl ?_
  refine r_iast (J := xSt F V0 [(o 0, .inr (2, [.ref (o 1), .ref (o 2), .ref (o 3), .ref (o 4), .ref (o 5), .ref (o 6), .ref (o 7), .ref (o 8), .ref (o 9), .ref (o 10), .int ((r 0).toInt32)])), (o 1, .inl (0, 6, .inl (seF t r))), (o 2, .inl (0, 3, .inl (maF r))), (o 3, .inl (0, 3, .inl (va_up u6 2 ((mvQ t (plX r 2) (r 19) (1 * (maF r 2)) 1).toInt32)))), (o 4, .inl (0, 3, .inl u8)), (o 5, .inl (1, 3, .inr (.inl (moX r)))), (o 6, .inl (1, 3, .inr (.inl (moY r))))]) hC 2 (xix_n 2 (Nat.le_of_ble_eq_true rfl) (Nat.le_of_ble_eq_true rfl)) (fun _ h => h.get 3 rfl) dX3_drift_37 (fun _ h => h.set 3 _ rfl) 38 rfl ?_
  generalize hu10 : va_up u6 2 ((mvQ t (plX r 2) (r 19) (1 * (maF r 2)) 1).toInt32) = u10
  refine r_aload_n hC 1 dX3_drift_38 rfl 39 rfl ?_
  refine r_get (v := .ref (o 4)) hC kX3 3 rfl q184 (fun _ h => h.get 0 rfl) rfl dX3_drift_39 42 rfl ?_
  refine r_iload_n hC 0 dX3_drift_42 rfl 43 rfl ?_
  refine r_aload_n hC 1 dX3_drift_43 rfl 44 rfl ?_
  refine r_aload_n hC 1 dX3_drift_44 rfl 45 rfl ?_
  refine r_get (v := .ref (o 4)) hC kX3 3 rfl q184 (fun _ h => h.get 0 rfl) rfl dX3_drift_45 48 rfl ?_
  refine r_iload_n hC 0 dX3_drift_48 rfl 49 rfl ?_
  refine r_iald hC 2 (xix_n 2 (Nat.le_of_ble_eq_true rfl) (Nat.le_of_ble_eq_true rfl)) (fun _ h => h.get 4 rfl) (plY r 2) (by rw [← hu8, ← hu4]; rfl) dX3_drift_49 50 rfl ?_
  refine r_aload_n hC 1 dX3_drift_50 rfl 51 rfl ?_
  refine r_get (v := .ref (o 6)) hC kX3 5 rfl q191 (fun _ h => h.get 0 rfl) rfl dX3_drift_51 54 rfl ?_
  refine r_iload_n hC 0 dX3_drift_54 rfl 55 rfl ?_
  refine r_lald hC 2 (xix_n 2 (Nat.le_of_ble_eq_true rfl) (Nat.le_of_ble_eq_true rfl)) (fun _ h => h.get 6 rfl) (moY r 2) (rfl) dX3_drift_55 56 rfl ?_
  refine r_eql (y := r 20) (rfl) ?_
  refine r_iload_n hC 3 dX3_drift_56 rfl 57 rfl ?_
  refine r_aload_n hC 1 dX3_drift_57 rfl 58 rfl ?_
  refine r_get (v := .ref (o 2)) hC kX3 1 rfl q177 (fun _ h => h.get 0 rfl) rfl dX3_drift_58 61 rfl ?_
  refine r_iload_n hC 0 dX3_drift_61 rfl 62 rfl ?_
  refine r_iald hC 2 (xix_n 2 (Nat.le_of_ble_eq_true rfl) (Nat.le_of_ble_eq_true rfl)) (fun _ h => h.get 2 rfl) (maF r 2) (rfl) dX3_drift_62 63 rfl ?_
  refine r_imul hC (1 * (maF r 2)) dX3_drift_63  (rfl) 64 rfl ?_
  refine r_iload_n hC 2 dX3_drift_64 rfl 65 rfl ?_
  have hk11 : m_in (mvQ t (plY r 2) (r 20) (1 * (maF r 2)) 1) (-100000) 100000 = true := by rw [((mvY00 (t := t) (j := 2) hpl hm (by decide)).trans (drq_18).symm)]; exact in_y18 hin
  refine xCall.r (r := some (.int ((mvQ t (plY r 2) (r 20) (1 * (maF r 2)) 1).toInt32))) (r_cV hC kX3 (o 0) [.int (plY r 2), .long (r 20), .int (1 * (maF r 2)), .int 1] mVX3_moved q416 (fun _ h => ⟨_, h.get 0 rfl⟩) (fun V9 h9 => (metX3_moved0G _ _ hG o t r (plY r 2) (r 20) (1 * (maF r 2)) (dv1_n hm (by decide)) ht hk11) V9 (h9.in.sub [0, 1] rfl rfl)) ⟨rfl, rfl⟩ (Nat.le_of_ble_eq_true rfl) (Nat.le_of_ble_eq_true rfl) rfl (Nat.le_of_ble_eq_true rfl) dX3_drift_65) 0 0 68 rfl rfl rfl ?_
  refine r_iast (J := xSt F V0 [(o 0, .inr (2, [.ref (o 1), .ref (o 2), .ref (o 3), .ref (o 4), .ref (o 5), .ref (o 6), .ref (o 7), .ref (o 8), .ref (o 9), .ref (o 10), .int ((r 0).toInt32)])), (o 1, .inl (0, 6, .inl (seF t r))), (o 2, .inl (0, 3, .inl (maF r))), (o 3, .inl (0, 3, .inl u10)), (o 4, .inl (0, 3, .inl (va_up u8 2 ((mvQ t (plY r 2) (r 20) (1 * (maF r 2)) 1).toInt32)))), (o 5, .inl (1, 3, .inr (.inl (moX r)))), (o 6, .inl (1, 3, .inr (.inl (moY r))))]) hC 2 (xix_n 2 (Nat.le_of_ble_eq_true rfl) (Nat.le_of_ble_eq_true rfl)) (fun _ h => h.get 4 rfl) dX3_drift_68 (fun _ h => h.set 4 _ rfl) 69 rfl ?_
  generalize hu12 : va_up u8 2 ((mvQ t (plY r 2) (r 20) (1 * (maF r 2)) 1).toInt32) = u12
  refine r_iinc hC 3 3 0 [(3, .int 3), (0, .ref (o 0)), (1, .int 1), (2, .int 1)] dX3_drift_69 rfl (by decide) (Nat.le_of_ble_eq_true rfl) rfl 72 rfl ?_
  refine r_goto hC 2 dX3_drift_72 (by decide) ?_
  refine r_iload_n hC 0 dX3_drift_2 rfl 3 rfl ?_
  refine r_iconst hC 3 dX3_drift_3 ic_3 4 rfl ?_
  refine r_icge hC 75 dX3_drift_4 (by decide) 7 rfl (fun _ => ?_) (fun h => absurd h (by decide))
  subst hu12
  subst hu10
  subst hu8
  subst hu6
  subst hu4
  subst hu2
  refine rn_cellI (J := xSt F V0 [(o 0, .inr (2, [.ref (o 1), .ref (o 2), .ref (o 3), .ref (o 4), .ref (o 5), .ref (o 6), .ref (o 7), .ref (o 8), .ref (o 9), .ref (o 10), .int ((r 0).toInt32)])), (o 1, .inl (0, 6, .inl (seF t r))), (o 2, .inl (0, 3, .inl (maF (driftQ t r false false)))), (o 3, .inl (0, 3, .inl (va_up (va_up (va_up (plX r) 0 ((mvQ t (plX r 0) (r 9) (1 * (maF r 0)) 1).toInt32)) 1 ((mvQ t (plX r 1) (r 14) (1 * (maF r 1)) 1).toInt32)) 2 ((mvQ t (plX r 2) (r 19) (1 * (maF r 2)) 1).toInt32)))), (o 4, .inl (0, 3, .inl (va_up (va_up (va_up (plY r) 0 ((mvQ t (plY r 0) (r 10) (1 * (maF r 0)) 1).toInt32)) 1 ((mvQ t (plY r 1) (r 15) (1 * (maF r 1)) 1).toInt32)) 2 ((mvQ t (plY r 2) (r 20) (1 * (maF r 2)) 1).toInt32)))), (o 5, .inl (1, 3, .inr (.inl (moX r)))), (o 6, .inl (1, 3, .inr (.inl (moY r))))]) (fun _ h => h.get 2 rfl) (fun j9 hj9 => by
      rcases (show j9 = 0 ∨ j9 = 1 ∨ j9 = 2 by omega) with rfl | rfl | rfl
      · exact congrArg Int64.toInt32 (drq_6).symm
      · exact congrArg Int64.toInt32 (drq_11).symm
      · exact congrArg Int64.toInt32 (drq_16).symm) (fun _ h => h.set 2 _ rfl) ?_
  refine rn_cellI (J := xSt F V0 [(o 0, .inr (2, [.ref (o 1), .ref (o 2), .ref (o 3), .ref (o 4), .ref (o 5), .ref (o 6), .ref (o 7), .ref (o 8), .ref (o 9), .ref (o 10), .int ((r 0).toInt32)])), (o 1, .inl (0, 6, .inl (seF t r))), (o 2, .inl (0, 3, .inl (maF (driftQ t r false false)))), (o 3, .inl (0, 3, .inl (plX (driftQ t r false false)))), (o 4, .inl (0, 3, .inl (va_up (va_up (va_up (plY r) 0 ((mvQ t (plY r 0) (r 10) (1 * (maF r 0)) 1).toInt32)) 1 ((mvQ t (plY r 1) (r 15) (1 * (maF r 1)) 1).toInt32)) 2 ((mvQ t (plY r 2) (r 20) (1 * (maF r 2)) 1).toInt32)))), (o 5, .inl (1, 3, .inr (.inl (moX r)))), (o 6, .inl (1, 3, .inr (.inl (moY r))))]) (fun _ h => h.get 3 rfl) (fun j9 hj9 => by
      rcases (show j9 = 0 ∨ j9 = 1 ∨ j9 = 2 by omega) with rfl | rfl | rfl
      · exact ((up_ne (by decide)).trans ((up_ne (by decide)).trans (up_same _ _ _))).trans (congrArg Int64.toInt32 ((mvX00 (t := t) (j := 0) hpl hm (by decide)).trans (drq_7).symm))
      · exact ((up_ne (by decide)).trans (up_same _ _ _)).trans (congrArg Int64.toInt32 ((mvX00 (t := t) (j := 1) hpl hm (by decide)).trans (drq_12).symm))
      · exact (up_same _ _ _).trans (congrArg Int64.toInt32 ((mvX00 (t := t) (j := 2) hpl hm (by decide)).trans (drq_17).symm))) (fun _ h => h.set 3 _ rfl) ?_
  refine rn_cellI (J := xSt F V0 [(o 0, .inr (2, [.ref (o 1), .ref (o 2), .ref (o 3), .ref (o 4), .ref (o 5), .ref (o 6), .ref (o 7), .ref (o 8), .ref (o 9), .ref (o 10), .int ((r 0).toInt32)])), (o 1, .inl (0, 6, .inl (seF t r))), (o 2, .inl (0, 3, .inl (maF (driftQ t r false false)))), (o 3, .inl (0, 3, .inl (plX (driftQ t r false false)))), (o 4, .inl (0, 3, .inl (plY (driftQ t r false false)))), (o 5, .inl (1, 3, .inr (.inl (moX r)))), (o 6, .inl (1, 3, .inr (.inl (moY r))))]) (fun _ h => h.get 4 rfl) (fun j9 hj9 => by
      rcases (show j9 = 0 ∨ j9 = 1 ∨ j9 = 2 by omega) with rfl | rfl | rfl
      · exact ((up_ne (by decide)).trans ((up_ne (by decide)).trans (up_same _ _ _))).trans (congrArg Int64.toInt32 ((mvY00 (t := t) (j := 0) hpl hm (by decide)).trans (drq_8).symm))
      · exact ((up_ne (by decide)).trans (up_same _ _ _)).trans (congrArg Int64.toInt32 ((mvY00 (t := t) (j := 1) hpl hm (by decide)).trans (drq_13).symm))
      · exact (up_same _ _ _).trans (congrArg Int64.toInt32 ((mvY00 (t := t) (j := 2) hpl hm (by decide)).trans (drq_18).symm))) (fun _ h => h.set 4 _ rfl) ?_
  refine rn_cellJ (J := xSt F V0 [(o 0, .inr (2, [.ref (o 1), .ref (o 2), .ref (o 3), .ref (o 4), .ref (o 5), .ref (o 6), .ref (o 7), .ref (o 8), .ref (o 9), .ref (o 10), .int ((r 0).toInt32)])), (o 1, .inl (0, 6, .inl (seF t r))), (o 2, .inl (0, 3, .inl (maF (driftQ t r false false)))), (o 3, .inl (0, 3, .inl (plX (driftQ t r false false)))), (o 4, .inl (0, 3, .inl (plY (driftQ t r false false)))), (o 5, .inl (1, 3, .inr (.inl (moX (driftQ t r false false))))), (o 6, .inl (1, 3, .inr (.inl (moY r))))]) (fun _ h => h.get 5 rfl) (fun j9 hj9 => by
      rcases (show j9 = 0 ∨ j9 = 1 ∨ j9 = 2 by omega) with rfl | rfl | rfl
      · exact (drq_9).symm
      · exact (drq_14).symm
      · exact (drq_19).symm) (fun _ h => h.set 5 _ rfl) ?_
  refine rn_cellJ (J := xSt F V0 [(o 0, .inr (2, [.ref (o 1), .ref (o 2), .ref (o 3), .ref (o 4), .ref (o 5), .ref (o 6), .ref (o 7), .ref (o 8), .ref (o 9), .ref (o 10), .int ((r 0).toInt32)])), (o 1, .inl (0, 6, .inl (seF t r))), (o 2, .inl (0, 3, .inl (maF (driftQ t r false false)))), (o 3, .inl (0, 3, .inl (plX (driftQ t r false false)))), (o 4, .inl (0, 3, .inl (plY (driftQ t r false false)))), (o 5, .inl (1, 3, .inr (.inl (moX (driftQ t r false false))))), (o 6, .inl (1, 3, .inr (.inl (moY (driftQ t r false false)))))]) (fun _ h => h.get 6 rfl) (fun j9 hj9 => by
      rcases (show j9 = 0 ∨ j9 = 1 ∨ j9 = 2 by omega) with rfl | rfl | rfl
      · exact (drq_10).symm
      · exact (drq_15).symm
      · exact (drq_20).symm) (fun _ h => h.set 6 _ rfl) ?_
  exact r_vret hC (Nat.le_of_ble_eq_true rfl) (Nat.le_of_ble_eq_true rfl) (fun V9 h => hQ _ _ ⟨[(o 0, .inr (2, [.ref (o 1), .ref (o 2), .ref (o 3), .ref (o 4), .ref (o 5), .ref (o 6), .ref (o 7), .ref (o 8), .ref (o 9), .ref (o 10), .int (((driftQ t r false false) 0).toInt32)])), (o 1, .inl (0, 6, .inl (seF t (driftQ t r false false)))), (o 2, .inl (0, 3, .inl (maF (driftQ t r false false)))), (o 3, .inl (0, 3, .inl (plX (driftQ t r false false)))), (o 4, .inl (0, 3, .inl (plY (driftQ t r false false)))), (o 5, .inl (1, 3, .inr (.inl (moX (driftQ t r false false))))), (o 6, .inl (1, 3, .inr (.inl (moY (driftQ t r false false)))))], ⟨rfl, in_t2 (moR_drift hmo) (by rw [← ((mvX00 (t := t) (j := 0) hpl hm (by decide)).trans (drq_7).symm)]; exact hk1) (by rw [← ((mvY00 (t := t) (j := 0) hpl hm (by decide)).trans (drq_8).symm)]; exact hk3) (by rw [← ((mvX00 (t := t) (j := 1) hpl hm (by decide)).trans (drq_12).symm)]; exact hk5) (by rw [← ((mvY00 (t := t) (j := 1) hpl hm (by decide)).trans (drq_13).symm)]; exact hk7) (by rw [← ((mvX00 (t := t) (j := 2) hpl hm (by decide)).trans (drq_17).symm)]; exact hk9) (by rw [← ((mvY00 (t := t) (j := 2) hpl hm (by decide)).trans (drq_18).symm)]; exact hk11), rfl⟩, by rw [← hV0, ← hF]; exact h⟩) dX3_drift_75
set_option maxHeartbeats 4000000 in
set_option maxRecDepth 100000 in
theorem metX3_drift01 (l : Launch) (G : xG) (hG : xGood G) (o : Nat → Nat) (t r : Nat → Int64) (hpl : plR r) (hmo : moR r) (ht : tOK t) (hm : mOK r) : xWm l G yX3_drift (Cond.code yX3_drift cX3_drift 4 none) { frames := 6, locals := 138, cells := 1, slots := 6 } [.ref (o 0), .int (-1), .int 1] [(o 0, .inr (2, [.ref (o 1), .ref (o 2), .ref (o 3), .ref (o 4), .ref (o 5), .ref (o 6), .ref (o 7), .ref (o 8), .ref (o 9), .ref (o 10), .int ((r 0).toInt32)])), (o 1, .inl (0, 6, .inl (seF t r))), (o 2, .inl (0, 3, .inl (maF r))), (o 3, .inl (0, 3, .inl (plX r))), (o 4, .inl (0, 3, .inl (plY r))), (o 5, .inl (1, 3, .inr (.inl (moX r)))), (o 6, .inl (1, 3, .inr (.inl (moY r))))] (fun v w' => v = none ∧ isInQ (driftQ t r false true) = true ∧ w' = [(o 0, .inr (2, [.ref (o 1), .ref (o 2), .ref (o 3), .ref (o 4), .ref (o 5), .ref (o 6), .ref (o 7), .ref (o 8), .ref (o 9), .ref (o 10), .int (((driftQ t r false true) 0).toInt32)])), (o 1, .inl (0, 6, .inl (seF t (driftQ t r false true)))), (o 2, .inl (0, 3, .inl (maF (driftQ t r false true)))), (o 3, .inl (0, 3, .inl (plX (driftQ t r false true)))), (o 4, .inl (0, 3, .inl (plY (driftQ t r false true)))), (o 5, .inl (1, 3, .inr (.inl (moX (driftQ t r false true))))), (o 6, .inl (1, 3, .inr (.inl (moY (driftQ t r false true)))))]) (fun q w' => isInQ (driftQ t r false true) = false ∧ ∃ x' y' : Nat → Int32, w' = [(o 0, .inr (2, [.ref (o 1), .ref (o 2), .ref (o 3), .ref (o 4), .ref (o 5), .ref (o 6), .ref (o 7), .ref (o 8), .ref (o 9), .ref (o 10), .int ((r 0).toInt32)])), (o 1, .inl (0, 6, .inl (seF t r))), (o 2, .inl (0, 3, .inl (maF r))), (o 3, .inl (0, 3, .inl x')), (o 4, .inl (0, 3, .inl y')), (o 5, .inl (1, 3, .inr (.inl (moX r)))), (o 6, .inl (1, 3, .inr (.inl (moY r)))), (q, .inr (3, [.null, .null, .null, .null, .null, .int 0]))]) := by
  intro V hV
  refine xMet_ofT RX3 hG rfl (by decide) (Nat.le_of_ble_eq_true rfl) fun C hC hQ hX hl hg _ hTab => ?_
  subst hl hg
  obtain ⟨V0, hV0⟩ : ∃ V0, V0 = V := ⟨_, rfl⟩
  obtain ⟨F, hF⟩ : ∃ F, F = xF [(o 0, .inr (2, [.ref (o 1), .ref (o 2), .ref (o 3), .ref (o 4), .ref (o 5), .ref (o 6), .ref (o 7), .ref (o 8), .ref (o 9), .ref (o 10), .int ((r 0).toInt32)])), (o 1, .inl (0, 6, .inl (seF t r))), (o 2, .inl (0, 3, .inl (maF r))), (o 3, .inl (0, 3, .inl (plX r))), (o 4, .inl (0, 3, .inl (plY r))), (o 5, .inl (1, 3, .inr (.inl (moX r)))), (o 6, .inl (1, 3, .inr (.inl (moY r))))] := ⟨_, rfl⟩
  refine rn.mono (J := xSt F V0 [(o 0, .inr (2, [.ref (o 1), .ref (o 2), .ref (o 3), .ref (o 4), .ref (o 5), .ref (o 6), .ref (o 7), .ref (o 8), .ref (o 9), .ref (o 10), .int ((r 0).toInt32)])), (o 1, .inl (0, 6, .inl (seF t r))), (o 2, .inl (0, 3, .inl (maF r))), (o 3, .inl (0, 3, .inl (plX r))), (o 4, .inl (0, 3, .inl (plY r))), (o 5, .inl (1, 3, .inr (.inl (moX r)))), (o 6, .inl (1, 3, .inr (.inl (moY r))))]) (fun V9 h => by rw [h, hV0, hF]; exact hV.st) ?_
  show rn C (xSt F V0 [(o 0, .inr (2, [.ref (o 1), .ref (o 2), .ref (o 3), .ref (o 4), .ref (o 5), .ref (o 6), .ref (o 7), .ref (o 8), .ref (o 9), .ref (o 10), .int ((r 0).toInt32)])), (o 1, .inl (0, 6, .inl (seF t r))), (o 2, .inl (0, 3, .inl (maF r))), (o 3, .inl (0, 3, .inl (plX r))), (o 4, .inl (0, 3, .inl (plY r))), (o 5, .inl (1, 3, .inr (.inl (moX r)))), (o 6, .inl (1, 3, .inr (.inl (moY r))))]) 0 0 0 [(0, .ref (o 0)), (1, .int (-1)), (2, .int 1)] []
  refine r_iconst hC 0 dX3_drift_0 ic_0 1 rfl ?_
  refine r_istore_n hC 3 [(3, .int 0), (0, .ref (o 0)), (1, .int (-1)), (2, .int 1)] dX3_drift_1 rfl (Nat.le_of_ble_eq_true rfl) rfl 2 rfl ?_
  refine r_iload_n hC 0 dX3_drift_2 rfl 3 rfl ?_
  refine r_iconst hC 3 dX3_drift_3 ic_3 4 rfl ?_
  refine r_icge hC 75 dX3_drift_4 (by decide) 7 rfl (fun h => absurd h (by decide)) (fun _ => ?_)
  refine r_aload_n hC 1 dX3_drift_7 rfl 8 rfl ?_
  refine r_get (v := .ref (o 3)) hC kX3 2 rfl q180 (fun _ h => h.get 0 rfl) rfl dX3_drift_8 11 rfl ?_
  refine r_iload_n hC 0 dX3_drift_11 rfl 12 rfl ?_
  refine r_aload_n hC 1 dX3_drift_12 rfl 13 rfl ?_
  refine r_aload_n hC 1 dX3_drift_13 rfl 14 rfl ?_
  refine r_get (v := .ref (o 3)) hC kX3 2 rfl q180 (fun _ h => h.get 0 rfl) rfl dX3_drift_14 17 rfl ?_
  refine r_iload_n hC 0 dX3_drift_17 rfl 18 rfl ?_
  refine r_iald hC 0 (xix_n 0 (Nat.le_of_ble_eq_true rfl) (Nat.le_of_ble_eq_true rfl)) (fun _ h => h.get 3 rfl) (plX r 0) (rfl) dX3_drift_18 19 rfl ?_
  refine r_aload_n hC 1 dX3_drift_19 rfl 20 rfl ?_
  refine r_get (v := .ref (o 5)) hC kX3 4 rfl q188 (fun _ h => h.get 0 rfl) rfl dX3_drift_20 23 rfl ?_
  refine r_iload_n hC 0 dX3_drift_23 rfl 24 rfl ?_
  refine r_lald hC 0 (xix_n 0 (Nat.le_of_ble_eq_true rfl) (Nat.le_of_ble_eq_true rfl)) (fun _ h => h.get 5 rfl) (moX r 0) (rfl) dX3_drift_24 25 rfl ?_
  refine r_eql (y := r 9) (rfl) ?_
  refine r_iload_n hC 3 dX3_drift_25 rfl 26 rfl ?_
  refine r_aload_n hC 1 dX3_drift_26 rfl 27 rfl ?_
  refine r_get (v := .ref (o 2)) hC kX3 1 rfl q177 (fun _ h => h.get 0 rfl) rfl dX3_drift_27 30 rfl ?_
  refine r_iload_n hC 0 dX3_drift_30 rfl 31 rfl ?_
  refine r_iald hC 0 (xix_n 0 (Nat.le_of_ble_eq_true rfl) (Nat.le_of_ble_eq_true rfl)) (fun _ h => h.get 2 rfl) (maF r 0) (rfl) dX3_drift_31 32 rfl ?_
  refine r_imul hC (1 * (maF r 0)) dX3_drift_32  (rfl) 33 rfl ?_
  refine r_iload_n hC 2 dX3_drift_33 rfl 34 rfl ?_
  rcases Bool.eq_false_or_eq_true (m_in (mvQ t (plX r 0) (r 9) (1 * (maF r 0)) (-1)) (-100000) 100000) with hk1 | hk1
  · skip
    refine xCall.r (r := some (.int ((mvQ t (plX r 0) (r 9) (1 * (maF r 0)) (-1)).toInt32))) (r_cV hC kX3 (o 0) [.int (plX r 0), .long (r 9), .int (1 * (maF r 0)), .int (-1)] mVX3_moved q416 (fun _ h => ⟨_, h.get 0 rfl⟩) (fun V9 h9 => (metX3_moved1G _ _ hG o t r (plX r 0) (r 9) (1 * (maF r 0)) (dv1_n hm (by decide)) ht hk1) V9 (h9.in.sub [0, 1] rfl rfl)) ⟨rfl, rfl⟩ (Nat.le_of_ble_eq_true rfl) (Nat.le_of_ble_eq_true rfl) rfl (Nat.le_of_ble_eq_true rfl) dX3_drift_34) 0 0 37 rfl rfl rfl ?_
    refine r_iast (J := xSt F V0 [(o 0, .inr (2, [.ref (o 1), .ref (o 2), .ref (o 3), .ref (o 4), .ref (o 5), .ref (o 6), .ref (o 7), .ref (o 8), .ref (o 9), .ref (o 10), .int ((r 0).toInt32)])), (o 1, .inl (0, 6, .inl (seF t r))), (o 2, .inl (0, 3, .inl (maF r))), (o 3, .inl (0, 3, .inl (va_up (plX r) 0 ((mvQ t (plX r 0) (r 9) (1 * (maF r 0)) (-1)).toInt32)))), (o 4, .inl (0, 3, .inl (plY r))), (o 5, .inl (1, 3, .inr (.inl (moX r)))), (o 6, .inl (1, 3, .inr (.inl (moY r))))]) hC 0 (xix_n 0 (Nat.le_of_ble_eq_true rfl) (Nat.le_of_ble_eq_true rfl)) (fun _ h => h.get 3 rfl) dX3_drift_37 (fun _ h => h.set 3 _ rfl) 38 rfl ?_
    generalize hu2 : va_up (plX r) 0 ((mvQ t (plX r 0) (r 9) (1 * (maF r 0)) (-1)).toInt32) = u2
    refine r_aload_n hC 1 dX3_drift_38 rfl 39 rfl ?_
    refine r_get (v := .ref (o 4)) hC kX3 3 rfl q184 (fun _ h => h.get 0 rfl) rfl dX3_drift_39 42 rfl ?_
    refine r_iload_n hC 0 dX3_drift_42 rfl 43 rfl ?_
    refine r_aload_n hC 1 dX3_drift_43 rfl 44 rfl ?_
    refine r_aload_n hC 1 dX3_drift_44 rfl 45 rfl ?_
    refine r_get (v := .ref (o 4)) hC kX3 3 rfl q184 (fun _ h => h.get 0 rfl) rfl dX3_drift_45 48 rfl ?_
    refine r_iload_n hC 0 dX3_drift_48 rfl 49 rfl ?_
    refine r_iald hC 0 (xix_n 0 (Nat.le_of_ble_eq_true rfl) (Nat.le_of_ble_eq_true rfl)) (fun _ h => h.get 4 rfl) (plY r 0) (rfl) dX3_drift_49 50 rfl ?_
    refine r_aload_n hC 1 dX3_drift_50 rfl 51 rfl ?_
    refine r_get (v := .ref (o 6)) hC kX3 5 rfl q191 (fun _ h => h.get 0 rfl) rfl dX3_drift_51 54 rfl ?_
    refine r_iload_n hC 0 dX3_drift_54 rfl 55 rfl ?_
    refine r_lald hC 0 (xix_n 0 (Nat.le_of_ble_eq_true rfl) (Nat.le_of_ble_eq_true rfl)) (fun _ h => h.get 6 rfl) (moY r 0) (rfl) dX3_drift_55 56 rfl ?_
    refine r_eql (y := r 10) (rfl) ?_
    refine r_iload_n hC 3 dX3_drift_56 rfl 57 rfl ?_
    refine r_aload_n hC 1 dX3_drift_57 rfl 58 rfl ?_
    refine r_get (v := .ref (o 2)) hC kX3 1 rfl q177 (fun _ h => h.get 0 rfl) rfl dX3_drift_58 61 rfl ?_
    refine r_iload_n hC 0 dX3_drift_61 rfl 62 rfl ?_
    refine r_iald hC 0 (xix_n 0 (Nat.le_of_ble_eq_true rfl) (Nat.le_of_ble_eq_true rfl)) (fun _ h => h.get 2 rfl) (maF r 0) (rfl) dX3_drift_62 63 rfl ?_
    refine r_imul hC (1 * (maF r 0)) dX3_drift_63  (rfl) 64 rfl ?_
    refine r_iload_n hC 2 dX3_drift_64 rfl 65 rfl ?_
    rcases Bool.eq_false_or_eq_true (m_in (mvQ t (plY r 0) (r 10) (1 * (maF r 0)) (-1)) (-100000) 100000) with hk3 | hk3
    · skip
      refine xCall.r (r := some (.int ((mvQ t (plY r 0) (r 10) (1 * (maF r 0)) (-1)).toInt32))) (r_cV hC kX3 (o 0) [.int (plY r 0), .long (r 10), .int (1 * (maF r 0)), .int (-1)] mVX3_moved q416 (fun _ h => ⟨_, h.get 0 rfl⟩) (fun V9 h9 => (metX3_moved1G _ _ hG o t r (plY r 0) (r 10) (1 * (maF r 0)) (dv1_n hm (by decide)) ht hk3) V9 (h9.in.sub [0, 1] rfl rfl)) ⟨rfl, rfl⟩ (Nat.le_of_ble_eq_true rfl) (Nat.le_of_ble_eq_true rfl) rfl (Nat.le_of_ble_eq_true rfl) dX3_drift_65) 0 0 68 rfl rfl rfl ?_
      refine r_iast (J := xSt F V0 [(o 0, .inr (2, [.ref (o 1), .ref (o 2), .ref (o 3), .ref (o 4), .ref (o 5), .ref (o 6), .ref (o 7), .ref (o 8), .ref (o 9), .ref (o 10), .int ((r 0).toInt32)])), (o 1, .inl (0, 6, .inl (seF t r))), (o 2, .inl (0, 3, .inl (maF r))), (o 3, .inl (0, 3, .inl u2)), (o 4, .inl (0, 3, .inl (va_up (plY r) 0 ((mvQ t (plY r 0) (r 10) (1 * (maF r 0)) (-1)).toInt32)))), (o 5, .inl (1, 3, .inr (.inl (moX r)))), (o 6, .inl (1, 3, .inr (.inl (moY r))))]) hC 0 (xix_n 0 (Nat.le_of_ble_eq_true rfl) (Nat.le_of_ble_eq_true rfl)) (fun _ h => h.get 4 rfl) dX3_drift_68 (fun _ h => h.set 4 _ rfl) 69 rfl ?_
      generalize hu4 : va_up (plY r) 0 ((mvQ t (plY r 0) (r 10) (1 * (maF r 0)) (-1)).toInt32) = u4
      refine r_iinc hC 1 3 0 [(3, .int 1), (0, .ref (o 0)), (1, .int (-1)), (2, .int 1)] dX3_drift_69 rfl (by decide) (Nat.le_of_ble_eq_true rfl) rfl 72 rfl ?_
      refine r_goto hC 2 dX3_drift_72 (by decide) ?_
      refine r_iload_n hC 0 dX3_drift_2 rfl 3 rfl ?_
      refine r_iconst hC 3 dX3_drift_3 ic_3 4 rfl ?_
      refine r_icge hC 75 dX3_drift_4 (by decide) 7 rfl (fun h => absurd h (by decide)) (fun _ => ?_)
      refine r_aload_n hC 1 dX3_drift_7 rfl 8 rfl ?_
      refine r_get (v := .ref (o 3)) hC kX3 2 rfl q180 (fun _ h => h.get 0 rfl) rfl dX3_drift_8 11 rfl ?_
      refine r_iload_n hC 0 dX3_drift_11 rfl 12 rfl ?_
      refine r_aload_n hC 1 dX3_drift_12 rfl 13 rfl ?_
      refine r_aload_n hC 1 dX3_drift_13 rfl 14 rfl ?_
      refine r_get (v := .ref (o 3)) hC kX3 2 rfl q180 (fun _ h => h.get 0 rfl) rfl dX3_drift_14 17 rfl ?_
      refine r_iload_n hC 0 dX3_drift_17 rfl 18 rfl ?_
      refine r_iald hC 1 (xix_n 1 (Nat.le_of_ble_eq_true rfl) (Nat.le_of_ble_eq_true rfl)) (fun _ h => h.get 3 rfl) (plX r 1) (by rw [← hu2]; rfl) dX3_drift_18 19 rfl ?_
      refine r_aload_n hC 1 dX3_drift_19 rfl 20 rfl ?_
      refine r_get (v := .ref (o 5)) hC kX3 4 rfl q188 (fun _ h => h.get 0 rfl) rfl dX3_drift_20 23 rfl ?_
      refine r_iload_n hC 0 dX3_drift_23 rfl 24 rfl ?_
      refine r_lald hC 1 (xix_n 1 (Nat.le_of_ble_eq_true rfl) (Nat.le_of_ble_eq_true rfl)) (fun _ h => h.get 5 rfl) (moX r 1) (rfl) dX3_drift_24 25 rfl ?_
      refine r_eql (y := r 14) (rfl) ?_
      refine r_iload_n hC 3 dX3_drift_25 rfl 26 rfl ?_
      refine r_aload_n hC 1 dX3_drift_26 rfl 27 rfl ?_
      refine r_get (v := .ref (o 2)) hC kX3 1 rfl q177 (fun _ h => h.get 0 rfl) rfl dX3_drift_27 30 rfl ?_
      refine r_iload_n hC 0 dX3_drift_30 rfl 31 rfl ?_
      refine r_iald hC 1 (xix_n 1 (Nat.le_of_ble_eq_true rfl) (Nat.le_of_ble_eq_true rfl)) (fun _ h => h.get 2 rfl) (maF r 1) (rfl) dX3_drift_31 32 rfl ?_
      refine r_imul hC (1 * (maF r 1)) dX3_drift_32  (rfl) 33 rfl ?_
      refine r_iload_n hC 2 dX3_drift_33 rfl 34 rfl ?_
      rcases Bool.eq_false_or_eq_true (m_in (mvQ t (plX r 1) (r 14) (1 * (maF r 1)) (-1)) (-100000) 100000) with hk5 | hk5
      · skip
        refine xCall.r (r := some (.int ((mvQ t (plX r 1) (r 14) (1 * (maF r 1)) (-1)).toInt32))) (r_cV hC kX3 (o 0) [.int (plX r 1), .long (r 14), .int (1 * (maF r 1)), .int (-1)] mVX3_moved q416 (fun _ h => ⟨_, h.get 0 rfl⟩) (fun V9 h9 => (metX3_moved1G _ _ hG o t r (plX r 1) (r 14) (1 * (maF r 1)) (dv1_n hm (by decide)) ht hk5) V9 (h9.in.sub [0, 1] rfl rfl)) ⟨rfl, rfl⟩ (Nat.le_of_ble_eq_true rfl) (Nat.le_of_ble_eq_true rfl) rfl (Nat.le_of_ble_eq_true rfl) dX3_drift_34) 0 0 37 rfl rfl rfl ?_
        refine r_iast (J := xSt F V0 [(o 0, .inr (2, [.ref (o 1), .ref (o 2), .ref (o 3), .ref (o 4), .ref (o 5), .ref (o 6), .ref (o 7), .ref (o 8), .ref (o 9), .ref (o 10), .int ((r 0).toInt32)])), (o 1, .inl (0, 6, .inl (seF t r))), (o 2, .inl (0, 3, .inl (maF r))), (o 3, .inl (0, 3, .inl (va_up u2 1 ((mvQ t (plX r 1) (r 14) (1 * (maF r 1)) (-1)).toInt32)))), (o 4, .inl (0, 3, .inl u4)), (o 5, .inl (1, 3, .inr (.inl (moX r)))), (o 6, .inl (1, 3, .inr (.inl (moY r))))]) hC 1 (xix_n 1 (Nat.le_of_ble_eq_true rfl) (Nat.le_of_ble_eq_true rfl)) (fun _ h => h.get 3 rfl) dX3_drift_37 (fun _ h => h.set 3 _ rfl) 38 rfl ?_
        generalize hu6 : va_up u2 1 ((mvQ t (plX r 1) (r 14) (1 * (maF r 1)) (-1)).toInt32) = u6
        refine r_aload_n hC 1 dX3_drift_38 rfl 39 rfl ?_
        refine r_get (v := .ref (o 4)) hC kX3 3 rfl q184 (fun _ h => h.get 0 rfl) rfl dX3_drift_39 42 rfl ?_
        refine r_iload_n hC 0 dX3_drift_42 rfl 43 rfl ?_
        refine r_aload_n hC 1 dX3_drift_43 rfl 44 rfl ?_
        refine r_aload_n hC 1 dX3_drift_44 rfl 45 rfl ?_
        refine r_get (v := .ref (o 4)) hC kX3 3 rfl q184 (fun _ h => h.get 0 rfl) rfl dX3_drift_45 48 rfl ?_
        refine r_iload_n hC 0 dX3_drift_48 rfl 49 rfl ?_
        refine r_iald hC 1 (xix_n 1 (Nat.le_of_ble_eq_true rfl) (Nat.le_of_ble_eq_true rfl)) (fun _ h => h.get 4 rfl) (plY r 1) (by rw [← hu4]; rfl) dX3_drift_49 50 rfl ?_
        refine r_aload_n hC 1 dX3_drift_50 rfl 51 rfl ?_
        refine r_get (v := .ref (o 6)) hC kX3 5 rfl q191 (fun _ h => h.get 0 rfl) rfl dX3_drift_51 54 rfl ?_
        refine r_iload_n hC 0 dX3_drift_54 rfl 55 rfl ?_
        refine r_lald hC 1 (xix_n 1 (Nat.le_of_ble_eq_true rfl) (Nat.le_of_ble_eq_true rfl)) (fun _ h => h.get 6 rfl) (moY r 1) (rfl) dX3_drift_55 56 rfl ?_
        refine r_eql (y := r 15) (rfl) ?_
        refine r_iload_n hC 3 dX3_drift_56 rfl 57 rfl ?_
        refine r_aload_n hC 1 dX3_drift_57 rfl 58 rfl ?_
        refine r_get (v := .ref (o 2)) hC kX3 1 rfl q177 (fun _ h => h.get 0 rfl) rfl dX3_drift_58 61 rfl ?_
        refine r_iload_n hC 0 dX3_drift_61 rfl 62 rfl ?_
        refine r_iald hC 1 (xix_n 1 (Nat.le_of_ble_eq_true rfl) (Nat.le_of_ble_eq_true rfl)) (fun _ h => h.get 2 rfl) (maF r 1) (rfl) dX3_drift_62 63 rfl ?_
        refine r_imul hC (1 * (maF r 1)) dX3_drift_63  (rfl) 64 rfl ?_
        refine r_iload_n hC 2 dX3_drift_64 rfl 65 rfl ?_
        rcases Bool.eq_false_or_eq_true (m_in (mvQ t (plY r 1) (r 15) (1 * (maF r 1)) (-1)) (-100000) 100000) with hk7 | hk7
        · skip
          refine xCall.r (r := some (.int ((mvQ t (plY r 1) (r 15) (1 * (maF r 1)) (-1)).toInt32))) (r_cV hC kX3 (o 0) [.int (plY r 1), .long (r 15), .int (1 * (maF r 1)), .int (-1)] mVX3_moved q416 (fun _ h => ⟨_, h.get 0 rfl⟩) (fun V9 h9 => (metX3_moved1G _ _ hG o t r (plY r 1) (r 15) (1 * (maF r 1)) (dv1_n hm (by decide)) ht hk7) V9 (h9.in.sub [0, 1] rfl rfl)) ⟨rfl, rfl⟩ (Nat.le_of_ble_eq_true rfl) (Nat.le_of_ble_eq_true rfl) rfl (Nat.le_of_ble_eq_true rfl) dX3_drift_65) 0 0 68 rfl rfl rfl ?_
          refine r_iast (J := xSt F V0 [(o 0, .inr (2, [.ref (o 1), .ref (o 2), .ref (o 3), .ref (o 4), .ref (o 5), .ref (o 6), .ref (o 7), .ref (o 8), .ref (o 9), .ref (o 10), .int ((r 0).toInt32)])), (o 1, .inl (0, 6, .inl (seF t r))), (o 2, .inl (0, 3, .inl (maF r))), (o 3, .inl (0, 3, .inl u6)), (o 4, .inl (0, 3, .inl (va_up u4 1 ((mvQ t (plY r 1) (r 15) (1 * (maF r 1)) (-1)).toInt32)))), (o 5, .inl (1, 3, .inr (.inl (moX r)))), (o 6, .inl (1, 3, .inr (.inl (moY r))))]) hC 1 (xix_n 1 (Nat.le_of_ble_eq_true rfl) (Nat.le_of_ble_eq_true rfl)) (fun _ h => h.get 4 rfl) dX3_drift_68 (fun _ h => h.set 4 _ rfl) 69 rfl ?_
          generalize hu8 : va_up u4 1 ((mvQ t (plY r 1) (r 15) (1 * (maF r 1)) (-1)).toInt32) = u8
          refine r_iinc hC 2 3 0 [(3, .int 2), (0, .ref (o 0)), (1, .int (-1)), (2, .int 1)] dX3_drift_69 rfl (by decide) (Nat.le_of_ble_eq_true rfl) rfl 72 rfl ?_
          refine r_goto hC 2 dX3_drift_72 (by decide) ?_
          refine r_iload_n hC 0 dX3_drift_2 rfl 3 rfl ?_
          refine r_iconst hC 3 dX3_drift_3 ic_3 4 rfl ?_
          refine r_icge hC 75 dX3_drift_4 (by decide) 7 rfl (fun h => absurd h (by decide)) (fun _ => ?_)
          refine r_aload_n hC 1 dX3_drift_7 rfl 8 rfl ?_
          refine r_get (v := .ref (o 3)) hC kX3 2 rfl q180 (fun _ h => h.get 0 rfl) rfl dX3_drift_8 11 rfl ?_
          refine r_iload_n hC 0 dX3_drift_11 rfl 12 rfl ?_
          refine r_aload_n hC 1 dX3_drift_12 rfl 13 rfl ?_
          refine r_aload_n hC 1 dX3_drift_13 rfl 14 rfl ?_
          refine r_get (v := .ref (o 3)) hC kX3 2 rfl q180 (fun _ h => h.get 0 rfl) rfl dX3_drift_14 17 rfl ?_
          refine r_iload_n hC 0 dX3_drift_17 rfl 18 rfl ?_
          refine r_iald hC 2 (xix_n 2 (Nat.le_of_ble_eq_true rfl) (Nat.le_of_ble_eq_true rfl)) (fun _ h => h.get 3 rfl) (plX r 2) (by rw [← hu6, ← hu2]; rfl) dX3_drift_18 19 rfl ?_
          refine r_aload_n hC 1 dX3_drift_19 rfl 20 rfl ?_
          refine r_get (v := .ref (o 5)) hC kX3 4 rfl q188 (fun _ h => h.get 0 rfl) rfl dX3_drift_20 23 rfl ?_
          refine r_iload_n hC 0 dX3_drift_23 rfl 24 rfl ?_
          refine r_lald hC 2 (xix_n 2 (Nat.le_of_ble_eq_true rfl) (Nat.le_of_ble_eq_true rfl)) (fun _ h => h.get 5 rfl) (moX r 2) (rfl) dX3_drift_24 25 rfl ?_
          refine r_eql (y := r 19) (rfl) ?_
          refine r_iload_n hC 3 dX3_drift_25 rfl 26 rfl ?_
          refine r_aload_n hC 1 dX3_drift_26 rfl 27 rfl ?_
          refine r_get (v := .ref (o 2)) hC kX3 1 rfl q177 (fun _ h => h.get 0 rfl) rfl dX3_drift_27 30 rfl ?_
          refine r_iload_n hC 0 dX3_drift_30 rfl 31 rfl ?_
          refine r_iald hC 2 (xix_n 2 (Nat.le_of_ble_eq_true rfl) (Nat.le_of_ble_eq_true rfl)) (fun _ h => h.get 2 rfl) (maF r 2) (rfl) dX3_drift_31 32 rfl ?_
          refine r_imul hC (1 * (maF r 2)) dX3_drift_32  (rfl) 33 rfl ?_
          refine r_iload_n hC 2 dX3_drift_33 rfl 34 rfl ?_
          rcases Bool.eq_false_or_eq_true (m_in (mvQ t (plX r 2) (r 19) (1 * (maF r 2)) (-1)) (-100000) 100000) with hk9 | hk9
          · skip
            refine xCall.r (r := some (.int ((mvQ t (plX r 2) (r 19) (1 * (maF r 2)) (-1)).toInt32))) (r_cV hC kX3 (o 0) [.int (plX r 2), .long (r 19), .int (1 * (maF r 2)), .int (-1)] mVX3_moved q416 (fun _ h => ⟨_, h.get 0 rfl⟩) (fun V9 h9 => (metX3_moved1G _ _ hG o t r (plX r 2) (r 19) (1 * (maF r 2)) (dv1_n hm (by decide)) ht hk9) V9 (h9.in.sub [0, 1] rfl rfl)) ⟨rfl, rfl⟩ (Nat.le_of_ble_eq_true rfl) (Nat.le_of_ble_eq_true rfl) rfl (Nat.le_of_ble_eq_true rfl) dX3_drift_34) 0 0 37 rfl rfl rfl ?_
            refine r_iast (J := xSt F V0 [(o 0, .inr (2, [.ref (o 1), .ref (o 2), .ref (o 3), .ref (o 4), .ref (o 5), .ref (o 6), .ref (o 7), .ref (o 8), .ref (o 9), .ref (o 10), .int ((r 0).toInt32)])), (o 1, .inl (0, 6, .inl (seF t r))), (o 2, .inl (0, 3, .inl (maF r))), (o 3, .inl (0, 3, .inl (va_up u6 2 ((mvQ t (plX r 2) (r 19) (1 * (maF r 2)) (-1)).toInt32)))), (o 4, .inl (0, 3, .inl u8)), (o 5, .inl (1, 3, .inr (.inl (moX r)))), (o 6, .inl (1, 3, .inr (.inl (moY r))))]) hC 2 (xix_n 2 (Nat.le_of_ble_eq_true rfl) (Nat.le_of_ble_eq_true rfl)) (fun _ h => h.get 3 rfl) dX3_drift_37 (fun _ h => h.set 3 _ rfl) 38 rfl ?_
            generalize hu10 : va_up u6 2 ((mvQ t (plX r 2) (r 19) (1 * (maF r 2)) (-1)).toInt32) = u10
            refine r_aload_n hC 1 dX3_drift_38 rfl 39 rfl ?_
            refine r_get (v := .ref (o 4)) hC kX3 3 rfl q184 (fun _ h => h.get 0 rfl) rfl dX3_drift_39 42 rfl ?_
            refine r_iload_n hC 0 dX3_drift_42 rfl 43 rfl ?_
            refine r_aload_n hC 1 dX3_drift_43 rfl 44 rfl ?_
            refine r_aload_n hC 1 dX3_drift_44 rfl 45 rfl ?_
            refine r_get (v := .ref (o 4)) hC kX3 3 rfl q184 (fun _ h => h.get 0 rfl) rfl dX3_drift_45 48 rfl ?_
            refine r_iload_n hC 0 dX3_drift_48 rfl 49 rfl ?_
            refine r_iald hC 2 (xix_n 2 (Nat.le_of_ble_eq_true rfl) (Nat.le_of_ble_eq_true rfl)) (fun _ h => h.get 4 rfl) (plY r 2) (by rw [← hu8, ← hu4]; rfl) dX3_drift_49 50 rfl ?_
            refine r_aload_n hC 1 dX3_drift_50 rfl 51 rfl ?_
            refine r_get (v := .ref (o 6)) hC kX3 5 rfl q191 (fun _ h => h.get 0 rfl) rfl dX3_drift_51 54 rfl ?_
            refine r_iload_n hC 0 dX3_drift_54 rfl 55 rfl ?_
            refine r_lald hC 2 (xix_n 2 (Nat.le_of_ble_eq_true rfl) (Nat.le_of_ble_eq_true rfl)) (fun _ h => h.get 6 rfl) (moY r 2) (rfl) dX3_drift_55 56 rfl ?_
            refine r_eql (y := r 20) (rfl) ?_
            refine r_iload_n hC 3 dX3_drift_56 rfl 57 rfl ?_
            refine r_aload_n hC 1 dX3_drift_57 rfl 58 rfl ?_
            refine r_get (v := .ref (o 2)) hC kX3 1 rfl q177 (fun _ h => h.get 0 rfl) rfl dX3_drift_58 61 rfl ?_
            refine r_iload_n hC 0 dX3_drift_61 rfl 62 rfl ?_
            refine r_iald hC 2 (xix_n 2 (Nat.le_of_ble_eq_true rfl) (Nat.le_of_ble_eq_true rfl)) (fun _ h => h.get 2 rfl) (maF r 2) (rfl) dX3_drift_62 63 rfl ?_
            refine r_imul hC (1 * (maF r 2)) dX3_drift_63  (rfl) 64 rfl ?_
            refine r_iload_n hC 2 dX3_drift_64 rfl 65 rfl ?_
            rcases Bool.eq_false_or_eq_true (m_in (mvQ t (plY r 2) (r 20) (1 * (maF r 2)) (-1)) (-100000) 100000) with hk11 | hk11
            · skip
              refine xCall.r (r := some (.int ((mvQ t (plY r 2) (r 20) (1 * (maF r 2)) (-1)).toInt32))) (r_cV hC kX3 (o 0) [.int (plY r 2), .long (r 20), .int (1 * (maF r 2)), .int (-1)] mVX3_moved q416 (fun _ h => ⟨_, h.get 0 rfl⟩) (fun V9 h9 => (metX3_moved1G _ _ hG o t r (plY r 2) (r 20) (1 * (maF r 2)) (dv1_n hm (by decide)) ht hk11) V9 (h9.in.sub [0, 1] rfl rfl)) ⟨rfl, rfl⟩ (Nat.le_of_ble_eq_true rfl) (Nat.le_of_ble_eq_true rfl) rfl (Nat.le_of_ble_eq_true rfl) dX3_drift_65) 0 0 68 rfl rfl rfl ?_
              refine r_iast (J := xSt F V0 [(o 0, .inr (2, [.ref (o 1), .ref (o 2), .ref (o 3), .ref (o 4), .ref (o 5), .ref (o 6), .ref (o 7), .ref (o 8), .ref (o 9), .ref (o 10), .int ((r 0).toInt32)])), (o 1, .inl (0, 6, .inl (seF t r))), (o 2, .inl (0, 3, .inl (maF r))), (o 3, .inl (0, 3, .inl u10)), (o 4, .inl (0, 3, .inl (va_up u8 2 ((mvQ t (plY r 2) (r 20) (1 * (maF r 2)) (-1)).toInt32)))), (o 5, .inl (1, 3, .inr (.inl (moX r)))), (o 6, .inl (1, 3, .inr (.inl (moY r))))]) hC 2 (xix_n 2 (Nat.le_of_ble_eq_true rfl) (Nat.le_of_ble_eq_true rfl)) (fun _ h => h.get 4 rfl) dX3_drift_68 (fun _ h => h.set 4 _ rfl) 69 rfl ?_
              generalize hu12 : va_up u8 2 ((mvQ t (plY r 2) (r 20) (1 * (maF r 2)) (-1)).toInt32) = u12
              refine r_iinc hC 3 3 0 [(3, .int 3), (0, .ref (o 0)), (1, .int (-1)), (2, .int 1)] dX3_drift_69 rfl (by decide) (Nat.le_of_ble_eq_true rfl) rfl 72 rfl ?_
              refine r_goto hC 2 dX3_drift_72 (by decide) ?_
              refine r_iload_n hC 0 dX3_drift_2 rfl 3 rfl ?_
              refine r_iconst hC 3 dX3_drift_3 ic_3 4 rfl ?_
              refine r_icge hC 75 dX3_drift_4 (by decide) 7 rfl (fun _ => ?_) (fun h => absurd h (by decide))
              subst hu12
              subst hu10
              subst hu8
              subst hu6
              subst hu4
              subst hu2
              refine rn_cellI (J := xSt F V0 [(o 0, .inr (2, [.ref (o 1), .ref (o 2), .ref (o 3), .ref (o 4), .ref (o 5), .ref (o 6), .ref (o 7), .ref (o 8), .ref (o 9), .ref (o 10), .int ((r 0).toInt32)])), (o 1, .inl (0, 6, .inl (seF t r))), (o 2, .inl (0, 3, .inl (maF (driftQ t r false true)))), (o 3, .inl (0, 3, .inl (va_up (va_up (va_up (plX r) 0 ((mvQ t (plX r 0) (r 9) (1 * (maF r 0)) (-1)).toInt32)) 1 ((mvQ t (plX r 1) (r 14) (1 * (maF r 1)) (-1)).toInt32)) 2 ((mvQ t (plX r 2) (r 19) (1 * (maF r 2)) (-1)).toInt32)))), (o 4, .inl (0, 3, .inl (va_up (va_up (va_up (plY r) 0 ((mvQ t (plY r 0) (r 10) (1 * (maF r 0)) (-1)).toInt32)) 1 ((mvQ t (plY r 1) (r 15) (1 * (maF r 1)) (-1)).toInt32)) 2 ((mvQ t (plY r 2) (r 20) (1 * (maF r 2)) (-1)).toInt32)))), (o 5, .inl (1, 3, .inr (.inl (moX r)))), (o 6, .inl (1, 3, .inr (.inl (moY r))))]) (fun _ h => h.get 2 rfl) (fun j9 hj9 => by
                  rcases (show j9 = 0 ∨ j9 = 1 ∨ j9 = 2 by omega) with rfl | rfl | rfl
                  · exact congrArg Int64.toInt32 (drq_6).symm
                  · exact congrArg Int64.toInt32 (drq_11).symm
                  · exact congrArg Int64.toInt32 (drq_16).symm) (fun _ h => h.set 2 _ rfl) ?_
              refine rn_cellI (J := xSt F V0 [(o 0, .inr (2, [.ref (o 1), .ref (o 2), .ref (o 3), .ref (o 4), .ref (o 5), .ref (o 6), .ref (o 7), .ref (o 8), .ref (o 9), .ref (o 10), .int ((r 0).toInt32)])), (o 1, .inl (0, 6, .inl (seF t r))), (o 2, .inl (0, 3, .inl (maF (driftQ t r false true)))), (o 3, .inl (0, 3, .inl (plX (driftQ t r false true)))), (o 4, .inl (0, 3, .inl (va_up (va_up (va_up (plY r) 0 ((mvQ t (plY r 0) (r 10) (1 * (maF r 0)) (-1)).toInt32)) 1 ((mvQ t (plY r 1) (r 15) (1 * (maF r 1)) (-1)).toInt32)) 2 ((mvQ t (plY r 2) (r 20) (1 * (maF r 2)) (-1)).toInt32)))), (o 5, .inl (1, 3, .inr (.inl (moX r)))), (o 6, .inl (1, 3, .inr (.inl (moY r))))]) (fun _ h => h.get 3 rfl) (fun j9 hj9 => by
                  rcases (show j9 = 0 ∨ j9 = 1 ∨ j9 = 2 by omega) with rfl | rfl | rfl
                  · exact ((up_ne (by decide)).trans ((up_ne (by decide)).trans (up_same _ _ _))).trans (congrArg Int64.toInt32 ((mvX01 (t := t) (j := 0) hpl hm (by decide)).trans (drq_7).symm))
                  · exact ((up_ne (by decide)).trans (up_same _ _ _)).trans (congrArg Int64.toInt32 ((mvX01 (t := t) (j := 1) hpl hm (by decide)).trans (drq_12).symm))
                  · exact (up_same _ _ _).trans (congrArg Int64.toInt32 ((mvX01 (t := t) (j := 2) hpl hm (by decide)).trans (drq_17).symm))) (fun _ h => h.set 3 _ rfl) ?_
              refine rn_cellI (J := xSt F V0 [(o 0, .inr (2, [.ref (o 1), .ref (o 2), .ref (o 3), .ref (o 4), .ref (o 5), .ref (o 6), .ref (o 7), .ref (o 8), .ref (o 9), .ref (o 10), .int ((r 0).toInt32)])), (o 1, .inl (0, 6, .inl (seF t r))), (o 2, .inl (0, 3, .inl (maF (driftQ t r false true)))), (o 3, .inl (0, 3, .inl (plX (driftQ t r false true)))), (o 4, .inl (0, 3, .inl (plY (driftQ t r false true)))), (o 5, .inl (1, 3, .inr (.inl (moX r)))), (o 6, .inl (1, 3, .inr (.inl (moY r))))]) (fun _ h => h.get 4 rfl) (fun j9 hj9 => by
                  rcases (show j9 = 0 ∨ j9 = 1 ∨ j9 = 2 by omega) with rfl | rfl | rfl
                  · exact ((up_ne (by decide)).trans ((up_ne (by decide)).trans (up_same _ _ _))).trans (congrArg Int64.toInt32 ((mvY01 (t := t) (j := 0) hpl hm (by decide)).trans (drq_8).symm))
                  · exact ((up_ne (by decide)).trans (up_same _ _ _)).trans (congrArg Int64.toInt32 ((mvY01 (t := t) (j := 1) hpl hm (by decide)).trans (drq_13).symm))
                  · exact (up_same _ _ _).trans (congrArg Int64.toInt32 ((mvY01 (t := t) (j := 2) hpl hm (by decide)).trans (drq_18).symm))) (fun _ h => h.set 4 _ rfl) ?_
              refine rn_cellJ (J := xSt F V0 [(o 0, .inr (2, [.ref (o 1), .ref (o 2), .ref (o 3), .ref (o 4), .ref (o 5), .ref (o 6), .ref (o 7), .ref (o 8), .ref (o 9), .ref (o 10), .int ((r 0).toInt32)])), (o 1, .inl (0, 6, .inl (seF t r))), (o 2, .inl (0, 3, .inl (maF (driftQ t r false true)))), (o 3, .inl (0, 3, .inl (plX (driftQ t r false true)))), (o 4, .inl (0, 3, .inl (plY (driftQ t r false true)))), (o 5, .inl (1, 3, .inr (.inl (moX (driftQ t r false true))))), (o 6, .inl (1, 3, .inr (.inl (moY r))))]) (fun _ h => h.get 5 rfl) (fun j9 hj9 => by
                  rcases (show j9 = 0 ∨ j9 = 1 ∨ j9 = 2 by omega) with rfl | rfl | rfl
                  · exact (drq_9).symm
                  · exact (drq_14).symm
                  · exact (drq_19).symm) (fun _ h => h.set 5 _ rfl) ?_
              refine rn_cellJ (J := xSt F V0 [(o 0, .inr (2, [.ref (o 1), .ref (o 2), .ref (o 3), .ref (o 4), .ref (o 5), .ref (o 6), .ref (o 7), .ref (o 8), .ref (o 9), .ref (o 10), .int ((r 0).toInt32)])), (o 1, .inl (0, 6, .inl (seF t r))), (o 2, .inl (0, 3, .inl (maF (driftQ t r false true)))), (o 3, .inl (0, 3, .inl (plX (driftQ t r false true)))), (o 4, .inl (0, 3, .inl (plY (driftQ t r false true)))), (o 5, .inl (1, 3, .inr (.inl (moX (driftQ t r false true))))), (o 6, .inl (1, 3, .inr (.inl (moY (driftQ t r false true)))))]) (fun _ h => h.get 6 rfl) (fun j9 hj9 => by
                  rcases (show j9 = 0 ∨ j9 = 1 ∨ j9 = 2 by omega) with rfl | rfl | rfl
                  · exact (drq_10).symm
                  · exact (drq_15).symm
                  · exact (drq_20).symm) (fun _ h => h.set 6 _ rfl) ?_
              exact r_vret hC (Nat.le_of_ble_eq_true rfl) (Nat.le_of_ble_eq_true rfl) (fun V9 h => hQ _ _ ⟨[(o 0, .inr (2, [.ref (o 1), .ref (o 2), .ref (o 3), .ref (o 4), .ref (o 5), .ref (o 6), .ref (o 7), .ref (o 8), .ref (o 9), .ref (o 10), .int (((driftQ t r false true) 0).toInt32)])), (o 1, .inl (0, 6, .inl (seF t (driftQ t r false true)))), (o 2, .inl (0, 3, .inl (maF (driftQ t r false true)))), (o 3, .inl (0, 3, .inl (plX (driftQ t r false true)))), (o 4, .inl (0, 3, .inl (plY (driftQ t r false true)))), (o 5, .inl (1, 3, .inr (.inl (moX (driftQ t r false true))))), (o 6, .inl (1, 3, .inr (.inl (moY (driftQ t r false true)))))], ⟨rfl, in_t2 (moR_drift hmo) (by rw [← ((mvX01 (t := t) (j := 0) hpl hm (by decide)).trans (drq_7).symm)]; exact hk1) (by rw [← ((mvY01 (t := t) (j := 0) hpl hm (by decide)).trans (drq_8).symm)]; exact hk3) (by rw [← ((mvX01 (t := t) (j := 1) hpl hm (by decide)).trans (drq_12).symm)]; exact hk5) (by rw [← ((mvY01 (t := t) (j := 1) hpl hm (by decide)).trans (drq_13).symm)]; exact hk7) (by rw [← ((mvX01 (t := t) (j := 2) hpl hm (by decide)).trans (drq_17).symm)]; exact hk9) (by rw [← ((mvY01 (t := t) (j := 2) hpl hm (by decide)).trans (drq_18).symm)]; exact hk11), rfl⟩, by rw [← hV0, ← hF]; exact h⟩) dX3_drift_75
            · skip
              refine xCall.w (wr := [(o 2, .inl (0, 3, .inl (maF r))), (o 3, .inl (0, 3, .inl u10)), (o 4, .inl (0, 3, .inl u8)), (o 5, .inl (1, 3, .inr (.inl (moX r)))), (o 6, .inl (1, 3, .inr (.inl (moY r))))]) (r_cV hC kX3 (o 0) [.int (plY r 2), .long (r 20), .int (1 * (maF r 2)), .int (-1)] mVX3_moved q416 (fun _ h => ⟨_, h.get 0 rfl⟩) (fun V9 h9 => (metX3_moved1B _ _ hG o t r (plY r 2) (r 20) (1 * (maF r 2)) (dv1_n hm (by decide)) ht hk11) V9 (h9.in.sub [0, 1] rfl rfl)) ⟨rfl, rfl⟩ (Nat.le_of_ble_eq_true rfl) (Nat.le_of_ble_eq_true rfl) rfl (Nat.le_of_ble_eq_true rfl) dX3_drift_65) [0, 1] [2, 3, 4, 5, 6] rfl rfl rfl (by decide) 1 6 68 rfl rfl rfl (fun _ _ h => h.elim) (fun q16 w17 h18 => ?_)
              obtain rfl := h18
              show rx C (xSt F V0 [(o 2, .inl (0, 3, .inl (maF r))), (o 3, .inl (0, 3, .inl u10)), (o 4, .inl (0, 3, .inl u8)), (o 5, .inl (1, 3, .inr (.inl (moX r)))), (o 6, .inl (1, 3, .inr (.inl (moY r)))), (o 0, .inr (2, [.ref (o 1), .ref (o 2), .ref (o 3), .ref (o 4), .ref (o 5), .ref (o 6), .ref (o 7), .ref (o 8), .ref (o 9), .ref (o 10), .int ((r 0).toInt32)])), (o 1, .inl (0, 6, .inl (seF t r))), (q16, .inr (3, [.null, .null, .null, .null, .null, .int 0]))]) 1 6 65 [(3, .int 2), (0, .ref (o 0)), (1, .int (-1)), (2, .int 1)] [.int 2, .ref (o 4)] q16
              subst hu10
              subst hu8
              subst hu6
              subst hu4
              subst hu2
              exact rx_out hC hTab (fun _ h => by cases h) (Nat.le_of_ble_eq_true rfl) (Nat.le_of_ble_eq_true rfl) (fun V9 h => hX _ _ ⟨[(o 0, .inr (2, [.ref (o 1), .ref (o 2), .ref (o 3), .ref (o 4), .ref (o 5), .ref (o 6), .ref (o 7), .ref (o 8), .ref (o 9), .ref (o 10), .int ((r 0).toInt32)])), (o 1, .inl (0, 6, .inl (seF t r))), (o 2, .inl (0, 3, .inl (maF r))), (o 3, .inl (0, 3, .inl (va_up (va_up (va_up (plX r) 0 ((mvQ t (plX r 0) (r 9) (1 * (maF r 0)) (-1)).toInt32)) 1 ((mvQ t (plX r 1) (r 14) (1 * (maF r 1)) (-1)).toInt32)) 2 ((mvQ t (plX r 2) (r 19) (1 * (maF r 2)) (-1)).toInt32)))), (o 4, .inl (0, 3, .inl (va_up (va_up (plY r) 0 ((mvQ t (plY r 0) (r 10) (1 * (maF r 0)) (-1)).toInt32)) 1 ((mvQ t (plY r 1) (r 15) (1 * (maF r 1)) (-1)).toInt32)))), (o 5, .inl (1, 3, .inr (.inl (moX r)))), (o 6, .inl (1, 3, .inr (.inl (moY r)))), (q16, .inr (3, [.null, .null, .null, .null, .null, .int 0]))], ⟨in_f18 (by rw [← ((mvY01 (t := t) (j := 2) hpl hm (by decide)).trans (drq_18).symm)]; exact hk11), _, _, rfl⟩, by rw [← hV0, ← hF]; exact (h.sub [5, 6, 0, 1, 2, 3, 4, 7] rfl rfl)⟩)
          · skip
            refine xCall.w (wr := [(o 2, .inl (0, 3, .inl (maF r))), (o 3, .inl (0, 3, .inl u6)), (o 4, .inl (0, 3, .inl u8)), (o 5, .inl (1, 3, .inr (.inl (moX r)))), (o 6, .inl (1, 3, .inr (.inl (moY r))))]) (r_cV hC kX3 (o 0) [.int (plX r 2), .long (r 19), .int (1 * (maF r 2)), .int (-1)] mVX3_moved q416 (fun _ h => ⟨_, h.get 0 rfl⟩) (fun V9 h9 => (metX3_moved1B _ _ hG o t r (plX r 2) (r 19) (1 * (maF r 2)) (dv1_n hm (by decide)) ht hk9) V9 (h9.in.sub [0, 1] rfl rfl)) ⟨rfl, rfl⟩ (Nat.le_of_ble_eq_true rfl) (Nat.le_of_ble_eq_true rfl) rfl (Nat.le_of_ble_eq_true rfl) dX3_drift_34) [0, 1] [2, 3, 4, 5, 6] rfl rfl rfl (by decide) 1 6 37 rfl rfl rfl (fun _ _ h => h.elim) (fun q22 w23 h24 => ?_)
            obtain rfl := h24
            show rx C (xSt F V0 [(o 2, .inl (0, 3, .inl (maF r))), (o 3, .inl (0, 3, .inl u6)), (o 4, .inl (0, 3, .inl u8)), (o 5, .inl (1, 3, .inr (.inl (moX r)))), (o 6, .inl (1, 3, .inr (.inl (moY r)))), (o 0, .inr (2, [.ref (o 1), .ref (o 2), .ref (o 3), .ref (o 4), .ref (o 5), .ref (o 6), .ref (o 7), .ref (o 8), .ref (o 9), .ref (o 10), .int ((r 0).toInt32)])), (o 1, .inl (0, 6, .inl (seF t r))), (q22, .inr (3, [.null, .null, .null, .null, .null, .int 0]))]) 1 6 34 [(3, .int 2), (0, .ref (o 0)), (1, .int (-1)), (2, .int 1)] [.int 2, .ref (o 3)] q22
            subst hu8
            subst hu6
            subst hu4
            subst hu2
            exact rx_out hC hTab (fun _ h => by cases h) (Nat.le_of_ble_eq_true rfl) (Nat.le_of_ble_eq_true rfl) (fun V9 h => hX _ _ ⟨[(o 0, .inr (2, [.ref (o 1), .ref (o 2), .ref (o 3), .ref (o 4), .ref (o 5), .ref (o 6), .ref (o 7), .ref (o 8), .ref (o 9), .ref (o 10), .int ((r 0).toInt32)])), (o 1, .inl (0, 6, .inl (seF t r))), (o 2, .inl (0, 3, .inl (maF r))), (o 3, .inl (0, 3, .inl (va_up (va_up (plX r) 0 ((mvQ t (plX r 0) (r 9) (1 * (maF r 0)) (-1)).toInt32)) 1 ((mvQ t (plX r 1) (r 14) (1 * (maF r 1)) (-1)).toInt32)))), (o 4, .inl (0, 3, .inl (va_up (va_up (plY r) 0 ((mvQ t (plY r 0) (r 10) (1 * (maF r 0)) (-1)).toInt32)) 1 ((mvQ t (plY r 1) (r 15) (1 * (maF r 1)) (-1)).toInt32)))), (o 5, .inl (1, 3, .inr (.inl (moX r)))), (o 6, .inl (1, 3, .inr (.inl (moY r)))), (q22, .inr (3, [.null, .null, .null, .null, .null, .int 0]))], ⟨in_f17 (by rw [← ((mvX01 (t := t) (j := 2) hpl hm (by decide)).trans (drq_17).symm)]; exact hk9), _, _, rfl⟩, by rw [← hV0, ← hF]; exact (h.sub [5, 6, 0, 1, 2, 3, 4, 7] rfl rfl)⟩)
        · skip
          refine xCall.w (wr := [(o 2, .inl (0, 3, .inl (maF r))), (o 3, .inl (0, 3, .inl u6)), (o 4, .inl (0, 3, .inl u4)), (o 5, .inl (1, 3, .inr (.inl (moX r)))), (o 6, .inl (1, 3, .inr (.inl (moY r))))]) (r_cV hC kX3 (o 0) [.int (plY r 1), .long (r 15), .int (1 * (maF r 1)), .int (-1)] mVX3_moved q416 (fun _ h => ⟨_, h.get 0 rfl⟩) (fun V9 h9 => (metX3_moved1B _ _ hG o t r (plY r 1) (r 15) (1 * (maF r 1)) (dv1_n hm (by decide)) ht hk7) V9 (h9.in.sub [0, 1] rfl rfl)) ⟨rfl, rfl⟩ (Nat.le_of_ble_eq_true rfl) (Nat.le_of_ble_eq_true rfl) rfl (Nat.le_of_ble_eq_true rfl) dX3_drift_65) [0, 1] [2, 3, 4, 5, 6] rfl rfl rfl (by decide) 1 6 68 rfl rfl rfl (fun _ _ h => h.elim) (fun q28 w29 h30 => ?_)
          obtain rfl := h30
          show rx C (xSt F V0 [(o 2, .inl (0, 3, .inl (maF r))), (o 3, .inl (0, 3, .inl u6)), (o 4, .inl (0, 3, .inl u4)), (o 5, .inl (1, 3, .inr (.inl (moX r)))), (o 6, .inl (1, 3, .inr (.inl (moY r)))), (o 0, .inr (2, [.ref (o 1), .ref (o 2), .ref (o 3), .ref (o 4), .ref (o 5), .ref (o 6), .ref (o 7), .ref (o 8), .ref (o 9), .ref (o 10), .int ((r 0).toInt32)])), (o 1, .inl (0, 6, .inl (seF t r))), (q28, .inr (3, [.null, .null, .null, .null, .null, .int 0]))]) 1 6 65 [(3, .int 1), (0, .ref (o 0)), (1, .int (-1)), (2, .int 1)] [.int 1, .ref (o 4)] q28
          subst hu6
          subst hu4
          subst hu2
          exact rx_out hC hTab (fun _ h => by cases h) (Nat.le_of_ble_eq_true rfl) (Nat.le_of_ble_eq_true rfl) (fun V9 h => hX _ _ ⟨[(o 0, .inr (2, [.ref (o 1), .ref (o 2), .ref (o 3), .ref (o 4), .ref (o 5), .ref (o 6), .ref (o 7), .ref (o 8), .ref (o 9), .ref (o 10), .int ((r 0).toInt32)])), (o 1, .inl (0, 6, .inl (seF t r))), (o 2, .inl (0, 3, .inl (maF r))), (o 3, .inl (0, 3, .inl (va_up (va_up (plX r) 0 ((mvQ t (plX r 0) (r 9) (1 * (maF r 0)) (-1)).toInt32)) 1 ((mvQ t (plX r 1) (r 14) (1 * (maF r 1)) (-1)).toInt32)))), (o 4, .inl (0, 3, .inl (va_up (plY r) 0 ((mvQ t (plY r 0) (r 10) (1 * (maF r 0)) (-1)).toInt32)))), (o 5, .inl (1, 3, .inr (.inl (moX r)))), (o 6, .inl (1, 3, .inr (.inl (moY r)))), (q28, .inr (3, [.null, .null, .null, .null, .null, .int 0]))], ⟨in_f13 (by rw [← ((mvY01 (t := t) (j := 1) hpl hm (by decide)).trans (drq_13).symm)]; exact hk7), _, _, rfl⟩, by rw [← hV0, ← hF]; exact (h.sub [5, 6, 0, 1, 2, 3, 4, 7] rfl rfl)⟩)
      · skip
        refine xCall.w (wr := [(o 2, .inl (0, 3, .inl (maF r))), (o 3, .inl (0, 3, .inl u2)), (o 4, .inl (0, 3, .inl u4)), (o 5, .inl (1, 3, .inr (.inl (moX r)))), (o 6, .inl (1, 3, .inr (.inl (moY r))))]) (r_cV hC kX3 (o 0) [.int (plX r 1), .long (r 14), .int (1 * (maF r 1)), .int (-1)] mVX3_moved q416 (fun _ h => ⟨_, h.get 0 rfl⟩) (fun V9 h9 => (metX3_moved1B _ _ hG o t r (plX r 1) (r 14) (1 * (maF r 1)) (dv1_n hm (by decide)) ht hk5) V9 (h9.in.sub [0, 1] rfl rfl)) ⟨rfl, rfl⟩ (Nat.le_of_ble_eq_true rfl) (Nat.le_of_ble_eq_true rfl) rfl (Nat.le_of_ble_eq_true rfl) dX3_drift_34) [0, 1] [2, 3, 4, 5, 6] rfl rfl rfl (by decide) 1 6 37 rfl rfl rfl (fun _ _ h => h.elim) (fun q34 w35 h36 => ?_)
        obtain rfl := h36
        show rx C (xSt F V0 [(o 2, .inl (0, 3, .inl (maF r))), (o 3, .inl (0, 3, .inl u2)), (o 4, .inl (0, 3, .inl u4)), (o 5, .inl (1, 3, .inr (.inl (moX r)))), (o 6, .inl (1, 3, .inr (.inl (moY r)))), (o 0, .inr (2, [.ref (o 1), .ref (o 2), .ref (o 3), .ref (o 4), .ref (o 5), .ref (o 6), .ref (o 7), .ref (o 8), .ref (o 9), .ref (o 10), .int ((r 0).toInt32)])), (o 1, .inl (0, 6, .inl (seF t r))), (q34, .inr (3, [.null, .null, .null, .null, .null, .int 0]))]) 1 6 34 [(3, .int 1), (0, .ref (o 0)), (1, .int (-1)), (2, .int 1)] [.int 1, .ref (o 3)] q34
        subst hu4
        subst hu2
        exact rx_out hC hTab (fun _ h => by cases h) (Nat.le_of_ble_eq_true rfl) (Nat.le_of_ble_eq_true rfl) (fun V9 h => hX _ _ ⟨[(o 0, .inr (2, [.ref (o 1), .ref (o 2), .ref (o 3), .ref (o 4), .ref (o 5), .ref (o 6), .ref (o 7), .ref (o 8), .ref (o 9), .ref (o 10), .int ((r 0).toInt32)])), (o 1, .inl (0, 6, .inl (seF t r))), (o 2, .inl (0, 3, .inl (maF r))), (o 3, .inl (0, 3, .inl (va_up (plX r) 0 ((mvQ t (plX r 0) (r 9) (1 * (maF r 0)) (-1)).toInt32)))), (o 4, .inl (0, 3, .inl (va_up (plY r) 0 ((mvQ t (plY r 0) (r 10) (1 * (maF r 0)) (-1)).toInt32)))), (o 5, .inl (1, 3, .inr (.inl (moX r)))), (o 6, .inl (1, 3, .inr (.inl (moY r)))), (q34, .inr (3, [.null, .null, .null, .null, .null, .int 0]))], ⟨in_f12 (by rw [← ((mvX01 (t := t) (j := 1) hpl hm (by decide)).trans (drq_12).symm)]; exact hk5), _, _, rfl⟩, by rw [← hV0, ← hF]; exact (h.sub [5, 6, 0, 1, 2, 3, 4, 7] rfl rfl)⟩)
    · skip
      refine xCall.w (wr := [(o 2, .inl (0, 3, .inl (maF r))), (o 3, .inl (0, 3, .inl u2)), (o 4, .inl (0, 3, .inl (plY r))), (o 5, .inl (1, 3, .inr (.inl (moX r)))), (o 6, .inl (1, 3, .inr (.inl (moY r))))]) (r_cV hC kX3 (o 0) [.int (plY r 0), .long (r 10), .int (1 * (maF r 0)), .int (-1)] mVX3_moved q416 (fun _ h => ⟨_, h.get 0 rfl⟩) (fun V9 h9 => (metX3_moved1B _ _ hG o t r (plY r 0) (r 10) (1 * (maF r 0)) (dv1_n hm (by decide)) ht hk3) V9 (h9.in.sub [0, 1] rfl rfl)) ⟨rfl, rfl⟩ (Nat.le_of_ble_eq_true rfl) (Nat.le_of_ble_eq_true rfl) rfl (Nat.le_of_ble_eq_true rfl) dX3_drift_65) [0, 1] [2, 3, 4, 5, 6] rfl rfl rfl (by decide) 1 6 68 rfl rfl rfl (fun _ _ h => h.elim) (fun q40 w41 h42 => ?_)
      obtain rfl := h42
      show rx C (xSt F V0 [(o 2, .inl (0, 3, .inl (maF r))), (o 3, .inl (0, 3, .inl u2)), (o 4, .inl (0, 3, .inl (plY r))), (o 5, .inl (1, 3, .inr (.inl (moX r)))), (o 6, .inl (1, 3, .inr (.inl (moY r)))), (o 0, .inr (2, [.ref (o 1), .ref (o 2), .ref (o 3), .ref (o 4), .ref (o 5), .ref (o 6), .ref (o 7), .ref (o 8), .ref (o 9), .ref (o 10), .int ((r 0).toInt32)])), (o 1, .inl (0, 6, .inl (seF t r))), (q40, .inr (3, [.null, .null, .null, .null, .null, .int 0]))]) 1 6 65 [(3, .int 0), (0, .ref (o 0)), (1, .int (-1)), (2, .int 1)] [.int 0, .ref (o 4)] q40
      subst hu2
      exact rx_out hC hTab (fun _ h => by cases h) (Nat.le_of_ble_eq_true rfl) (Nat.le_of_ble_eq_true rfl) (fun V9 h => hX _ _ ⟨[(o 0, .inr (2, [.ref (o 1), .ref (o 2), .ref (o 3), .ref (o 4), .ref (o 5), .ref (o 6), .ref (o 7), .ref (o 8), .ref (o 9), .ref (o 10), .int ((r 0).toInt32)])), (o 1, .inl (0, 6, .inl (seF t r))), (o 2, .inl (0, 3, .inl (maF r))), (o 3, .inl (0, 3, .inl (va_up (plX r) 0 ((mvQ t (plX r 0) (r 9) (1 * (maF r 0)) (-1)).toInt32)))), (o 4, .inl (0, 3, .inl (plY r))), (o 5, .inl (1, 3, .inr (.inl (moX r)))), (o 6, .inl (1, 3, .inr (.inl (moY r)))), (q40, .inr (3, [.null, .null, .null, .null, .null, .int 0]))], ⟨in_f8 (by rw [← ((mvY01 (t := t) (j := 0) hpl hm (by decide)).trans (drq_8).symm)]; exact hk3), _, _, rfl⟩, by rw [← hV0, ← hF]; exact (h.sub [5, 6, 0, 1, 2, 3, 4, 7] rfl rfl)⟩)
  · skip
    refine xCall.w (wr := [(o 2, .inl (0, 3, .inl (maF r))), (o 3, .inl (0, 3, .inl (plX r))), (o 4, .inl (0, 3, .inl (plY r))), (o 5, .inl (1, 3, .inr (.inl (moX r)))), (o 6, .inl (1, 3, .inr (.inl (moY r))))]) (r_cV hC kX3 (o 0) [.int (plX r 0), .long (r 9), .int (1 * (maF r 0)), .int (-1)] mVX3_moved q416 (fun _ h => ⟨_, h.get 0 rfl⟩) (fun V9 h9 => (metX3_moved1B _ _ hG o t r (plX r 0) (r 9) (1 * (maF r 0)) (dv1_n hm (by decide)) ht hk1) V9 (h9.in.sub [0, 1] rfl rfl)) ⟨rfl, rfl⟩ (Nat.le_of_ble_eq_true rfl) (Nat.le_of_ble_eq_true rfl) rfl (Nat.le_of_ble_eq_true rfl) dX3_drift_34) [0, 1] [2, 3, 4, 5, 6] rfl rfl rfl (by decide) 1 6 37 rfl rfl rfl (fun _ _ h => h.elim) (fun q46 w47 h48 => ?_)
    obtain rfl := h48
    show rx C (xSt F V0 [(o 2, .inl (0, 3, .inl (maF r))), (o 3, .inl (0, 3, .inl (plX r))), (o 4, .inl (0, 3, .inl (plY r))), (o 5, .inl (1, 3, .inr (.inl (moX r)))), (o 6, .inl (1, 3, .inr (.inl (moY r)))), (o 0, .inr (2, [.ref (o 1), .ref (o 2), .ref (o 3), .ref (o 4), .ref (o 5), .ref (o 6), .ref (o 7), .ref (o 8), .ref (o 9), .ref (o 10), .int ((r 0).toInt32)])), (o 1, .inl (0, 6, .inl (seF t r))), (q46, .inr (3, [.null, .null, .null, .null, .null, .int 0]))]) 1 6 34 [(3, .int 0), (0, .ref (o 0)), (1, .int (-1)), (2, .int 1)] [.int 0, .ref (o 3)] q46
    exact rx_out hC hTab (fun _ h => by cases h) (Nat.le_of_ble_eq_true rfl) (Nat.le_of_ble_eq_true rfl) (fun V9 h => hX _ _ ⟨[(o 0, .inr (2, [.ref (o 1), .ref (o 2), .ref (o 3), .ref (o 4), .ref (o 5), .ref (o 6), .ref (o 7), .ref (o 8), .ref (o 9), .ref (o 10), .int ((r 0).toInt32)])), (o 1, .inl (0, 6, .inl (seF t r))), (o 2, .inl (0, 3, .inl (maF r))), (o 3, .inl (0, 3, .inl (plX r))), (o 4, .inl (0, 3, .inl (plY r))), (o 5, .inl (1, 3, .inr (.inl (moX r)))), (o 6, .inl (1, 3, .inr (.inl (moY r)))), (q46, .inr (3, [.null, .null, .null, .null, .null, .int 0]))], ⟨in_f7 (by rw [← ((mvX01 (t := t) (j := 0) hpl hm (by decide)).trans (drq_7).symm)]; exact hk1), _, _, rfl⟩, by rw [← hV0, ← hF]; exact (h.sub [5, 6, 0, 1, 2, 3, 4, 7] rfl rfl)⟩)
set_option maxHeartbeats 4000000 in
set_option maxRecDepth 100000 in
theorem metX3_drift01S (l : Launch) (G : xG) (hG : xGood G) (o : Nat → Nat) (t r : Nat → Int64) (hpl : plR r) (hmo : moR r) (ht : tOK t) (hm : mOK r) (hin : isInQ (driftQ t r false true) = true) : xWm l G yX3_drift (Cond.code yX3_drift cX3_drift 4 none) { frames := 3, locals := 75, cells := 0, slots := 0 } [.ref (o 0), .int (-1), .int 1] [(o 0, .inr (2, [.ref (o 1), .ref (o 2), .ref (o 3), .ref (o 4), .ref (o 5), .ref (o 6), .ref (o 7), .ref (o 8), .ref (o 9), .ref (o 10), .int ((r 0).toInt32)])), (o 1, .inl (0, 6, .inl (seF t r))), (o 2, .inl (0, 3, .inl (maF r))), (o 3, .inl (0, 3, .inl (plX r))), (o 4, .inl (0, 3, .inl (plY r))), (o 5, .inl (1, 3, .inr (.inl (moX r)))), (o 6, .inl (1, 3, .inr (.inl (moY r))))] (fun v w' => v = none ∧ isInQ (driftQ t r false true) = true ∧ w' = [(o 0, .inr (2, [.ref (o 1), .ref (o 2), .ref (o 3), .ref (o 4), .ref (o 5), .ref (o 6), .ref (o 7), .ref (o 8), .ref (o 9), .ref (o 10), .int (((driftQ t r false true) 0).toInt32)])), (o 1, .inl (0, 6, .inl (seF t (driftQ t r false true)))), (o 2, .inl (0, 3, .inl (maF (driftQ t r false true)))), (o 3, .inl (0, 3, .inl (plX (driftQ t r false true)))), (o 4, .inl (0, 3, .inl (plY (driftQ t r false true)))), (o 5, .inl (1, 3, .inr (.inl (moX (driftQ t r false true))))), (o 6, .inl (1, 3, .inr (.inl (moY (driftQ t r false true)))))]) (fun _ _ => False) := by
  intro V hV
  refine xMet_ofT RX3 hG rfl (by decide) (Nat.le_of_ble_eq_true rfl) fun C hC hQ hX hl hg _ hTab => ?_
  subst hl hg
  obtain ⟨V0, hV0⟩ : ∃ V0, V0 = V := ⟨_, rfl⟩
  obtain ⟨F, hF⟩ : ∃ F, F = xF [(o 0, .inr (2, [.ref (o 1), .ref (o 2), .ref (o 3), .ref (o 4), .ref (o 5), .ref (o 6), .ref (o 7), .ref (o 8), .ref (o 9), .ref (o 10), .int ((r 0).toInt32)])), (o 1, .inl (0, 6, .inl (seF t r))), (o 2, .inl (0, 3, .inl (maF r))), (o 3, .inl (0, 3, .inl (plX r))), (o 4, .inl (0, 3, .inl (plY r))), (o 5, .inl (1, 3, .inr (.inl (moX r)))), (o 6, .inl (1, 3, .inr (.inl (moY r))))] := ⟨_, rfl⟩
  refine rn.mono (J := xSt F V0 [(o 0, .inr (2, [.ref (o 1), .ref (o 2), .ref (o 3), .ref (o 4), .ref (o 5), .ref (o 6), .ref (o 7), .ref (o 8), .ref (o 9), .ref (o 10), .int ((r 0).toInt32)])), (o 1, .inl (0, 6, .inl (seF t r))), (o 2, .inl (0, 3, .inl (maF r))), (o 3, .inl (0, 3, .inl (plX r))), (o 4, .inl (0, 3, .inl (plY r))), (o 5, .inl (1, 3, .inr (.inl (moX r)))), (o 6, .inl (1, 3, .inr (.inl (moY r))))]) (fun V9 h => by rw [h, hV0, hF]; exact hV.st) ?_
  show rn C (xSt F V0 [(o 0, .inr (2, [.ref (o 1), .ref (o 2), .ref (o 3), .ref (o 4), .ref (o 5), .ref (o 6), .ref (o 7), .ref (o 8), .ref (o 9), .ref (o 10), .int ((r 0).toInt32)])), (o 1, .inl (0, 6, .inl (seF t r))), (o 2, .inl (0, 3, .inl (maF r))), (o 3, .inl (0, 3, .inl (plX r))), (o 4, .inl (0, 3, .inl (plY r))), (o 5, .inl (1, 3, .inr (.inl (moX r)))), (o 6, .inl (1, 3, .inr (.inl (moY r))))]) 0 0 0 [(0, .ref (o 0)), (1, .int (-1)), (2, .int 1)] []
  refine r_iconst hC 0 dX3_drift_0 ic_0 1 rfl ?_
  refine r_istore_n hC 3 [(3, .int 0), (0, .ref (o 0)), (1, .int (-1)), (2, .int 1)] dX3_drift_1 rfl (Nat.le_of_ble_eq_true rfl) rfl 2 rfl ?_
  refine r_iload_n hC 0 dX3_drift_2 rfl 3 rfl ?_
  refine r_iconst hC 3 dX3_drift_3 ic_3 4 rfl ?_
  refine r_icge hC 75 dX3_drift_4 (by decide) 7 rfl (fun h => absurd h (by decide)) (fun _ => ?_)
  refine r_aload_n hC 1 dX3_drift_7 rfl 8 rfl ?_
  refine r_get (v := .ref (o 3)) hC kX3 2 rfl q180 (fun _ h => h.get 0 rfl) rfl dX3_drift_8 11 rfl ?_
  refine r_iload_n hC 0 dX3_drift_11 rfl 12 rfl ?_
  refine r_aload_n hC 1 dX3_drift_12 rfl 13 rfl ?_
  refine r_aload_n hC 1 dX3_drift_13 rfl 14 rfl ?_
  refine r_get (v := .ref (o 3)) hC kX3 2 rfl q180 (fun _ h => h.get 0 rfl) rfl dX3_drift_14 17 rfl ?_
  refine r_iload_n hC 0 dX3_drift_17 rfl 18 rfl ?_
  refine r_iald hC 0 (xix_n 0 (Nat.le_of_ble_eq_true rfl) (Nat.le_of_ble_eq_true rfl)) (fun _ h => h.get 3 rfl) (plX r 0) (rfl) dX3_drift_18 19 rfl ?_
  refine r_aload_n hC 1 dX3_drift_19 rfl 20 rfl ?_
  refine r_get (v := .ref (o 5)) hC kX3 4 rfl q188 (fun _ h => h.get 0 rfl) rfl dX3_drift_20 23 rfl ?_
  refine r_iload_n hC 0 dX3_drift_23 rfl 24 rfl ?_
  refine r_lald hC 0 (xix_n 0 (Nat.le_of_ble_eq_true rfl) (Nat.le_of_ble_eq_true rfl)) (fun _ h => h.get 5 rfl) (moX r 0) (rfl) dX3_drift_24 25 rfl ?_
  refine r_eql (y := r 9) (rfl) ?_
  refine r_iload_n hC 3 dX3_drift_25 rfl 26 rfl ?_
  refine r_aload_n hC 1 dX3_drift_26 rfl 27 rfl ?_
  refine r_get (v := .ref (o 2)) hC kX3 1 rfl q177 (fun _ h => h.get 0 rfl) rfl dX3_drift_27 30 rfl ?_
  refine r_iload_n hC 0 dX3_drift_30 rfl 31 rfl ?_
  refine r_iald hC 0 (xix_n 0 (Nat.le_of_ble_eq_true rfl) (Nat.le_of_ble_eq_true rfl)) (fun _ h => h.get 2 rfl) (maF r 0) (rfl) dX3_drift_31 32 rfl ?_
  refine r_imul hC (1 * (maF r 0)) dX3_drift_32  (rfl) 33 rfl ?_
  refine r_iload_n hC 2 dX3_drift_33 rfl 34 rfl ?_
  have hk1 : m_in (mvQ t (plX r 0) (r 9) (1 * (maF r 0)) (-1)) (-100000) 100000 = true := by rw [((mvX01 (t := t) (j := 0) hpl hm (by decide)).trans (drq_7).symm)]; exact in_y7 hin
  refine xCall.r (r := some (.int ((mvQ t (plX r 0) (r 9) (1 * (maF r 0)) (-1)).toInt32))) (r_cV hC kX3 (o 0) [.int (plX r 0), .long (r 9), .int (1 * (maF r 0)), .int (-1)] mVX3_moved q416 (fun _ h => ⟨_, h.get 0 rfl⟩) (fun V9 h9 => (metX3_moved1G _ _ hG o t r (plX r 0) (r 9) (1 * (maF r 0)) (dv1_n hm (by decide)) ht hk1) V9 (h9.in.sub [0, 1] rfl rfl)) ⟨rfl, rfl⟩ (Nat.le_of_ble_eq_true rfl) (Nat.le_of_ble_eq_true rfl) rfl (Nat.le_of_ble_eq_true rfl) dX3_drift_34) 0 0 37 rfl rfl rfl ?_
  refine r_iast (J := xSt F V0 [(o 0, .inr (2, [.ref (o 1), .ref (o 2), .ref (o 3), .ref (o 4), .ref (o 5), .ref (o 6), .ref (o 7), .ref (o 8), .ref (o 9), .ref (o 10), .int ((r 0).toInt32)])), (o 1, .inl (0, 6, .inl (seF t r))), (o 2, .inl (0, 3, .inl (maF r))), (o 3, .inl (0, 3, .inl (va_up (plX r) 0 ((mvQ t (plX r 0) (r 9) (1 * (maF r 0)) (-1)).toInt32)))), (o 4, .inl (0, 3, .inl (plY r))), (o 5, .inl (1, 3, .inr (.inl (moX r)))), (o 6, .inl (1, 3, .inr (.inl (moY r))))]) hC 0 (xix_n 0 (Nat.le_of_ble_eq_true rfl) (Nat.le_of_ble_eq_true rfl)) (fun _ h => h.get 3 rfl) dX3_drift_37 (fun _ h => h.set 3 _ rfl) 38 rfl ?_
  generalize hu2 : va_up (plX r) 0 ((mvQ t (plX r 0) (r 9) (1 * (maF r 0)) (-1)).toInt32) = u2
  refine r_aload_n hC 1 dX3_drift_38 rfl 39 rfl ?_
  refine r_get (v := .ref (o 4)) hC kX3 3 rfl q184 (fun _ h => h.get 0 rfl) rfl dX3_drift_39 42 rfl ?_
  refine r_iload_n hC 0 dX3_drift_42 rfl 43 rfl ?_
  refine r_aload_n hC 1 dX3_drift_43 rfl 44 rfl ?_
  refine r_aload_n hC 1 dX3_drift_44 rfl 45 rfl ?_
  refine r_get (v := .ref (o 4)) hC kX3 3 rfl q184 (fun _ h => h.get 0 rfl) rfl dX3_drift_45 48 rfl ?_
  refine r_iload_n hC 0 dX3_drift_48 rfl 49 rfl ?_
  refine r_iald hC 0 (xix_n 0 (Nat.le_of_ble_eq_true rfl) (Nat.le_of_ble_eq_true rfl)) (fun _ h => h.get 4 rfl) (plY r 0) (rfl) dX3_drift_49 50 rfl ?_
  refine r_aload_n hC 1 dX3_drift_50 rfl 51 rfl ?_
  refine r_get (v := .ref (o 6)) hC kX3 5 rfl q191 (fun _ h => h.get 0 rfl) rfl dX3_drift_51 54 rfl ?_
  refine r_iload_n hC 0 dX3_drift_54 rfl 55 rfl ?_
  refine r_lald hC 0 (xix_n 0 (Nat.le_of_ble_eq_true rfl) (Nat.le_of_ble_eq_true rfl)) (fun _ h => h.get 6 rfl) (moY r 0) (rfl) dX3_drift_55 56 rfl ?_
  refine r_eql (y := r 10) (rfl) ?_
  refine r_iload_n hC 3 dX3_drift_56 rfl 57 rfl ?_
  refine r_aload_n hC 1 dX3_drift_57 rfl 58 rfl ?_
  refine r_get (v := .ref (o 2)) hC kX3 1 rfl q177 (fun _ h => h.get 0 rfl) rfl dX3_drift_58 61 rfl ?_
  refine r_iload_n hC 0 dX3_drift_61 rfl 62 rfl ?_
  refine r_iald hC 0 (xix_n 0 (Nat.le_of_ble_eq_true rfl) (Nat.le_of_ble_eq_true rfl)) (fun _ h => h.get 2 rfl) (maF r 0) (rfl) dX3_drift_62 63 rfl ?_
  refine r_imul hC (1 * (maF r 0)) dX3_drift_63  (rfl) 64 rfl ?_
  refine r_iload_n hC 2 dX3_drift_64 rfl 65 rfl ?_
  have hk3 : m_in (mvQ t (plY r 0) (r 10) (1 * (maF r 0)) (-1)) (-100000) 100000 = true := by rw [((mvY01 (t := t) (j := 0) hpl hm (by decide)).trans (drq_8).symm)]; exact in_y8 hin
  refine xCall.r (r := some (.int ((mvQ t (plY r 0) (r 10) (1 * (maF r 0)) (-1)).toInt32))) (r_cV hC kX3 (o 0) [.int (plY r 0), .long (r 10), .int (1 * (maF r 0)), .int (-1)] mVX3_moved q416 (fun _ h => ⟨_, h.get 0 rfl⟩) (fun V9 h9 => (metX3_moved1G _ _ hG o t r (plY r 0) (r 10) (1 * (maF r 0)) (dv1_n hm (by decide)) ht hk3) V9 (h9.in.sub [0, 1] rfl rfl)) ⟨rfl, rfl⟩ (Nat.le_of_ble_eq_true rfl) (Nat.le_of_ble_eq_true rfl) rfl (Nat.le_of_ble_eq_true rfl) dX3_drift_65) 0 0 68 rfl rfl rfl ?_
  refine r_iast (J := xSt F V0 [(o 0, .inr (2, [.ref (o 1), .ref (o 2), .ref (o 3), .ref (o 4), .ref (o 5), .ref (o 6), .ref (o 7), .ref (o 8), .ref (o 9), .ref (o 10), .int ((r 0).toInt32)])), (o 1, .inl (0, 6, .inl (seF t r))), (o 2, .inl (0, 3, .inl (maF r))), (o 3, .inl (0, 3, .inl u2)), (o 4, .inl (0, 3, .inl (va_up (plY r) 0 ((mvQ t (plY r 0) (r 10) (1 * (maF r 0)) (-1)).toInt32)))), (o 5, .inl (1, 3, .inr (.inl (moX r)))), (o 6, .inl (1, 3, .inr (.inl (moY r))))]) hC 0 (xix_n 0 (Nat.le_of_ble_eq_true rfl) (Nat.le_of_ble_eq_true rfl)) (fun _ h => h.get 4 rfl) dX3_drift_68 (fun _ h => h.set 4 _ rfl) 69 rfl ?_
  generalize hu4 : va_up (plY r) 0 ((mvQ t (plY r 0) (r 10) (1 * (maF r 0)) (-1)).toInt32) = u4
  refine r_iinc hC 1 3 0 [(3, .int 1), (0, .ref (o 0)), (1, .int (-1)), (2, .int 1)] dX3_drift_69 rfl (by decide) (Nat.le_of_ble_eq_true rfl) rfl 72 rfl ?_
  refine r_goto hC 2 dX3_drift_72 (by decide) ?_
  refine r_iload_n hC 0 dX3_drift_2 rfl 3 rfl ?_
  refine r_iconst hC 3 dX3_drift_3 ic_3 4 rfl ?_
  refine r_icge hC 75 dX3_drift_4 (by decide) 7 rfl (fun h => absurd h (by decide)) (fun _ => ?_)
  refine r_aload_n hC 1 dX3_drift_7 rfl 8 rfl ?_
  refine r_get (v := .ref (o 3)) hC kX3 2 rfl q180 (fun _ h => h.get 0 rfl) rfl dX3_drift_8 11 rfl ?_
  refine r_iload_n hC 0 dX3_drift_11 rfl 12 rfl ?_
  refine r_aload_n hC 1 dX3_drift_12 rfl 13 rfl ?_
  refine r_aload_n hC 1 dX3_drift_13 rfl 14 rfl ?_
  refine r_get (v := .ref (o 3)) hC kX3 2 rfl q180 (fun _ h => h.get 0 rfl) rfl dX3_drift_14 17 rfl ?_
  refine r_iload_n hC 0 dX3_drift_17 rfl 18 rfl ?_
  refine r_iald hC 1 (xix_n 1 (Nat.le_of_ble_eq_true rfl) (Nat.le_of_ble_eq_true rfl)) (fun _ h => h.get 3 rfl) (plX r 1) (by rw [← hu2]; rfl) dX3_drift_18 19 rfl ?_
  refine r_aload_n hC 1 dX3_drift_19 rfl 20 rfl ?_
  refine r_get (v := .ref (o 5)) hC kX3 4 rfl q188 (fun _ h => h.get 0 rfl) rfl dX3_drift_20 23 rfl ?_
  refine r_iload_n hC 0 dX3_drift_23 rfl 24 rfl ?_
  refine r_lald hC 1 (xix_n 1 (Nat.le_of_ble_eq_true rfl) (Nat.le_of_ble_eq_true rfl)) (fun _ h => h.get 5 rfl) (moX r 1) (rfl) dX3_drift_24 25 rfl ?_
  refine r_eql (y := r 14) (rfl) ?_
  refine r_iload_n hC 3 dX3_drift_25 rfl 26 rfl ?_
  refine r_aload_n hC 1 dX3_drift_26 rfl 27 rfl ?_
  refine r_get (v := .ref (o 2)) hC kX3 1 rfl q177 (fun _ h => h.get 0 rfl) rfl dX3_drift_27 30 rfl ?_
  refine r_iload_n hC 0 dX3_drift_30 rfl 31 rfl ?_
  refine r_iald hC 1 (xix_n 1 (Nat.le_of_ble_eq_true rfl) (Nat.le_of_ble_eq_true rfl)) (fun _ h => h.get 2 rfl) (maF r 1) (rfl) dX3_drift_31 32 rfl ?_
  refine r_imul hC (1 * (maF r 1)) dX3_drift_32  (rfl) 33 rfl ?_
  refine r_iload_n hC 2 dX3_drift_33 rfl 34 rfl ?_
  have hk5 : m_in (mvQ t (plX r 1) (r 14) (1 * (maF r 1)) (-1)) (-100000) 100000 = true := by rw [((mvX01 (t := t) (j := 1) hpl hm (by decide)).trans (drq_12).symm)]; exact in_y12 hin
  refine xCall.r (r := some (.int ((mvQ t (plX r 1) (r 14) (1 * (maF r 1)) (-1)).toInt32))) (r_cV hC kX3 (o 0) [.int (plX r 1), .long (r 14), .int (1 * (maF r 1)), .int (-1)] mVX3_moved q416 (fun _ h => ⟨_, h.get 0 rfl⟩) (fun V9 h9 => (metX3_moved1G _ _ hG o t r (plX r 1) (r 14) (1 * (maF r 1)) (dv1_n hm (by decide)) ht hk5) V9 (h9.in.sub [0, 1] rfl rfl)) ⟨rfl, rfl⟩ (Nat.le_of_ble_eq_true rfl) (Nat.le_of_ble_eq_true rfl) rfl (Nat.le_of_ble_eq_true rfl) dX3_drift_34) 0 0 37 rfl rfl rfl ?_
  refine r_iast (J := xSt F V0 [(o 0, .inr (2, [.ref (o 1), .ref (o 2), .ref (o 3), .ref (o 4), .ref (o 5), .ref (o 6), .ref (o 7), .ref (o 8), .ref (o 9), .ref (o 10), .int ((r 0).toInt32)])), (o 1, .inl (0, 6, .inl (seF t r))), (o 2, .inl (0, 3, .inl (maF r))), (o 3, .inl (0, 3, .inl (va_up u2 1 ((mvQ t (plX r 1) (r 14) (1 * (maF r 1)) (-1)).toInt32)))), (o 4, .inl (0, 3, .inl u4)), (o 5, .inl (1, 3, .inr (.inl (moX r)))), (o 6, .inl (1, 3, .inr (.inl (moY r))))]) hC 1 (xix_n 1 (Nat.le_of_ble_eq_true rfl) (Nat.le_of_ble_eq_true rfl)) (fun _ h => h.get 3 rfl) dX3_drift_37 (fun _ h => h.set 3 _ rfl) 38 rfl ?_
  generalize hu6 : va_up u2 1 ((mvQ t (plX r 1) (r 14) (1 * (maF r 1)) (-1)).toInt32) = u6
  refine r_aload_n hC 1 dX3_drift_38 rfl 39 rfl ?_
  refine r_get (v := .ref (o 4)) hC kX3 3 rfl q184 (fun _ h => h.get 0 rfl) rfl dX3_drift_39 42 rfl ?_
  refine r_iload_n hC 0 dX3_drift_42 rfl 43 rfl ?_
  refine r_aload_n hC 1 dX3_drift_43 rfl 44 rfl ?_
  refine r_aload_n hC 1 dX3_drift_44 rfl 45 rfl ?_
  refine r_get (v := .ref (o 4)) hC kX3 3 rfl q184 (fun _ h => h.get 0 rfl) rfl dX3_drift_45 48 rfl ?_
  refine r_iload_n hC 0 dX3_drift_48 rfl 49 rfl ?_
  refine r_iald hC 1 (xix_n 1 (Nat.le_of_ble_eq_true rfl) (Nat.le_of_ble_eq_true rfl)) (fun _ h => h.get 4 rfl) (plY r 1) (by rw [← hu4]; rfl) dX3_drift_49 50 rfl ?_
  refine r_aload_n hC 1 dX3_drift_50 rfl 51 rfl ?_
  refine r_get (v := .ref (o 6)) hC kX3 5 rfl q191 (fun _ h => h.get 0 rfl) rfl dX3_drift_51 54 rfl ?_
  refine r_iload_n hC 0 dX3_drift_54 rfl 55 rfl ?_
  refine r_lald hC 1 (xix_n 1 (Nat.le_of_ble_eq_true rfl) (Nat.le_of_ble_eq_true rfl)) (fun _ h => h.get 6 rfl) (moY r 1) (rfl) dX3_drift_55 56 rfl ?_
  refine r_eql (y := r 15) (rfl) ?_
  refine r_iload_n hC 3 dX3_drift_56 rfl 57 rfl ?_
  refine r_aload_n hC 1 dX3_drift_57 rfl 58 rfl ?_
  refine r_get (v := .ref (o 2)) hC kX3 1 rfl q177 (fun _ h => h.get 0 rfl) rfl dX3_drift_58 61 rfl ?_
  refine r_iload_n hC 0 dX3_drift_61 rfl 62 rfl ?_
  refine r_iald hC 1 (xix_n 1 (Nat.le_of_ble_eq_true rfl) (Nat.le_of_ble_eq_true rfl)) (fun _ h => h.get 2 rfl) (maF r 1) (rfl) dX3_drift_62 63 rfl ?_
  refine r_imul hC (1 * (maF r 1)) dX3_drift_63  (rfl) 64 rfl ?_
  refine r_iload_n hC 2 dX3_drift_64 rfl 65 rfl ?_
  have hk7 : m_in (mvQ t (plY r 1) (r 15) (1 * (maF r 1)) (-1)) (-100000) 100000 = true := by rw [((mvY01 (t := t) (j := 1) hpl hm (by decide)).trans (drq_13).symm)]; exact in_y13 hin
  refine xCall.r (r := some (.int ((mvQ t (plY r 1) (r 15) (1 * (maF r 1)) (-1)).toInt32))) (r_cV hC kX3 (o 0) [.int (plY r 1), .long (r 15), .int (1 * (maF r 1)), .int (-1)] mVX3_moved q416 (fun _ h => ⟨_, h.get 0 rfl⟩) (fun V9 h9 => (metX3_moved1G _ _ hG o t r (plY r 1) (r 15) (1 * (maF r 1)) (dv1_n hm (by decide)) ht hk7) V9 (h9.in.sub [0, 1] rfl rfl)) ⟨rfl, rfl⟩ (Nat.le_of_ble_eq_true rfl) (Nat.le_of_ble_eq_true rfl) rfl (Nat.le_of_ble_eq_true rfl) dX3_drift_65) 0 0 68 rfl rfl rfl ?_
  refine r_iast (J := xSt F V0 [(o 0, .inr (2, [.ref (o 1), .ref (o 2), .ref (o 3), .ref (o 4), .ref (o 5), .ref (o 6), .ref (o 7), .ref (o 8), .ref (o 9), .ref (o 10), .int ((r 0).toInt32)])), (o 1, .inl (0, 6, .inl (seF t r))), (o 2, .inl (0, 3, .inl (maF r))), (o 3, .inl (0, 3, .inl u6)), (o 4, .inl (0, 3, .inl (va_up u4 1 ((mvQ t (plY r 1) (r 15) (1 * (maF r 1)) (-1)).toInt32)))), (o 5, .inl (1, 3, .inr (.inl (moX r)))), (o 6, .inl (1, 3, .inr (.inl (moY r))))]) hC 1 (xix_n 1 (Nat.le_of_ble_eq_true rfl) (Nat.le_of_ble_eq_true rfl)) (fun _ h => h.get 4 rfl) dX3_drift_68 (fun _ h => h.set 4 _ rfl) 69 rfl ?_
  generalize hu8 : va_up u4 1 ((mvQ t (plY r 1) (r 15) (1 * (maF r 1)) (-1)).toInt32) = u8
  refine r_iinc hC 2 3 0 [(3, .int 2), (0, .ref (o 0)), (1, .int (-1)), (2, .int 1)] dX3_drift_69 rfl (by decide) (Nat.le_of_ble_eq_true rfl) rfl 72 rfl ?_
  refine r_goto hC 2 dX3_drift_72 (by decide) ?_
  refine r_iload_n hC 0 dX3_drift_2 rfl 3 rfl ?_
  refine r_iconst hC 3 dX3_drift_3 ic_3 4 rfl ?_
  refine r_icge hC 75 dX3_drift_4 (by decide) 7 rfl (fun h => absurd h (by decide)) (fun _ => ?_)
  refine r_aload_n hC 1 dX3_drift_7 rfl 8 rfl ?_
  refine r_get (v := .ref (o 3)) hC kX3 2 rfl q180 (fun _ h => h.get 0 rfl) rfl dX3_drift_8 11 rfl ?_
  refine r_iload_n hC 0 dX3_drift_11 rfl 12 rfl ?_
  refine r_aload_n hC 1 dX3_drift_12 rfl 13 rfl ?_
  refine r_aload_n hC 1 dX3_drift_13 rfl 14 rfl ?_
  refine r_get (v := .ref (o 3)) hC kX3 2 rfl q180 (fun _ h => h.get 0 rfl) rfl dX3_drift_14 17 rfl ?_
  refine r_iload_n hC 0 dX3_drift_17 rfl 18 rfl ?_
  refine r_iald hC 2 (xix_n 2 (Nat.le_of_ble_eq_true rfl) (Nat.le_of_ble_eq_true rfl)) (fun _ h => h.get 3 rfl) (plX r 2) (by rw [← hu6, ← hu2]; rfl) dX3_drift_18 19 rfl ?_
  refine r_aload_n hC 1 dX3_drift_19 rfl 20 rfl ?_
  refine r_get (v := .ref (o 5)) hC kX3 4 rfl q188 (fun _ h => h.get 0 rfl) rfl dX3_drift_20 23 rfl ?_
  refine r_iload_n hC 0 dX3_drift_23 rfl 24 rfl ?_
  refine r_lald hC 2 (xix_n 2 (Nat.le_of_ble_eq_true rfl) (Nat.le_of_ble_eq_true rfl)) (fun _ h => h.get 5 rfl) (moX r 2) (rfl) dX3_drift_24 25 rfl ?_
  refine r_eql (y := r 19) (rfl) ?_
  refine r_iload_n hC 3 dX3_drift_25 rfl 26 rfl ?_
  refine r_aload_n hC 1 dX3_drift_26 rfl 27 rfl ?_
  refine r_get (v := .ref (o 2)) hC kX3 1 rfl q177 (fun _ h => h.get 0 rfl) rfl dX3_drift_27 30 rfl ?_
  refine r_iload_n hC 0 dX3_drift_30 rfl 31 rfl ?_
  refine r_iald hC 2 (xix_n 2 (Nat.le_of_ble_eq_true rfl) (Nat.le_of_ble_eq_true rfl)) (fun _ h => h.get 2 rfl) (maF r 2) (rfl) dX3_drift_31 32 rfl ?_
  refine r_imul hC (1 * (maF r 2)) dX3_drift_32  (rfl) 33 rfl ?_
  refine r_iload_n hC 2 dX3_drift_33 rfl 34 rfl ?_
  have hk9 : m_in (mvQ t (plX r 2) (r 19) (1 * (maF r 2)) (-1)) (-100000) 100000 = true := by rw [((mvX01 (t := t) (j := 2) hpl hm (by decide)).trans (drq_17).symm)]; exact in_y17 hin
  refine xCall.r (r := some (.int ((mvQ t (plX r 2) (r 19) (1 * (maF r 2)) (-1)).toInt32))) (r_cV hC kX3 (o 0) [.int (plX r 2), .long (r 19), .int (1 * (maF r 2)), .int (-1)] mVX3_moved q416 (fun _ h => ⟨_, h.get 0 rfl⟩) (fun V9 h9 => (metX3_moved1G _ _ hG o t r (plX r 2) (r 19) (1 * (maF r 2)) (dv1_n hm (by decide)) ht hk9) V9 (h9.in.sub [0, 1] rfl rfl)) ⟨rfl, rfl⟩ (Nat.le_of_ble_eq_true rfl) (Nat.le_of_ble_eq_true rfl) rfl (Nat.le_of_ble_eq_true rfl) dX3_drift_34) 0 0 37 rfl rfl rfl ?_
  refine r_iast (J := xSt F V0 [(o 0, .inr (2, [.ref (o 1), .ref (o 2), .ref (o 3), .ref (o 4), .ref (o 5), .ref (o 6), .ref (o 7), .ref (o 8), .ref (o 9), .ref (o 10), .int ((r 0).toInt32)])), (o 1, .inl (0, 6, .inl (seF t r))), (o 2, .inl (0, 3, .inl (maF r))), (o 3, .inl (0, 3, .inl (va_up u6 2 ((mvQ t (plX r 2) (r 19) (1 * (maF r 2)) (-1)).toInt32)))), (o 4, .inl (0, 3, .inl u8)), (o 5, .inl (1, 3, .inr (.inl (moX r)))), (o 6, .inl (1, 3, .inr (.inl (moY r))))]) hC 2 (xix_n 2 (Nat.le_of_ble_eq_true rfl) (Nat.le_of_ble_eq_true rfl)) (fun _ h => h.get 3 rfl) dX3_drift_37 (fun _ h => h.set 3 _ rfl) 38 rfl ?_
  generalize hu10 : va_up u6 2 ((mvQ t (plX r 2) (r 19) (1 * (maF r 2)) (-1)).toInt32) = u10
  refine r_aload_n hC 1 dX3_drift_38 rfl 39 rfl ?_
  refine r_get (v := .ref (o 4)) hC kX3 3 rfl q184 (fun _ h => h.get 0 rfl) rfl dX3_drift_39 42 rfl ?_
  refine r_iload_n hC 0 dX3_drift_42 rfl 43 rfl ?_
  refine r_aload_n hC 1 dX3_drift_43 rfl 44 rfl ?_
  refine r_aload_n hC 1 dX3_drift_44 rfl 45 rfl ?_
  refine r_get (v := .ref (o 4)) hC kX3 3 rfl q184 (fun _ h => h.get 0 rfl) rfl dX3_drift_45 48 rfl ?_
  refine r_iload_n hC 0 dX3_drift_48 rfl 49 rfl ?_
  refine r_iald hC 2 (xix_n 2 (Nat.le_of_ble_eq_true rfl) (Nat.le_of_ble_eq_true rfl)) (fun _ h => h.get 4 rfl) (plY r 2) (by rw [← hu8, ← hu4]; rfl) dX3_drift_49 50 rfl ?_
  refine r_aload_n hC 1 dX3_drift_50 rfl 51 rfl ?_
  refine r_get (v := .ref (o 6)) hC kX3 5 rfl q191 (fun _ h => h.get 0 rfl) rfl dX3_drift_51 54 rfl ?_
  refine r_iload_n hC 0 dX3_drift_54 rfl 55 rfl ?_
  refine r_lald hC 2 (xix_n 2 (Nat.le_of_ble_eq_true rfl) (Nat.le_of_ble_eq_true rfl)) (fun _ h => h.get 6 rfl) (moY r 2) (rfl) dX3_drift_55 56 rfl ?_
  refine r_eql (y := r 20) (rfl) ?_
  refine r_iload_n hC 3 dX3_drift_56 rfl 57 rfl ?_
  refine r_aload_n hC 1 dX3_drift_57 rfl 58 rfl ?_
  refine r_get (v := .ref (o 2)) hC kX3 1 rfl q177 (fun _ h => h.get 0 rfl) rfl dX3_drift_58 61 rfl ?_
  refine r_iload_n hC 0 dX3_drift_61 rfl 62 rfl ?_
  refine r_iald hC 2 (xix_n 2 (Nat.le_of_ble_eq_true rfl) (Nat.le_of_ble_eq_true rfl)) (fun _ h => h.get 2 rfl) (maF r 2) (rfl) dX3_drift_62 63 rfl ?_
  refine r_imul hC (1 * (maF r 2)) dX3_drift_63  (rfl) 64 rfl ?_
  refine r_iload_n hC 2 dX3_drift_64 rfl 65 rfl ?_
  have hk11 : m_in (mvQ t (plY r 2) (r 20) (1 * (maF r 2)) (-1)) (-100000) 100000 = true := by rw [((mvY01 (t := t) (j := 2) hpl hm (by decide)).trans (drq_18).symm)]; exact in_y18 hin
  refine xCall.r (r := some (.int ((mvQ t (plY r 2) (r 20) (1 * (maF r 2)) (-1)).toInt32))) (r_cV hC kX3 (o 0) [.int (plY r 2), .long (r 20), .int (1 * (maF r 2)), .int (-1)] mVX3_moved q416 (fun _ h => ⟨_, h.get 0 rfl⟩) (fun V9 h9 => (metX3_moved1G _ _ hG o t r (plY r 2) (r 20) (1 * (maF r 2)) (dv1_n hm (by decide)) ht hk11) V9 (h9.in.sub [0, 1] rfl rfl)) ⟨rfl, rfl⟩ (Nat.le_of_ble_eq_true rfl) (Nat.le_of_ble_eq_true rfl) rfl (Nat.le_of_ble_eq_true rfl) dX3_drift_65) 0 0 68 rfl rfl rfl ?_
  refine r_iast (J := xSt F V0 [(o 0, .inr (2, [.ref (o 1), .ref (o 2), .ref (o 3), .ref (o 4), .ref (o 5), .ref (o 6), .ref (o 7), .ref (o 8), .ref (o 9), .ref (o 10), .int ((r 0).toInt32)])), (o 1, .inl (0, 6, .inl (seF t r))), (o 2, .inl (0, 3, .inl (maF r))), (o 3, .inl (0, 3, .inl u10)), (o 4, .inl (0, 3, .inl (va_up u8 2 ((mvQ t (plY r 2) (r 20) (1 * (maF r 2)) (-1)).toInt32)))), (o 5, .inl (1, 3, .inr (.inl (moX r)))), (o 6, .inl (1, 3, .inr (.inl (moY r))))]) hC 2 (xix_n 2 (Nat.le_of_ble_eq_true rfl) (Nat.le_of_ble_eq_true rfl)) (fun _ h => h.get 4 rfl) dX3_drift_68 (fun _ h => h.set 4 _ rfl) 69 rfl ?_
  generalize hu12 : va_up u8 2 ((mvQ t (plY r 2) (r 20) (1 * (maF r 2)) (-1)).toInt32) = u12
  refine r_iinc hC 3 3 0 [(3, .int 3), (0, .ref (o 0)), (1, .int (-1)), (2, .int 1)] dX3_drift_69 rfl (by decide) (Nat.le_of_ble_eq_true rfl) rfl 72 rfl ?_
  refine r_goto hC 2 dX3_drift_72 (by decide) ?_
  refine r_iload_n hC 0 dX3_drift_2 rfl 3 rfl ?_
  refine r_iconst hC 3 dX3_drift_3 ic_3 4 rfl ?_
  refine r_icge hC 75 dX3_drift_4 (by decide) 7 rfl (fun _ => ?_) (fun h => absurd h (by decide))
  subst hu12
  subst hu10
  subst hu8
  subst hu6
  subst hu4
  subst hu2
  refine rn_cellI (J := xSt F V0 [(o 0, .inr (2, [.ref (o 1), .ref (o 2), .ref (o 3), .ref (o 4), .ref (o 5), .ref (o 6), .ref (o 7), .ref (o 8), .ref (o 9), .ref (o 10), .int ((r 0).toInt32)])), (o 1, .inl (0, 6, .inl (seF t r))), (o 2, .inl (0, 3, .inl (maF (driftQ t r false true)))), (o 3, .inl (0, 3, .inl (va_up (va_up (va_up (plX r) 0 ((mvQ t (plX r 0) (r 9) (1 * (maF r 0)) (-1)).toInt32)) 1 ((mvQ t (plX r 1) (r 14) (1 * (maF r 1)) (-1)).toInt32)) 2 ((mvQ t (plX r 2) (r 19) (1 * (maF r 2)) (-1)).toInt32)))), (o 4, .inl (0, 3, .inl (va_up (va_up (va_up (plY r) 0 ((mvQ t (plY r 0) (r 10) (1 * (maF r 0)) (-1)).toInt32)) 1 ((mvQ t (plY r 1) (r 15) (1 * (maF r 1)) (-1)).toInt32)) 2 ((mvQ t (plY r 2) (r 20) (1 * (maF r 2)) (-1)).toInt32)))), (o 5, .inl (1, 3, .inr (.inl (moX r)))), (o 6, .inl (1, 3, .inr (.inl (moY r))))]) (fun _ h => h.get 2 rfl) (fun j9 hj9 => by
      rcases (show j9 = 0 ∨ j9 = 1 ∨ j9 = 2 by omega) with rfl | rfl | rfl
      · exact congrArg Int64.toInt32 (drq_6).symm
      · exact congrArg Int64.toInt32 (drq_11).symm
      · exact congrArg Int64.toInt32 (drq_16).symm) (fun _ h => h.set 2 _ rfl) ?_
  refine rn_cellI (J := xSt F V0 [(o 0, .inr (2, [.ref (o 1), .ref (o 2), .ref (o 3), .ref (o 4), .ref (o 5), .ref (o 6), .ref (o 7), .ref (o 8), .ref (o 9), .ref (o 10), .int ((r 0).toInt32)])), (o 1, .inl (0, 6, .inl (seF t r))), (o 2, .inl (0, 3, .inl (maF (driftQ t r false true)))), (o 3, .inl (0, 3, .inl (plX (driftQ t r false true)))), (o 4, .inl (0, 3, .inl (va_up (va_up (va_up (plY r) 0 ((mvQ t (plY r 0) (r 10) (1 * (maF r 0)) (-1)).toInt32)) 1 ((mvQ t (plY r 1) (r 15) (1 * (maF r 1)) (-1)).toInt32)) 2 ((mvQ t (plY r 2) (r 20) (1 * (maF r 2)) (-1)).toInt32)))), (o 5, .inl (1, 3, .inr (.inl (moX r)))), (o 6, .inl (1, 3, .inr (.inl (moY r))))]) (fun _ h => h.get 3 rfl) (fun j9 hj9 => by
      rcases (show j9 = 0 ∨ j9 = 1 ∨ j9 = 2 by omega) with rfl | rfl | rfl
      · exact ((up_ne (by decide)).trans ((up_ne (by decide)).trans (up_same _ _ _))).trans (congrArg Int64.toInt32 ((mvX01 (t := t) (j := 0) hpl hm (by decide)).trans (drq_7).symm))
      · exact ((up_ne (by decide)).trans (up_same _ _ _)).trans (congrArg Int64.toInt32 ((mvX01 (t := t) (j := 1) hpl hm (by decide)).trans (drq_12).symm))
      · exact (up_same _ _ _).trans (congrArg Int64.toInt32 ((mvX01 (t := t) (j := 2) hpl hm (by decide)).trans (drq_17).symm))) (fun _ h => h.set 3 _ rfl) ?_
  refine rn_cellI (J := xSt F V0 [(o 0, .inr (2, [.ref (o 1), .ref (o 2), .ref (o 3), .ref (o 4), .ref (o 5), .ref (o 6), .ref (o 7), .ref (o 8), .ref (o 9), .ref (o 10), .int ((r 0).toInt32)])), (o 1, .inl (0, 6, .inl (seF t r))), (o 2, .inl (0, 3, .inl (maF (driftQ t r false true)))), (o 3, .inl (0, 3, .inl (plX (driftQ t r false true)))), (o 4, .inl (0, 3, .inl (plY (driftQ t r false true)))), (o 5, .inl (1, 3, .inr (.inl (moX r)))), (o 6, .inl (1, 3, .inr (.inl (moY r))))]) (fun _ h => h.get 4 rfl) (fun j9 hj9 => by
      rcases (show j9 = 0 ∨ j9 = 1 ∨ j9 = 2 by omega) with rfl | rfl | rfl
      · exact ((up_ne (by decide)).trans ((up_ne (by decide)).trans (up_same _ _ _))).trans (congrArg Int64.toInt32 ((mvY01 (t := t) (j := 0) hpl hm (by decide)).trans (drq_8).symm))
      · exact ((up_ne (by decide)).trans (up_same _ _ _)).trans (congrArg Int64.toInt32 ((mvY01 (t := t) (j := 1) hpl hm (by decide)).trans (drq_13).symm))
      · exact (up_same _ _ _).trans (congrArg Int64.toInt32 ((mvY01 (t := t) (j := 2) hpl hm (by decide)).trans (drq_18).symm))) (fun _ h => h.set 4 _ rfl) ?_
  refine rn_cellJ (J := xSt F V0 [(o 0, .inr (2, [.ref (o 1), .ref (o 2), .ref (o 3), .ref (o 4), .ref (o 5), .ref (o 6), .ref (o 7), .ref (o 8), .ref (o 9), .ref (o 10), .int ((r 0).toInt32)])), (o 1, .inl (0, 6, .inl (seF t r))), (o 2, .inl (0, 3, .inl (maF (driftQ t r false true)))), (o 3, .inl (0, 3, .inl (plX (driftQ t r false true)))), (o 4, .inl (0, 3, .inl (plY (driftQ t r false true)))), (o 5, .inl (1, 3, .inr (.inl (moX (driftQ t r false true))))), (o 6, .inl (1, 3, .inr (.inl (moY r))))]) (fun _ h => h.get 5 rfl) (fun j9 hj9 => by
      rcases (show j9 = 0 ∨ j9 = 1 ∨ j9 = 2 by omega) with rfl | rfl | rfl
      · exact (drq_9).symm
      · exact (drq_14).symm
      · exact (drq_19).symm) (fun _ h => h.set 5 _ rfl) ?_
  refine rn_cellJ (J := xSt F V0 [(o 0, .inr (2, [.ref (o 1), .ref (o 2), .ref (o 3), .ref (o 4), .ref (o 5), .ref (o 6), .ref (o 7), .ref (o 8), .ref (o 9), .ref (o 10), .int ((r 0).toInt32)])), (o 1, .inl (0, 6, .inl (seF t r))), (o 2, .inl (0, 3, .inl (maF (driftQ t r false true)))), (o 3, .inl (0, 3, .inl (plX (driftQ t r false true)))), (o 4, .inl (0, 3, .inl (plY (driftQ t r false true)))), (o 5, .inl (1, 3, .inr (.inl (moX (driftQ t r false true))))), (o 6, .inl (1, 3, .inr (.inl (moY (driftQ t r false true)))))]) (fun _ h => h.get 6 rfl) (fun j9 hj9 => by
      rcases (show j9 = 0 ∨ j9 = 1 ∨ j9 = 2 by omega) with rfl | rfl | rfl
      · exact (drq_10).symm
      · exact (drq_15).symm
      · exact (drq_20).symm) (fun _ h => h.set 6 _ rfl) ?_
  exact r_vret hC (Nat.le_of_ble_eq_true rfl) (Nat.le_of_ble_eq_true rfl) (fun V9 h => hQ _ _ ⟨[(o 0, .inr (2, [.ref (o 1), .ref (o 2), .ref (o 3), .ref (o 4), .ref (o 5), .ref (o 6), .ref (o 7), .ref (o 8), .ref (o 9), .ref (o 10), .int (((driftQ t r false true) 0).toInt32)])), (o 1, .inl (0, 6, .inl (seF t (driftQ t r false true)))), (o 2, .inl (0, 3, .inl (maF (driftQ t r false true)))), (o 3, .inl (0, 3, .inl (plX (driftQ t r false true)))), (o 4, .inl (0, 3, .inl (plY (driftQ t r false true)))), (o 5, .inl (1, 3, .inr (.inl (moX (driftQ t r false true))))), (o 6, .inl (1, 3, .inr (.inl (moY (driftQ t r false true)))))], ⟨rfl, in_t2 (moR_drift hmo) (by rw [← ((mvX01 (t := t) (j := 0) hpl hm (by decide)).trans (drq_7).symm)]; exact hk1) (by rw [← ((mvY01 (t := t) (j := 0) hpl hm (by decide)).trans (drq_8).symm)]; exact hk3) (by rw [← ((mvX01 (t := t) (j := 1) hpl hm (by decide)).trans (drq_12).symm)]; exact hk5) (by rw [← ((mvY01 (t := t) (j := 1) hpl hm (by decide)).trans (drq_13).symm)]; exact hk7) (by rw [← ((mvX01 (t := t) (j := 2) hpl hm (by decide)).trans (drq_17).symm)]; exact hk9) (by rw [← ((mvY01 (t := t) (j := 2) hpl hm (by decide)).trans (drq_18).symm)]; exact hk11), rfl⟩, by rw [← hV0, ← hF]; exact h⟩) dX3_drift_75
set_option maxHeartbeats 4000000 in
set_option maxRecDepth 100000 in
theorem metX3_drift10 (l : Launch) (G : xG) (hG : xGood G) (o : Nat → Nat) (t r : Nat → Int64) (hpl : plR r) (hmo : moR r) (ht : tOK t) (hm : mOK r) : xWm l G yX3_drift (Cond.code yX3_drift cX3_drift 4 none) { frames := 6, locals := 138, cells := 1, slots := 6 } [.ref (o 0), .int 1, .int 2] [(o 0, .inr (2, [.ref (o 1), .ref (o 2), .ref (o 3), .ref (o 4), .ref (o 5), .ref (o 6), .ref (o 7), .ref (o 8), .ref (o 9), .ref (o 10), .int ((r 0).toInt32)])), (o 1, .inl (0, 6, .inl (seF t r))), (o 2, .inl (0, 3, .inl (maF r))), (o 3, .inl (0, 3, .inl (plX r))), (o 4, .inl (0, 3, .inl (plY r))), (o 5, .inl (1, 3, .inr (.inl (moX r)))), (o 6, .inl (1, 3, .inr (.inl (moY r))))] (fun v w' => v = none ∧ isInQ (driftQ t r true false) = true ∧ w' = [(o 0, .inr (2, [.ref (o 1), .ref (o 2), .ref (o 3), .ref (o 4), .ref (o 5), .ref (o 6), .ref (o 7), .ref (o 8), .ref (o 9), .ref (o 10), .int (((driftQ t r true false) 0).toInt32)])), (o 1, .inl (0, 6, .inl (seF t (driftQ t r true false)))), (o 2, .inl (0, 3, .inl (maF (driftQ t r true false)))), (o 3, .inl (0, 3, .inl (plX (driftQ t r true false)))), (o 4, .inl (0, 3, .inl (plY (driftQ t r true false)))), (o 5, .inl (1, 3, .inr (.inl (moX (driftQ t r true false))))), (o 6, .inl (1, 3, .inr (.inl (moY (driftQ t r true false)))))]) (fun q w' => isInQ (driftQ t r true false) = false ∧ ∃ x' y' : Nat → Int32, w' = [(o 0, .inr (2, [.ref (o 1), .ref (o 2), .ref (o 3), .ref (o 4), .ref (o 5), .ref (o 6), .ref (o 7), .ref (o 8), .ref (o 9), .ref (o 10), .int ((r 0).toInt32)])), (o 1, .inl (0, 6, .inl (seF t r))), (o 2, .inl (0, 3, .inl (maF r))), (o 3, .inl (0, 3, .inl x')), (o 4, .inl (0, 3, .inl y')), (o 5, .inl (1, 3, .inr (.inl (moX r)))), (o 6, .inl (1, 3, .inr (.inl (moY r)))), (q, .inr (3, [.null, .null, .null, .null, .null, .int 0]))]) := by
  intro V hV
  refine xMet_ofT RX3 hG rfl (by decide) (Nat.le_of_ble_eq_true rfl) fun C hC hQ hX hl hg _ hTab => ?_
  subst hl hg
  obtain ⟨V0, hV0⟩ : ∃ V0, V0 = V := ⟨_, rfl⟩
  obtain ⟨F, hF⟩ : ∃ F, F = xF [(o 0, .inr (2, [.ref (o 1), .ref (o 2), .ref (o 3), .ref (o 4), .ref (o 5), .ref (o 6), .ref (o 7), .ref (o 8), .ref (o 9), .ref (o 10), .int ((r 0).toInt32)])), (o 1, .inl (0, 6, .inl (seF t r))), (o 2, .inl (0, 3, .inl (maF r))), (o 3, .inl (0, 3, .inl (plX r))), (o 4, .inl (0, 3, .inl (plY r))), (o 5, .inl (1, 3, .inr (.inl (moX r)))), (o 6, .inl (1, 3, .inr (.inl (moY r))))] := ⟨_, rfl⟩
  refine rn.mono (J := xSt F V0 [(o 0, .inr (2, [.ref (o 1), .ref (o 2), .ref (o 3), .ref (o 4), .ref (o 5), .ref (o 6), .ref (o 7), .ref (o 8), .ref (o 9), .ref (o 10), .int ((r 0).toInt32)])), (o 1, .inl (0, 6, .inl (seF t r))), (o 2, .inl (0, 3, .inl (maF r))), (o 3, .inl (0, 3, .inl (plX r))), (o 4, .inl (0, 3, .inl (plY r))), (o 5, .inl (1, 3, .inr (.inl (moX r)))), (o 6, .inl (1, 3, .inr (.inl (moY r))))]) (fun V9 h => by rw [h, hV0, hF]; exact hV.st) ?_
  show rn C (xSt F V0 [(o 0, .inr (2, [.ref (o 1), .ref (o 2), .ref (o 3), .ref (o 4), .ref (o 5), .ref (o 6), .ref (o 7), .ref (o 8), .ref (o 9), .ref (o 10), .int ((r 0).toInt32)])), (o 1, .inl (0, 6, .inl (seF t r))), (o 2, .inl (0, 3, .inl (maF r))), (o 3, .inl (0, 3, .inl (plX r))), (o 4, .inl (0, 3, .inl (plY r))), (o 5, .inl (1, 3, .inr (.inl (moX r)))), (o 6, .inl (1, 3, .inr (.inl (moY r))))]) 0 0 0 [(0, .ref (o 0)), (1, .int 1), (2, .int 2)] []
  refine r_iconst hC 0 dX3_drift_0 ic_0 1 rfl ?_
  refine r_istore_n hC 3 [(3, .int 0), (0, .ref (o 0)), (1, .int 1), (2, .int 2)] dX3_drift_1 rfl (Nat.le_of_ble_eq_true rfl) rfl 2 rfl ?_
  refine r_iload_n hC 0 dX3_drift_2 rfl 3 rfl ?_
  refine r_iconst hC 3 dX3_drift_3 ic_3 4 rfl ?_
  refine r_icge hC 75 dX3_drift_4 (by decide) 7 rfl (fun h => absurd h (by decide)) (fun _ => ?_)
  refine r_aload_n hC 1 dX3_drift_7 rfl 8 rfl ?_
  refine r_get (v := .ref (o 3)) hC kX3 2 rfl q180 (fun _ h => h.get 0 rfl) rfl dX3_drift_8 11 rfl ?_
  refine r_iload_n hC 0 dX3_drift_11 rfl 12 rfl ?_
  refine r_aload_n hC 1 dX3_drift_12 rfl 13 rfl ?_
  refine r_aload_n hC 1 dX3_drift_13 rfl 14 rfl ?_
  refine r_get (v := .ref (o 3)) hC kX3 2 rfl q180 (fun _ h => h.get 0 rfl) rfl dX3_drift_14 17 rfl ?_
  refine r_iload_n hC 0 dX3_drift_17 rfl 18 rfl ?_
  refine r_iald hC 0 (xix_n 0 (Nat.le_of_ble_eq_true rfl) (Nat.le_of_ble_eq_true rfl)) (fun _ h => h.get 3 rfl) (plX r 0) (rfl) dX3_drift_18 19 rfl ?_
  refine r_aload_n hC 1 dX3_drift_19 rfl 20 rfl ?_
  refine r_get (v := .ref (o 5)) hC kX3 4 rfl q188 (fun _ h => h.get 0 rfl) rfl dX3_drift_20 23 rfl ?_
  refine r_iload_n hC 0 dX3_drift_23 rfl 24 rfl ?_
  refine r_lald hC 0 (xix_n 0 (Nat.le_of_ble_eq_true rfl) (Nat.le_of_ble_eq_true rfl)) (fun _ h => h.get 5 rfl) (moX r 0) (rfl) dX3_drift_24 25 rfl ?_
  refine r_eql (y := r 9) (rfl) ?_
  refine r_iload_n hC 3 dX3_drift_25 rfl 26 rfl ?_
  refine r_aload_n hC 1 dX3_drift_26 rfl 27 rfl ?_
  refine r_get (v := .ref (o 2)) hC kX3 1 rfl q177 (fun _ h => h.get 0 rfl) rfl dX3_drift_27 30 rfl ?_
  refine r_iload_n hC 0 dX3_drift_30 rfl 31 rfl ?_
  refine r_iald hC 0 (xix_n 0 (Nat.le_of_ble_eq_true rfl) (Nat.le_of_ble_eq_true rfl)) (fun _ h => h.get 2 rfl) (maF r 0) (rfl) dX3_drift_31 32 rfl ?_
  refine r_imul hC (2 * (maF r 0)) dX3_drift_32  (rfl) 33 rfl ?_
  refine r_iload_n hC 2 dX3_drift_33 rfl 34 rfl ?_
  rcases Bool.eq_false_or_eq_true (m_in (mvQ t (plX r 0) (r 9) (2 * (maF r 0)) 1) (-100000) 100000) with hk1 | hk1
  · skip
    refine xCall.r (r := some (.int ((mvQ t (plX r 0) (r 9) (2 * (maF r 0)) 1).toInt32))) (r_cV hC kX3 (o 0) [.int (plX r 0), .long (r 9), .int (2 * (maF r 0)), .int 1] mVX3_moved q416 (fun _ h => ⟨_, h.get 0 rfl⟩) (fun V9 h9 => (metX3_moved0G _ _ hG o t r (plX r 0) (r 9) (2 * (maF r 0)) (dv2_n hm (by decide)) ht hk1) V9 (h9.in.sub [0, 1] rfl rfl)) ⟨rfl, rfl⟩ (Nat.le_of_ble_eq_true rfl) (Nat.le_of_ble_eq_true rfl) rfl (Nat.le_of_ble_eq_true rfl) dX3_drift_34) 0 0 37 rfl rfl rfl ?_
    refine r_iast (J := xSt F V0 [(o 0, .inr (2, [.ref (o 1), .ref (o 2), .ref (o 3), .ref (o 4), .ref (o 5), .ref (o 6), .ref (o 7), .ref (o 8), .ref (o 9), .ref (o 10), .int ((r 0).toInt32)])), (o 1, .inl (0, 6, .inl (seF t r))), (o 2, .inl (0, 3, .inl (maF r))), (o 3, .inl (0, 3, .inl (va_up (plX r) 0 ((mvQ t (plX r 0) (r 9) (2 * (maF r 0)) 1).toInt32)))), (o 4, .inl (0, 3, .inl (plY r))), (o 5, .inl (1, 3, .inr (.inl (moX r)))), (o 6, .inl (1, 3, .inr (.inl (moY r))))]) hC 0 (xix_n 0 (Nat.le_of_ble_eq_true rfl) (Nat.le_of_ble_eq_true rfl)) (fun _ h => h.get 3 rfl) dX3_drift_37 (fun _ h => h.set 3 _ rfl) 38 rfl ?_
    generalize hu2 : va_up (plX r) 0 ((mvQ t (plX r 0) (r 9) (2 * (maF r 0)) 1).toInt32) = u2
    refine r_aload_n hC 1 dX3_drift_38 rfl 39 rfl ?_
    refine r_get (v := .ref (o 4)) hC kX3 3 rfl q184 (fun _ h => h.get 0 rfl) rfl dX3_drift_39 42 rfl ?_
    refine r_iload_n hC 0 dX3_drift_42 rfl 43 rfl ?_
    refine r_aload_n hC 1 dX3_drift_43 rfl 44 rfl ?_
    refine r_aload_n hC 1 dX3_drift_44 rfl 45 rfl ?_
    refine r_get (v := .ref (o 4)) hC kX3 3 rfl q184 (fun _ h => h.get 0 rfl) rfl dX3_drift_45 48 rfl ?_
    refine r_iload_n hC 0 dX3_drift_48 rfl 49 rfl ?_
    refine r_iald hC 0 (xix_n 0 (Nat.le_of_ble_eq_true rfl) (Nat.le_of_ble_eq_true rfl)) (fun _ h => h.get 4 rfl) (plY r 0) (rfl) dX3_drift_49 50 rfl ?_
    refine r_aload_n hC 1 dX3_drift_50 rfl 51 rfl ?_
    refine r_get (v := .ref (o 6)) hC kX3 5 rfl q191 (fun _ h => h.get 0 rfl) rfl dX3_drift_51 54 rfl ?_
    refine r_iload_n hC 0 dX3_drift_54 rfl 55 rfl ?_
    refine r_lald hC 0 (xix_n 0 (Nat.le_of_ble_eq_true rfl) (Nat.le_of_ble_eq_true rfl)) (fun _ h => h.get 6 rfl) (moY r 0) (rfl) dX3_drift_55 56 rfl ?_
    refine r_eql (y := r 10) (rfl) ?_
    refine r_iload_n hC 3 dX3_drift_56 rfl 57 rfl ?_
    refine r_aload_n hC 1 dX3_drift_57 rfl 58 rfl ?_
    refine r_get (v := .ref (o 2)) hC kX3 1 rfl q177 (fun _ h => h.get 0 rfl) rfl dX3_drift_58 61 rfl ?_
    refine r_iload_n hC 0 dX3_drift_61 rfl 62 rfl ?_
    refine r_iald hC 0 (xix_n 0 (Nat.le_of_ble_eq_true rfl) (Nat.le_of_ble_eq_true rfl)) (fun _ h => h.get 2 rfl) (maF r 0) (rfl) dX3_drift_62 63 rfl ?_
    refine r_imul hC (2 * (maF r 0)) dX3_drift_63  (rfl) 64 rfl ?_
    refine r_iload_n hC 2 dX3_drift_64 rfl 65 rfl ?_
    rcases Bool.eq_false_or_eq_true (m_in (mvQ t (plY r 0) (r 10) (2 * (maF r 0)) 1) (-100000) 100000) with hk3 | hk3
    · skip
      refine xCall.r (r := some (.int ((mvQ t (plY r 0) (r 10) (2 * (maF r 0)) 1).toInt32))) (r_cV hC kX3 (o 0) [.int (plY r 0), .long (r 10), .int (2 * (maF r 0)), .int 1] mVX3_moved q416 (fun _ h => ⟨_, h.get 0 rfl⟩) (fun V9 h9 => (metX3_moved0G _ _ hG o t r (plY r 0) (r 10) (2 * (maF r 0)) (dv2_n hm (by decide)) ht hk3) V9 (h9.in.sub [0, 1] rfl rfl)) ⟨rfl, rfl⟩ (Nat.le_of_ble_eq_true rfl) (Nat.le_of_ble_eq_true rfl) rfl (Nat.le_of_ble_eq_true rfl) dX3_drift_65) 0 0 68 rfl rfl rfl ?_
      refine r_iast (J := xSt F V0 [(o 0, .inr (2, [.ref (o 1), .ref (o 2), .ref (o 3), .ref (o 4), .ref (o 5), .ref (o 6), .ref (o 7), .ref (o 8), .ref (o 9), .ref (o 10), .int ((r 0).toInt32)])), (o 1, .inl (0, 6, .inl (seF t r))), (o 2, .inl (0, 3, .inl (maF r))), (o 3, .inl (0, 3, .inl u2)), (o 4, .inl (0, 3, .inl (va_up (plY r) 0 ((mvQ t (plY r 0) (r 10) (2 * (maF r 0)) 1).toInt32)))), (o 5, .inl (1, 3, .inr (.inl (moX r)))), (o 6, .inl (1, 3, .inr (.inl (moY r))))]) hC 0 (xix_n 0 (Nat.le_of_ble_eq_true rfl) (Nat.le_of_ble_eq_true rfl)) (fun _ h => h.get 4 rfl) dX3_drift_68 (fun _ h => h.set 4 _ rfl) 69 rfl ?_
      generalize hu4 : va_up (plY r) 0 ((mvQ t (plY r 0) (r 10) (2 * (maF r 0)) 1).toInt32) = u4
      refine r_iinc hC 1 3 0 [(3, .int 1), (0, .ref (o 0)), (1, .int 1), (2, .int 2)] dX3_drift_69 rfl (by decide) (Nat.le_of_ble_eq_true rfl) rfl 72 rfl ?_
      refine r_goto hC 2 dX3_drift_72 (by decide) ?_
      refine r_iload_n hC 0 dX3_drift_2 rfl 3 rfl ?_
      refine r_iconst hC 3 dX3_drift_3 ic_3 4 rfl ?_
      refine r_icge hC 75 dX3_drift_4 (by decide) 7 rfl (fun h => absurd h (by decide)) (fun _ => ?_)
      refine r_aload_n hC 1 dX3_drift_7 rfl 8 rfl ?_
      refine r_get (v := .ref (o 3)) hC kX3 2 rfl q180 (fun _ h => h.get 0 rfl) rfl dX3_drift_8 11 rfl ?_
      refine r_iload_n hC 0 dX3_drift_11 rfl 12 rfl ?_
      refine r_aload_n hC 1 dX3_drift_12 rfl 13 rfl ?_
      refine r_aload_n hC 1 dX3_drift_13 rfl 14 rfl ?_
      refine r_get (v := .ref (o 3)) hC kX3 2 rfl q180 (fun _ h => h.get 0 rfl) rfl dX3_drift_14 17 rfl ?_
      refine r_iload_n hC 0 dX3_drift_17 rfl 18 rfl ?_
      refine r_iald hC 1 (xix_n 1 (Nat.le_of_ble_eq_true rfl) (Nat.le_of_ble_eq_true rfl)) (fun _ h => h.get 3 rfl) (plX r 1) (by rw [← hu2]; rfl) dX3_drift_18 19 rfl ?_
      refine r_aload_n hC 1 dX3_drift_19 rfl 20 rfl ?_
      refine r_get (v := .ref (o 5)) hC kX3 4 rfl q188 (fun _ h => h.get 0 rfl) rfl dX3_drift_20 23 rfl ?_
      refine r_iload_n hC 0 dX3_drift_23 rfl 24 rfl ?_
      refine r_lald hC 1 (xix_n 1 (Nat.le_of_ble_eq_true rfl) (Nat.le_of_ble_eq_true rfl)) (fun _ h => h.get 5 rfl) (moX r 1) (rfl) dX3_drift_24 25 rfl ?_
      refine r_eql (y := r 14) (rfl) ?_
      refine r_iload_n hC 3 dX3_drift_25 rfl 26 rfl ?_
      refine r_aload_n hC 1 dX3_drift_26 rfl 27 rfl ?_
      refine r_get (v := .ref (o 2)) hC kX3 1 rfl q177 (fun _ h => h.get 0 rfl) rfl dX3_drift_27 30 rfl ?_
      refine r_iload_n hC 0 dX3_drift_30 rfl 31 rfl ?_
      refine r_iald hC 1 (xix_n 1 (Nat.le_of_ble_eq_true rfl) (Nat.le_of_ble_eq_true rfl)) (fun _ h => h.get 2 rfl) (maF r 1) (rfl) dX3_drift_31 32 rfl ?_
      refine r_imul hC (2 * (maF r 1)) dX3_drift_32  (rfl) 33 rfl ?_
      refine r_iload_n hC 2 dX3_drift_33 rfl 34 rfl ?_
      rcases Bool.eq_false_or_eq_true (m_in (mvQ t (plX r 1) (r 14) (2 * (maF r 1)) 1) (-100000) 100000) with hk5 | hk5
      · skip
        refine xCall.r (r := some (.int ((mvQ t (plX r 1) (r 14) (2 * (maF r 1)) 1).toInt32))) (r_cV hC kX3 (o 0) [.int (plX r 1), .long (r 14), .int (2 * (maF r 1)), .int 1] mVX3_moved q416 (fun _ h => ⟨_, h.get 0 rfl⟩) (fun V9 h9 => (metX3_moved0G _ _ hG o t r (plX r 1) (r 14) (2 * (maF r 1)) (dv2_n hm (by decide)) ht hk5) V9 (h9.in.sub [0, 1] rfl rfl)) ⟨rfl, rfl⟩ (Nat.le_of_ble_eq_true rfl) (Nat.le_of_ble_eq_true rfl) rfl (Nat.le_of_ble_eq_true rfl) dX3_drift_34) 0 0 37 rfl rfl rfl ?_
        refine r_iast (J := xSt F V0 [(o 0, .inr (2, [.ref (o 1), .ref (o 2), .ref (o 3), .ref (o 4), .ref (o 5), .ref (o 6), .ref (o 7), .ref (o 8), .ref (o 9), .ref (o 10), .int ((r 0).toInt32)])), (o 1, .inl (0, 6, .inl (seF t r))), (o 2, .inl (0, 3, .inl (maF r))), (o 3, .inl (0, 3, .inl (va_up u2 1 ((mvQ t (plX r 1) (r 14) (2 * (maF r 1)) 1).toInt32)))), (o 4, .inl (0, 3, .inl u4)), (o 5, .inl (1, 3, .inr (.inl (moX r)))), (o 6, .inl (1, 3, .inr (.inl (moY r))))]) hC 1 (xix_n 1 (Nat.le_of_ble_eq_true rfl) (Nat.le_of_ble_eq_true rfl)) (fun _ h => h.get 3 rfl) dX3_drift_37 (fun _ h => h.set 3 _ rfl) 38 rfl ?_
        generalize hu6 : va_up u2 1 ((mvQ t (plX r 1) (r 14) (2 * (maF r 1)) 1).toInt32) = u6
        refine r_aload_n hC 1 dX3_drift_38 rfl 39 rfl ?_
        refine r_get (v := .ref (o 4)) hC kX3 3 rfl q184 (fun _ h => h.get 0 rfl) rfl dX3_drift_39 42 rfl ?_
        refine r_iload_n hC 0 dX3_drift_42 rfl 43 rfl ?_
        refine r_aload_n hC 1 dX3_drift_43 rfl 44 rfl ?_
        refine r_aload_n hC 1 dX3_drift_44 rfl 45 rfl ?_
        refine r_get (v := .ref (o 4)) hC kX3 3 rfl q184 (fun _ h => h.get 0 rfl) rfl dX3_drift_45 48 rfl ?_
        refine r_iload_n hC 0 dX3_drift_48 rfl 49 rfl ?_
        refine r_iald hC 1 (xix_n 1 (Nat.le_of_ble_eq_true rfl) (Nat.le_of_ble_eq_true rfl)) (fun _ h => h.get 4 rfl) (plY r 1) (by rw [← hu4]; rfl) dX3_drift_49 50 rfl ?_
        refine r_aload_n hC 1 dX3_drift_50 rfl 51 rfl ?_
        refine r_get (v := .ref (o 6)) hC kX3 5 rfl q191 (fun _ h => h.get 0 rfl) rfl dX3_drift_51 54 rfl ?_
        refine r_iload_n hC 0 dX3_drift_54 rfl 55 rfl ?_
        refine r_lald hC 1 (xix_n 1 (Nat.le_of_ble_eq_true rfl) (Nat.le_of_ble_eq_true rfl)) (fun _ h => h.get 6 rfl) (moY r 1) (rfl) dX3_drift_55 56 rfl ?_
        refine r_eql (y := r 15) (rfl) ?_
        refine r_iload_n hC 3 dX3_drift_56 rfl 57 rfl ?_
        refine r_aload_n hC 1 dX3_drift_57 rfl 58 rfl ?_
        refine r_get (v := .ref (o 2)) hC kX3 1 rfl q177 (fun _ h => h.get 0 rfl) rfl dX3_drift_58 61 rfl ?_
        refine r_iload_n hC 0 dX3_drift_61 rfl 62 rfl ?_
        refine r_iald hC 1 (xix_n 1 (Nat.le_of_ble_eq_true rfl) (Nat.le_of_ble_eq_true rfl)) (fun _ h => h.get 2 rfl) (maF r 1) (rfl) dX3_drift_62 63 rfl ?_
        refine r_imul hC (2 * (maF r 1)) dX3_drift_63  (rfl) 64 rfl ?_
        refine r_iload_n hC 2 dX3_drift_64 rfl 65 rfl ?_
        rcases Bool.eq_false_or_eq_true (m_in (mvQ t (plY r 1) (r 15) (2 * (maF r 1)) 1) (-100000) 100000) with hk7 | hk7
        · skip
          refine xCall.r (r := some (.int ((mvQ t (plY r 1) (r 15) (2 * (maF r 1)) 1).toInt32))) (r_cV hC kX3 (o 0) [.int (plY r 1), .long (r 15), .int (2 * (maF r 1)), .int 1] mVX3_moved q416 (fun _ h => ⟨_, h.get 0 rfl⟩) (fun V9 h9 => (metX3_moved0G _ _ hG o t r (plY r 1) (r 15) (2 * (maF r 1)) (dv2_n hm (by decide)) ht hk7) V9 (h9.in.sub [0, 1] rfl rfl)) ⟨rfl, rfl⟩ (Nat.le_of_ble_eq_true rfl) (Nat.le_of_ble_eq_true rfl) rfl (Nat.le_of_ble_eq_true rfl) dX3_drift_65) 0 0 68 rfl rfl rfl ?_
          refine r_iast (J := xSt F V0 [(o 0, .inr (2, [.ref (o 1), .ref (o 2), .ref (o 3), .ref (o 4), .ref (o 5), .ref (o 6), .ref (o 7), .ref (o 8), .ref (o 9), .ref (o 10), .int ((r 0).toInt32)])), (o 1, .inl (0, 6, .inl (seF t r))), (o 2, .inl (0, 3, .inl (maF r))), (o 3, .inl (0, 3, .inl u6)), (o 4, .inl (0, 3, .inl (va_up u4 1 ((mvQ t (plY r 1) (r 15) (2 * (maF r 1)) 1).toInt32)))), (o 5, .inl (1, 3, .inr (.inl (moX r)))), (o 6, .inl (1, 3, .inr (.inl (moY r))))]) hC 1 (xix_n 1 (Nat.le_of_ble_eq_true rfl) (Nat.le_of_ble_eq_true rfl)) (fun _ h => h.get 4 rfl) dX3_drift_68 (fun _ h => h.set 4 _ rfl) 69 rfl ?_
          generalize hu8 : va_up u4 1 ((mvQ t (plY r 1) (r 15) (2 * (maF r 1)) 1).toInt32) = u8
          refine r_iinc hC 2 3 0 [(3, .int 2), (0, .ref (o 0)), (1, .int 1), (2, .int 2)] dX3_drift_69 rfl (by decide) (Nat.le_of_ble_eq_true rfl) rfl 72 rfl ?_
          refine r_goto hC 2 dX3_drift_72 (by decide) ?_
          refine r_iload_n hC 0 dX3_drift_2 rfl 3 rfl ?_
          refine r_iconst hC 3 dX3_drift_3 ic_3 4 rfl ?_
          refine r_icge hC 75 dX3_drift_4 (by decide) 7 rfl (fun h => absurd h (by decide)) (fun _ => ?_)
          refine r_aload_n hC 1 dX3_drift_7 rfl 8 rfl ?_
          refine r_get (v := .ref (o 3)) hC kX3 2 rfl q180 (fun _ h => h.get 0 rfl) rfl dX3_drift_8 11 rfl ?_
          refine r_iload_n hC 0 dX3_drift_11 rfl 12 rfl ?_
          refine r_aload_n hC 1 dX3_drift_12 rfl 13 rfl ?_
          refine r_aload_n hC 1 dX3_drift_13 rfl 14 rfl ?_
          refine r_get (v := .ref (o 3)) hC kX3 2 rfl q180 (fun _ h => h.get 0 rfl) rfl dX3_drift_14 17 rfl ?_
          refine r_iload_n hC 0 dX3_drift_17 rfl 18 rfl ?_
          refine r_iald hC 2 (xix_n 2 (Nat.le_of_ble_eq_true rfl) (Nat.le_of_ble_eq_true rfl)) (fun _ h => h.get 3 rfl) (plX r 2) (by rw [← hu6, ← hu2]; rfl) dX3_drift_18 19 rfl ?_
          refine r_aload_n hC 1 dX3_drift_19 rfl 20 rfl ?_
          refine r_get (v := .ref (o 5)) hC kX3 4 rfl q188 (fun _ h => h.get 0 rfl) rfl dX3_drift_20 23 rfl ?_
          refine r_iload_n hC 0 dX3_drift_23 rfl 24 rfl ?_
          refine r_lald hC 2 (xix_n 2 (Nat.le_of_ble_eq_true rfl) (Nat.le_of_ble_eq_true rfl)) (fun _ h => h.get 5 rfl) (moX r 2) (rfl) dX3_drift_24 25 rfl ?_
          refine r_eql (y := r 19) (rfl) ?_
          refine r_iload_n hC 3 dX3_drift_25 rfl 26 rfl ?_
          refine r_aload_n hC 1 dX3_drift_26 rfl 27 rfl ?_
          refine r_get (v := .ref (o 2)) hC kX3 1 rfl q177 (fun _ h => h.get 0 rfl) rfl dX3_drift_27 30 rfl ?_
          refine r_iload_n hC 0 dX3_drift_30 rfl 31 rfl ?_
          refine r_iald hC 2 (xix_n 2 (Nat.le_of_ble_eq_true rfl) (Nat.le_of_ble_eq_true rfl)) (fun _ h => h.get 2 rfl) (maF r 2) (rfl) dX3_drift_31 32 rfl ?_
          refine r_imul hC (2 * (maF r 2)) dX3_drift_32  (rfl) 33 rfl ?_
          refine r_iload_n hC 2 dX3_drift_33 rfl 34 rfl ?_
          rcases Bool.eq_false_or_eq_true (m_in (mvQ t (plX r 2) (r 19) (2 * (maF r 2)) 1) (-100000) 100000) with hk9 | hk9
          · skip
            refine xCall.r (r := some (.int ((mvQ t (plX r 2) (r 19) (2 * (maF r 2)) 1).toInt32))) (r_cV hC kX3 (o 0) [.int (plX r 2), .long (r 19), .int (2 * (maF r 2)), .int 1] mVX3_moved q416 (fun _ h => ⟨_, h.get 0 rfl⟩) (fun V9 h9 => (metX3_moved0G _ _ hG o t r (plX r 2) (r 19) (2 * (maF r 2)) (dv2_n hm (by decide)) ht hk9) V9 (h9.in.sub [0, 1] rfl rfl)) ⟨rfl, rfl⟩ (Nat.le_of_ble_eq_true rfl) (Nat.le_of_ble_eq_true rfl) rfl (Nat.le_of_ble_eq_true rfl) dX3_drift_34) 0 0 37 rfl rfl rfl ?_
            refine r_iast (J := xSt F V0 [(o 0, .inr (2, [.ref (o 1), .ref (o 2), .ref (o 3), .ref (o 4), .ref (o 5), .ref (o 6), .ref (o 7), .ref (o 8), .ref (o 9), .ref (o 10), .int ((r 0).toInt32)])), (o 1, .inl (0, 6, .inl (seF t r))), (o 2, .inl (0, 3, .inl (maF r))), (o 3, .inl (0, 3, .inl (va_up u6 2 ((mvQ t (plX r 2) (r 19) (2 * (maF r 2)) 1).toInt32)))), (o 4, .inl (0, 3, .inl u8)), (o 5, .inl (1, 3, .inr (.inl (moX r)))), (o 6, .inl (1, 3, .inr (.inl (moY r))))]) hC 2 (xix_n 2 (Nat.le_of_ble_eq_true rfl) (Nat.le_of_ble_eq_true rfl)) (fun _ h => h.get 3 rfl) dX3_drift_37 (fun _ h => h.set 3 _ rfl) 38 rfl ?_
            generalize hu10 : va_up u6 2 ((mvQ t (plX r 2) (r 19) (2 * (maF r 2)) 1).toInt32) = u10
            refine r_aload_n hC 1 dX3_drift_38 rfl 39 rfl ?_
            refine r_get (v := .ref (o 4)) hC kX3 3 rfl q184 (fun _ h => h.get 0 rfl) rfl dX3_drift_39 42 rfl ?_
            refine r_iload_n hC 0 dX3_drift_42 rfl 43 rfl ?_
            refine r_aload_n hC 1 dX3_drift_43 rfl 44 rfl ?_
            refine r_aload_n hC 1 dX3_drift_44 rfl 45 rfl ?_
            refine r_get (v := .ref (o 4)) hC kX3 3 rfl q184 (fun _ h => h.get 0 rfl) rfl dX3_drift_45 48 rfl ?_
            refine r_iload_n hC 0 dX3_drift_48 rfl 49 rfl ?_
            refine r_iald hC 2 (xix_n 2 (Nat.le_of_ble_eq_true rfl) (Nat.le_of_ble_eq_true rfl)) (fun _ h => h.get 4 rfl) (plY r 2) (by rw [← hu8, ← hu4]; rfl) dX3_drift_49 50 rfl ?_
            refine r_aload_n hC 1 dX3_drift_50 rfl 51 rfl ?_
            refine r_get (v := .ref (o 6)) hC kX3 5 rfl q191 (fun _ h => h.get 0 rfl) rfl dX3_drift_51 54 rfl ?_
            refine r_iload_n hC 0 dX3_drift_54 rfl 55 rfl ?_
            refine r_lald hC 2 (xix_n 2 (Nat.le_of_ble_eq_true rfl) (Nat.le_of_ble_eq_true rfl)) (fun _ h => h.get 6 rfl) (moY r 2) (rfl) dX3_drift_55 56 rfl ?_
            refine r_eql (y := r 20) (rfl) ?_
            refine r_iload_n hC 3 dX3_drift_56 rfl 57 rfl ?_
            refine r_aload_n hC 1 dX3_drift_57 rfl 58 rfl ?_
            refine r_get (v := .ref (o 2)) hC kX3 1 rfl q177 (fun _ h => h.get 0 rfl) rfl dX3_drift_58 61 rfl ?_
            refine r_iload_n hC 0 dX3_drift_61 rfl 62 rfl ?_
            refine r_iald hC 2 (xix_n 2 (Nat.le_of_ble_eq_true rfl) (Nat.le_of_ble_eq_true rfl)) (fun _ h => h.get 2 rfl) (maF r 2) (rfl) dX3_drift_62 63 rfl ?_
            refine r_imul hC (2 * (maF r 2)) dX3_drift_63  (rfl) 64 rfl ?_
            refine r_iload_n hC 2 dX3_drift_64 rfl 65 rfl ?_
            rcases Bool.eq_false_or_eq_true (m_in (mvQ t (plY r 2) (r 20) (2 * (maF r 2)) 1) (-100000) 100000) with hk11 | hk11
            · skip
              refine xCall.r (r := some (.int ((mvQ t (plY r 2) (r 20) (2 * (maF r 2)) 1).toInt32))) (r_cV hC kX3 (o 0) [.int (plY r 2), .long (r 20), .int (2 * (maF r 2)), .int 1] mVX3_moved q416 (fun _ h => ⟨_, h.get 0 rfl⟩) (fun V9 h9 => (metX3_moved0G _ _ hG o t r (plY r 2) (r 20) (2 * (maF r 2)) (dv2_n hm (by decide)) ht hk11) V9 (h9.in.sub [0, 1] rfl rfl)) ⟨rfl, rfl⟩ (Nat.le_of_ble_eq_true rfl) (Nat.le_of_ble_eq_true rfl) rfl (Nat.le_of_ble_eq_true rfl) dX3_drift_65) 0 0 68 rfl rfl rfl ?_
              refine r_iast (J := xSt F V0 [(o 0, .inr (2, [.ref (o 1), .ref (o 2), .ref (o 3), .ref (o 4), .ref (o 5), .ref (o 6), .ref (o 7), .ref (o 8), .ref (o 9), .ref (o 10), .int ((r 0).toInt32)])), (o 1, .inl (0, 6, .inl (seF t r))), (o 2, .inl (0, 3, .inl (maF r))), (o 3, .inl (0, 3, .inl u10)), (o 4, .inl (0, 3, .inl (va_up u8 2 ((mvQ t (plY r 2) (r 20) (2 * (maF r 2)) 1).toInt32)))), (o 5, .inl (1, 3, .inr (.inl (moX r)))), (o 6, .inl (1, 3, .inr (.inl (moY r))))]) hC 2 (xix_n 2 (Nat.le_of_ble_eq_true rfl) (Nat.le_of_ble_eq_true rfl)) (fun _ h => h.get 4 rfl) dX3_drift_68 (fun _ h => h.set 4 _ rfl) 69 rfl ?_
              generalize hu12 : va_up u8 2 ((mvQ t (plY r 2) (r 20) (2 * (maF r 2)) 1).toInt32) = u12
              refine r_iinc hC 3 3 0 [(3, .int 3), (0, .ref (o 0)), (1, .int 1), (2, .int 2)] dX3_drift_69 rfl (by decide) (Nat.le_of_ble_eq_true rfl) rfl 72 rfl ?_
              refine r_goto hC 2 dX3_drift_72 (by decide) ?_
              refine r_iload_n hC 0 dX3_drift_2 rfl 3 rfl ?_
              refine r_iconst hC 3 dX3_drift_3 ic_3 4 rfl ?_
              refine r_icge hC 75 dX3_drift_4 (by decide) 7 rfl (fun _ => ?_) (fun h => absurd h (by decide))
              subst hu12
              subst hu10
              subst hu8
              subst hu6
              subst hu4
              subst hu2
              refine rn_cellI (J := xSt F V0 [(o 0, .inr (2, [.ref (o 1), .ref (o 2), .ref (o 3), .ref (o 4), .ref (o 5), .ref (o 6), .ref (o 7), .ref (o 8), .ref (o 9), .ref (o 10), .int ((r 0).toInt32)])), (o 1, .inl (0, 6, .inl (seF t r))), (o 2, .inl (0, 3, .inl (maF (driftQ t r true false)))), (o 3, .inl (0, 3, .inl (va_up (va_up (va_up (plX r) 0 ((mvQ t (plX r 0) (r 9) (2 * (maF r 0)) 1).toInt32)) 1 ((mvQ t (plX r 1) (r 14) (2 * (maF r 1)) 1).toInt32)) 2 ((mvQ t (plX r 2) (r 19) (2 * (maF r 2)) 1).toInt32)))), (o 4, .inl (0, 3, .inl (va_up (va_up (va_up (plY r) 0 ((mvQ t (plY r 0) (r 10) (2 * (maF r 0)) 1).toInt32)) 1 ((mvQ t (plY r 1) (r 15) (2 * (maF r 1)) 1).toInt32)) 2 ((mvQ t (plY r 2) (r 20) (2 * (maF r 2)) 1).toInt32)))), (o 5, .inl (1, 3, .inr (.inl (moX r)))), (o 6, .inl (1, 3, .inr (.inl (moY r))))]) (fun _ h => h.get 2 rfl) (fun j9 hj9 => by
                  rcases (show j9 = 0 ∨ j9 = 1 ∨ j9 = 2 by omega) with rfl | rfl | rfl
                  · exact congrArg Int64.toInt32 (drq_6).symm
                  · exact congrArg Int64.toInt32 (drq_11).symm
                  · exact congrArg Int64.toInt32 (drq_16).symm) (fun _ h => h.set 2 _ rfl) ?_
              refine rn_cellI (J := xSt F V0 [(o 0, .inr (2, [.ref (o 1), .ref (o 2), .ref (o 3), .ref (o 4), .ref (o 5), .ref (o 6), .ref (o 7), .ref (o 8), .ref (o 9), .ref (o 10), .int ((r 0).toInt32)])), (o 1, .inl (0, 6, .inl (seF t r))), (o 2, .inl (0, 3, .inl (maF (driftQ t r true false)))), (o 3, .inl (0, 3, .inl (plX (driftQ t r true false)))), (o 4, .inl (0, 3, .inl (va_up (va_up (va_up (plY r) 0 ((mvQ t (plY r 0) (r 10) (2 * (maF r 0)) 1).toInt32)) 1 ((mvQ t (plY r 1) (r 15) (2 * (maF r 1)) 1).toInt32)) 2 ((mvQ t (plY r 2) (r 20) (2 * (maF r 2)) 1).toInt32)))), (o 5, .inl (1, 3, .inr (.inl (moX r)))), (o 6, .inl (1, 3, .inr (.inl (moY r))))]) (fun _ h => h.get 3 rfl) (fun j9 hj9 => by
                  rcases (show j9 = 0 ∨ j9 = 1 ∨ j9 = 2 by omega) with rfl | rfl | rfl
                  · exact ((up_ne (by decide)).trans ((up_ne (by decide)).trans (up_same _ _ _))).trans (congrArg Int64.toInt32 ((mvX10 (t := t) (j := 0) hpl hm (by decide)).trans (drq_7).symm))
                  · exact ((up_ne (by decide)).trans (up_same _ _ _)).trans (congrArg Int64.toInt32 ((mvX10 (t := t) (j := 1) hpl hm (by decide)).trans (drq_12).symm))
                  · exact (up_same _ _ _).trans (congrArg Int64.toInt32 ((mvX10 (t := t) (j := 2) hpl hm (by decide)).trans (drq_17).symm))) (fun _ h => h.set 3 _ rfl) ?_
              refine rn_cellI (J := xSt F V0 [(o 0, .inr (2, [.ref (o 1), .ref (o 2), .ref (o 3), .ref (o 4), .ref (o 5), .ref (o 6), .ref (o 7), .ref (o 8), .ref (o 9), .ref (o 10), .int ((r 0).toInt32)])), (o 1, .inl (0, 6, .inl (seF t r))), (o 2, .inl (0, 3, .inl (maF (driftQ t r true false)))), (o 3, .inl (0, 3, .inl (plX (driftQ t r true false)))), (o 4, .inl (0, 3, .inl (plY (driftQ t r true false)))), (o 5, .inl (1, 3, .inr (.inl (moX r)))), (o 6, .inl (1, 3, .inr (.inl (moY r))))]) (fun _ h => h.get 4 rfl) (fun j9 hj9 => by
                  rcases (show j9 = 0 ∨ j9 = 1 ∨ j9 = 2 by omega) with rfl | rfl | rfl
                  · exact ((up_ne (by decide)).trans ((up_ne (by decide)).trans (up_same _ _ _))).trans (congrArg Int64.toInt32 ((mvY10 (t := t) (j := 0) hpl hm (by decide)).trans (drq_8).symm))
                  · exact ((up_ne (by decide)).trans (up_same _ _ _)).trans (congrArg Int64.toInt32 ((mvY10 (t := t) (j := 1) hpl hm (by decide)).trans (drq_13).symm))
                  · exact (up_same _ _ _).trans (congrArg Int64.toInt32 ((mvY10 (t := t) (j := 2) hpl hm (by decide)).trans (drq_18).symm))) (fun _ h => h.set 4 _ rfl) ?_
              refine rn_cellJ (J := xSt F V0 [(o 0, .inr (2, [.ref (o 1), .ref (o 2), .ref (o 3), .ref (o 4), .ref (o 5), .ref (o 6), .ref (o 7), .ref (o 8), .ref (o 9), .ref (o 10), .int ((r 0).toInt32)])), (o 1, .inl (0, 6, .inl (seF t r))), (o 2, .inl (0, 3, .inl (maF (driftQ t r true false)))), (o 3, .inl (0, 3, .inl (plX (driftQ t r true false)))), (o 4, .inl (0, 3, .inl (plY (driftQ t r true false)))), (o 5, .inl (1, 3, .inr (.inl (moX (driftQ t r true false))))), (o 6, .inl (1, 3, .inr (.inl (moY r))))]) (fun _ h => h.get 5 rfl) (fun j9 hj9 => by
                  rcases (show j9 = 0 ∨ j9 = 1 ∨ j9 = 2 by omega) with rfl | rfl | rfl
                  · exact (drq_9).symm
                  · exact (drq_14).symm
                  · exact (drq_19).symm) (fun _ h => h.set 5 _ rfl) ?_
              refine rn_cellJ (J := xSt F V0 [(o 0, .inr (2, [.ref (o 1), .ref (o 2), .ref (o 3), .ref (o 4), .ref (o 5), .ref (o 6), .ref (o 7), .ref (o 8), .ref (o 9), .ref (o 10), .int ((r 0).toInt32)])), (o 1, .inl (0, 6, .inl (seF t r))), (o 2, .inl (0, 3, .inl (maF (driftQ t r true false)))), (o 3, .inl (0, 3, .inl (plX (driftQ t r true false)))), (o 4, .inl (0, 3, .inl (plY (driftQ t r true false)))), (o 5, .inl (1, 3, .inr (.inl (moX (driftQ t r true false))))), (o 6, .inl (1, 3, .inr (.inl (moY (driftQ t r true false)))))]) (fun _ h => h.get 6 rfl) (fun j9 hj9 => by
                  rcases (show j9 = 0 ∨ j9 = 1 ∨ j9 = 2 by omega) with rfl | rfl | rfl
                  · exact (drq_10).symm
                  · exact (drq_15).symm
                  · exact (drq_20).symm) (fun _ h => h.set 6 _ rfl) ?_
              exact r_vret hC (Nat.le_of_ble_eq_true rfl) (Nat.le_of_ble_eq_true rfl) (fun V9 h => hQ _ _ ⟨[(o 0, .inr (2, [.ref (o 1), .ref (o 2), .ref (o 3), .ref (o 4), .ref (o 5), .ref (o 6), .ref (o 7), .ref (o 8), .ref (o 9), .ref (o 10), .int (((driftQ t r true false) 0).toInt32)])), (o 1, .inl (0, 6, .inl (seF t (driftQ t r true false)))), (o 2, .inl (0, 3, .inl (maF (driftQ t r true false)))), (o 3, .inl (0, 3, .inl (plX (driftQ t r true false)))), (o 4, .inl (0, 3, .inl (plY (driftQ t r true false)))), (o 5, .inl (1, 3, .inr (.inl (moX (driftQ t r true false))))), (o 6, .inl (1, 3, .inr (.inl (moY (driftQ t r true false)))))], ⟨rfl, in_t2 (moR_drift hmo) (by rw [← ((mvX10 (t := t) (j := 0) hpl hm (by decide)).trans (drq_7).symm)]; exact hk1) (by rw [← ((mvY10 (t := t) (j := 0) hpl hm (by decide)).trans (drq_8).symm)]; exact hk3) (by rw [← ((mvX10 (t := t) (j := 1) hpl hm (by decide)).trans (drq_12).symm)]; exact hk5) (by rw [← ((mvY10 (t := t) (j := 1) hpl hm (by decide)).trans (drq_13).symm)]; exact hk7) (by rw [← ((mvX10 (t := t) (j := 2) hpl hm (by decide)).trans (drq_17).symm)]; exact hk9) (by rw [← ((mvY10 (t := t) (j := 2) hpl hm (by decide)).trans (drq_18).symm)]; exact hk11), rfl⟩, by rw [← hV0, ← hF]; exact h⟩) dX3_drift_75
            · skip
              refine xCall.w (wr := [(o 2, .inl (0, 3, .inl (maF r))), (o 3, .inl (0, 3, .inl u10)), (o 4, .inl (0, 3, .inl u8)), (o 5, .inl (1, 3, .inr (.inl (moX r)))), (o 6, .inl (1, 3, .inr (.inl (moY r))))]) (r_cV hC kX3 (o 0) [.int (plY r 2), .long (r 20), .int (2 * (maF r 2)), .int 1] mVX3_moved q416 (fun _ h => ⟨_, h.get 0 rfl⟩) (fun V9 h9 => (metX3_moved0B _ _ hG o t r (plY r 2) (r 20) (2 * (maF r 2)) (dv2_n hm (by decide)) ht hk11) V9 (h9.in.sub [0, 1] rfl rfl)) ⟨rfl, rfl⟩ (Nat.le_of_ble_eq_true rfl) (Nat.le_of_ble_eq_true rfl) rfl (Nat.le_of_ble_eq_true rfl) dX3_drift_65) [0, 1] [2, 3, 4, 5, 6] rfl rfl rfl (by decide) 1 6 68 rfl rfl rfl (fun _ _ h => h.elim) (fun q16 w17 h18 => ?_)
              obtain rfl := h18
              show rx C (xSt F V0 [(o 2, .inl (0, 3, .inl (maF r))), (o 3, .inl (0, 3, .inl u10)), (o 4, .inl (0, 3, .inl u8)), (o 5, .inl (1, 3, .inr (.inl (moX r)))), (o 6, .inl (1, 3, .inr (.inl (moY r)))), (o 0, .inr (2, [.ref (o 1), .ref (o 2), .ref (o 3), .ref (o 4), .ref (o 5), .ref (o 6), .ref (o 7), .ref (o 8), .ref (o 9), .ref (o 10), .int ((r 0).toInt32)])), (o 1, .inl (0, 6, .inl (seF t r))), (q16, .inr (3, [.null, .null, .null, .null, .null, .int 0]))]) 1 6 65 [(3, .int 2), (0, .ref (o 0)), (1, .int 1), (2, .int 2)] [.int 2, .ref (o 4)] q16
              subst hu10
              subst hu8
              subst hu6
              subst hu4
              subst hu2
              exact rx_out hC hTab (fun _ h => by cases h) (Nat.le_of_ble_eq_true rfl) (Nat.le_of_ble_eq_true rfl) (fun V9 h => hX _ _ ⟨[(o 0, .inr (2, [.ref (o 1), .ref (o 2), .ref (o 3), .ref (o 4), .ref (o 5), .ref (o 6), .ref (o 7), .ref (o 8), .ref (o 9), .ref (o 10), .int ((r 0).toInt32)])), (o 1, .inl (0, 6, .inl (seF t r))), (o 2, .inl (0, 3, .inl (maF r))), (o 3, .inl (0, 3, .inl (va_up (va_up (va_up (plX r) 0 ((mvQ t (plX r 0) (r 9) (2 * (maF r 0)) 1).toInt32)) 1 ((mvQ t (plX r 1) (r 14) (2 * (maF r 1)) 1).toInt32)) 2 ((mvQ t (plX r 2) (r 19) (2 * (maF r 2)) 1).toInt32)))), (o 4, .inl (0, 3, .inl (va_up (va_up (plY r) 0 ((mvQ t (plY r 0) (r 10) (2 * (maF r 0)) 1).toInt32)) 1 ((mvQ t (plY r 1) (r 15) (2 * (maF r 1)) 1).toInt32)))), (o 5, .inl (1, 3, .inr (.inl (moX r)))), (o 6, .inl (1, 3, .inr (.inl (moY r)))), (q16, .inr (3, [.null, .null, .null, .null, .null, .int 0]))], ⟨in_f18 (by rw [← ((mvY10 (t := t) (j := 2) hpl hm (by decide)).trans (drq_18).symm)]; exact hk11), _, _, rfl⟩, by rw [← hV0, ← hF]; exact (h.sub [5, 6, 0, 1, 2, 3, 4, 7] rfl rfl)⟩)
          · skip
            refine xCall.w (wr := [(o 2, .inl (0, 3, .inl (maF r))), (o 3, .inl (0, 3, .inl u6)), (o 4, .inl (0, 3, .inl u8)), (o 5, .inl (1, 3, .inr (.inl (moX r)))), (o 6, .inl (1, 3, .inr (.inl (moY r))))]) (r_cV hC kX3 (o 0) [.int (plX r 2), .long (r 19), .int (2 * (maF r 2)), .int 1] mVX3_moved q416 (fun _ h => ⟨_, h.get 0 rfl⟩) (fun V9 h9 => (metX3_moved0B _ _ hG o t r (plX r 2) (r 19) (2 * (maF r 2)) (dv2_n hm (by decide)) ht hk9) V9 (h9.in.sub [0, 1] rfl rfl)) ⟨rfl, rfl⟩ (Nat.le_of_ble_eq_true rfl) (Nat.le_of_ble_eq_true rfl) rfl (Nat.le_of_ble_eq_true rfl) dX3_drift_34) [0, 1] [2, 3, 4, 5, 6] rfl rfl rfl (by decide) 1 6 37 rfl rfl rfl (fun _ _ h => h.elim) (fun q22 w23 h24 => ?_)
            obtain rfl := h24
            show rx C (xSt F V0 [(o 2, .inl (0, 3, .inl (maF r))), (o 3, .inl (0, 3, .inl u6)), (o 4, .inl (0, 3, .inl u8)), (o 5, .inl (1, 3, .inr (.inl (moX r)))), (o 6, .inl (1, 3, .inr (.inl (moY r)))), (o 0, .inr (2, [.ref (o 1), .ref (o 2), .ref (o 3), .ref (o 4), .ref (o 5), .ref (o 6), .ref (o 7), .ref (o 8), .ref (o 9), .ref (o 10), .int ((r 0).toInt32)])), (o 1, .inl (0, 6, .inl (seF t r))), (q22, .inr (3, [.null, .null, .null, .null, .null, .int 0]))]) 1 6 34 [(3, .int 2), (0, .ref (o 0)), (1, .int 1), (2, .int 2)] [.int 2, .ref (o 3)] q22
            subst hu8
            subst hu6
            subst hu4
            subst hu2
            exact rx_out hC hTab (fun _ h => by cases h) (Nat.le_of_ble_eq_true rfl) (Nat.le_of_ble_eq_true rfl) (fun V9 h => hX _ _ ⟨[(o 0, .inr (2, [.ref (o 1), .ref (o 2), .ref (o 3), .ref (o 4), .ref (o 5), .ref (o 6), .ref (o 7), .ref (o 8), .ref (o 9), .ref (o 10), .int ((r 0).toInt32)])), (o 1, .inl (0, 6, .inl (seF t r))), (o 2, .inl (0, 3, .inl (maF r))), (o 3, .inl (0, 3, .inl (va_up (va_up (plX r) 0 ((mvQ t (plX r 0) (r 9) (2 * (maF r 0)) 1).toInt32)) 1 ((mvQ t (plX r 1) (r 14) (2 * (maF r 1)) 1).toInt32)))), (o 4, .inl (0, 3, .inl (va_up (va_up (plY r) 0 ((mvQ t (plY r 0) (r 10) (2 * (maF r 0)) 1).toInt32)) 1 ((mvQ t (plY r 1) (r 15) (2 * (maF r 1)) 1).toInt32)))), (o 5, .inl (1, 3, .inr (.inl (moX r)))), (o 6, .inl (1, 3, .inr (.inl (moY r)))), (q22, .inr (3, [.null, .null, .null, .null, .null, .int 0]))], ⟨in_f17 (by rw [← ((mvX10 (t := t) (j := 2) hpl hm (by decide)).trans (drq_17).symm)]; exact hk9), _, _, rfl⟩, by rw [← hV0, ← hF]; exact (h.sub [5, 6, 0, 1, 2, 3, 4, 7] rfl rfl)⟩)
        · skip
          refine xCall.w (wr := [(o 2, .inl (0, 3, .inl (maF r))), (o 3, .inl (0, 3, .inl u6)), (o 4, .inl (0, 3, .inl u4)), (o 5, .inl (1, 3, .inr (.inl (moX r)))), (o 6, .inl (1, 3, .inr (.inl (moY r))))]) (r_cV hC kX3 (o 0) [.int (plY r 1), .long (r 15), .int (2 * (maF r 1)), .int 1] mVX3_moved q416 (fun _ h => ⟨_, h.get 0 rfl⟩) (fun V9 h9 => (metX3_moved0B _ _ hG o t r (plY r 1) (r 15) (2 * (maF r 1)) (dv2_n hm (by decide)) ht hk7) V9 (h9.in.sub [0, 1] rfl rfl)) ⟨rfl, rfl⟩ (Nat.le_of_ble_eq_true rfl) (Nat.le_of_ble_eq_true rfl) rfl (Nat.le_of_ble_eq_true rfl) dX3_drift_65) [0, 1] [2, 3, 4, 5, 6] rfl rfl rfl (by decide) 1 6 68 rfl rfl rfl (fun _ _ h => h.elim) (fun q28 w29 h30 => ?_)
          obtain rfl := h30
          show rx C (xSt F V0 [(o 2, .inl (0, 3, .inl (maF r))), (o 3, .inl (0, 3, .inl u6)), (o 4, .inl (0, 3, .inl u4)), (o 5, .inl (1, 3, .inr (.inl (moX r)))), (o 6, .inl (1, 3, .inr (.inl (moY r)))), (o 0, .inr (2, [.ref (o 1), .ref (o 2), .ref (o 3), .ref (o 4), .ref (o 5), .ref (o 6), .ref (o 7), .ref (o 8), .ref (o 9), .ref (o 10), .int ((r 0).toInt32)])), (o 1, .inl (0, 6, .inl (seF t r))), (q28, .inr (3, [.null, .null, .null, .null, .null, .int 0]))]) 1 6 65 [(3, .int 1), (0, .ref (o 0)), (1, .int 1), (2, .int 2)] [.int 1, .ref (o 4)] q28
          subst hu6
          subst hu4
          subst hu2
          exact rx_out hC hTab (fun _ h => by cases h) (Nat.le_of_ble_eq_true rfl) (Nat.le_of_ble_eq_true rfl) (fun V9 h => hX _ _ ⟨[(o 0, .inr (2, [.ref (o 1), .ref (o 2), .ref (o 3), .ref (o 4), .ref (o 5), .ref (o 6), .ref (o 7), .ref (o 8), .ref (o 9), .ref (o 10), .int ((r 0).toInt32)])), (o 1, .inl (0, 6, .inl (seF t r))), (o 2, .inl (0, 3, .inl (maF r))), (o 3, .inl (0, 3, .inl (va_up (va_up (plX r) 0 ((mvQ t (plX r 0) (r 9) (2 * (maF r 0)) 1).toInt32)) 1 ((mvQ t (plX r 1) (r 14) (2 * (maF r 1)) 1).toInt32)))), (o 4, .inl (0, 3, .inl (va_up (plY r) 0 ((mvQ t (plY r 0) (r 10) (2 * (maF r 0)) 1).toInt32)))), (o 5, .inl (1, 3, .inr (.inl (moX r)))), (o 6, .inl (1, 3, .inr (.inl (moY r)))), (q28, .inr (3, [.null, .null, .null, .null, .null, .int 0]))], ⟨in_f13 (by rw [← ((mvY10 (t := t) (j := 1) hpl hm (by decide)).trans (drq_13).symm)]; exact hk7), _, _, rfl⟩, by rw [← hV0, ← hF]; exact (h.sub [5, 6, 0, 1, 2, 3, 4, 7] rfl rfl)⟩)
      · skip
        refine xCall.w (wr := [(o 2, .inl (0, 3, .inl (maF r))), (o 3, .inl (0, 3, .inl u2)), (o 4, .inl (0, 3, .inl u4)), (o 5, .inl (1, 3, .inr (.inl (moX r)))), (o 6, .inl (1, 3, .inr (.inl (moY r))))]) (r_cV hC kX3 (o 0) [.int (plX r 1), .long (r 14), .int (2 * (maF r 1)), .int 1] mVX3_moved q416 (fun _ h => ⟨_, h.get 0 rfl⟩) (fun V9 h9 => (metX3_moved0B _ _ hG o t r (plX r 1) (r 14) (2 * (maF r 1)) (dv2_n hm (by decide)) ht hk5) V9 (h9.in.sub [0, 1] rfl rfl)) ⟨rfl, rfl⟩ (Nat.le_of_ble_eq_true rfl) (Nat.le_of_ble_eq_true rfl) rfl (Nat.le_of_ble_eq_true rfl) dX3_drift_34) [0, 1] [2, 3, 4, 5, 6] rfl rfl rfl (by decide) 1 6 37 rfl rfl rfl (fun _ _ h => h.elim) (fun q34 w35 h36 => ?_)
        obtain rfl := h36
        show rx C (xSt F V0 [(o 2, .inl (0, 3, .inl (maF r))), (o 3, .inl (0, 3, .inl u2)), (o 4, .inl (0, 3, .inl u4)), (o 5, .inl (1, 3, .inr (.inl (moX r)))), (o 6, .inl (1, 3, .inr (.inl (moY r)))), (o 0, .inr (2, [.ref (o 1), .ref (o 2), .ref (o 3), .ref (o 4), .ref (o 5), .ref (o 6), .ref (o 7), .ref (o 8), .ref (o 9), .ref (o 10), .int ((r 0).toInt32)])), (o 1, .inl (0, 6, .inl (seF t r))), (q34, .inr (3, [.null, .null, .null, .null, .null, .int 0]))]) 1 6 34 [(3, .int 1), (0, .ref (o 0)), (1, .int 1), (2, .int 2)] [.int 1, .ref (o 3)] q34
        subst hu4
        subst hu2
        exact rx_out hC hTab (fun _ h => by cases h) (Nat.le_of_ble_eq_true rfl) (Nat.le_of_ble_eq_true rfl) (fun V9 h => hX _ _ ⟨[(o 0, .inr (2, [.ref (o 1), .ref (o 2), .ref (o 3), .ref (o 4), .ref (o 5), .ref (o 6), .ref (o 7), .ref (o 8), .ref (o 9), .ref (o 10), .int ((r 0).toInt32)])), (o 1, .inl (0, 6, .inl (seF t r))), (o 2, .inl (0, 3, .inl (maF r))), (o 3, .inl (0, 3, .inl (va_up (plX r) 0 ((mvQ t (plX r 0) (r 9) (2 * (maF r 0)) 1).toInt32)))), (o 4, .inl (0, 3, .inl (va_up (plY r) 0 ((mvQ t (plY r 0) (r 10) (2 * (maF r 0)) 1).toInt32)))), (o 5, .inl (1, 3, .inr (.inl (moX r)))), (o 6, .inl (1, 3, .inr (.inl (moY r)))), (q34, .inr (3, [.null, .null, .null, .null, .null, .int 0]))], ⟨in_f12 (by rw [← ((mvX10 (t := t) (j := 1) hpl hm (by decide)).trans (drq_12).symm)]; exact hk5), _, _, rfl⟩, by rw [← hV0, ← hF]; exact (h.sub [5, 6, 0, 1, 2, 3, 4, 7] rfl rfl)⟩)
    · skip
      refine xCall.w (wr := [(o 2, .inl (0, 3, .inl (maF r))), (o 3, .inl (0, 3, .inl u2)), (o 4, .inl (0, 3, .inl (plY r))), (o 5, .inl (1, 3, .inr (.inl (moX r)))), (o 6, .inl (1, 3, .inr (.inl (moY r))))]) (r_cV hC kX3 (o 0) [.int (plY r 0), .long (r 10), .int (2 * (maF r 0)), .int 1] mVX3_moved q416 (fun _ h => ⟨_, h.get 0 rfl⟩) (fun V9 h9 => (metX3_moved0B _ _ hG o t r (plY r 0) (r 10) (2 * (maF r 0)) (dv2_n hm (by decide)) ht hk3) V9 (h9.in.sub [0, 1] rfl rfl)) ⟨rfl, rfl⟩ (Nat.le_of_ble_eq_true rfl) (Nat.le_of_ble_eq_true rfl) rfl (Nat.le_of_ble_eq_true rfl) dX3_drift_65) [0, 1] [2, 3, 4, 5, 6] rfl rfl rfl (by decide) 1 6 68 rfl rfl rfl (fun _ _ h => h.elim) (fun q40 w41 h42 => ?_)
      obtain rfl := h42
      show rx C (xSt F V0 [(o 2, .inl (0, 3, .inl (maF r))), (o 3, .inl (0, 3, .inl u2)), (o 4, .inl (0, 3, .inl (plY r))), (o 5, .inl (1, 3, .inr (.inl (moX r)))), (o 6, .inl (1, 3, .inr (.inl (moY r)))), (o 0, .inr (2, [.ref (o 1), .ref (o 2), .ref (o 3), .ref (o 4), .ref (o 5), .ref (o 6), .ref (o 7), .ref (o 8), .ref (o 9), .ref (o 10), .int ((r 0).toInt32)])), (o 1, .inl (0, 6, .inl (seF t r))), (q40, .inr (3, [.null, .null, .null, .null, .null, .int 0]))]) 1 6 65 [(3, .int 0), (0, .ref (o 0)), (1, .int 1), (2, .int 2)] [.int 0, .ref (o 4)] q40
      subst hu2
      exact rx_out hC hTab (fun _ h => by cases h) (Nat.le_of_ble_eq_true rfl) (Nat.le_of_ble_eq_true rfl) (fun V9 h => hX _ _ ⟨[(o 0, .inr (2, [.ref (o 1), .ref (o 2), .ref (o 3), .ref (o 4), .ref (o 5), .ref (o 6), .ref (o 7), .ref (o 8), .ref (o 9), .ref (o 10), .int ((r 0).toInt32)])), (o 1, .inl (0, 6, .inl (seF t r))), (o 2, .inl (0, 3, .inl (maF r))), (o 3, .inl (0, 3, .inl (va_up (plX r) 0 ((mvQ t (plX r 0) (r 9) (2 * (maF r 0)) 1).toInt32)))), (o 4, .inl (0, 3, .inl (plY r))), (o 5, .inl (1, 3, .inr (.inl (moX r)))), (o 6, .inl (1, 3, .inr (.inl (moY r)))), (q40, .inr (3, [.null, .null, .null, .null, .null, .int 0]))], ⟨in_f8 (by rw [← ((mvY10 (t := t) (j := 0) hpl hm (by decide)).trans (drq_8).symm)]; exact hk3), _, _, rfl⟩, by rw [← hV0, ← hF]; exact (h.sub [5, 6, 0, 1, 2, 3, 4, 7] rfl rfl)⟩)
  · skip
    refine xCall.w (wr := [(o 2, .inl (0, 3, .inl (maF r))), (o 3, .inl (0, 3, .inl (plX r))), (o 4, .inl (0, 3, .inl (plY r))), (o 5, .inl (1, 3, .inr (.inl (moX r)))), (o 6, .inl (1, 3, .inr (.inl (moY r))))]) (r_cV hC kX3 (o 0) [.int (plX r 0), .long (r 9), .int (2 * (maF r 0)), .int 1] mVX3_moved q416 (fun _ h => ⟨_, h.get 0 rfl⟩) (fun V9 h9 => (metX3_moved0B _ _ hG o t r (plX r 0) (r 9) (2 * (maF r 0)) (dv2_n hm (by decide)) ht hk1) V9 (h9.in.sub [0, 1] rfl rfl)) ⟨rfl, rfl⟩ (Nat.le_of_ble_eq_true rfl) (Nat.le_of_ble_eq_true rfl) rfl (Nat.le_of_ble_eq_true rfl) dX3_drift_34) [0, 1] [2, 3, 4, 5, 6] rfl rfl rfl (by decide) 1 6 37 rfl rfl rfl (fun _ _ h => h.elim) (fun q46 w47 h48 => ?_)
    obtain rfl := h48
    show rx C (xSt F V0 [(o 2, .inl (0, 3, .inl (maF r))), (o 3, .inl (0, 3, .inl (plX r))), (o 4, .inl (0, 3, .inl (plY r))), (o 5, .inl (1, 3, .inr (.inl (moX r)))), (o 6, .inl (1, 3, .inr (.inl (moY r)))), (o 0, .inr (2, [.ref (o 1), .ref (o 2), .ref (o 3), .ref (o 4), .ref (o 5), .ref (o 6), .ref (o 7), .ref (o 8), .ref (o 9), .ref (o 10), .int ((r 0).toInt32)])), (o 1, .inl (0, 6, .inl (seF t r))), (q46, .inr (3, [.null, .null, .null, .null, .null, .int 0]))]) 1 6 34 [(3, .int 0), (0, .ref (o 0)), (1, .int 1), (2, .int 2)] [.int 0, .ref (o 3)] q46
    exact rx_out hC hTab (fun _ h => by cases h) (Nat.le_of_ble_eq_true rfl) (Nat.le_of_ble_eq_true rfl) (fun V9 h => hX _ _ ⟨[(o 0, .inr (2, [.ref (o 1), .ref (o 2), .ref (o 3), .ref (o 4), .ref (o 5), .ref (o 6), .ref (o 7), .ref (o 8), .ref (o 9), .ref (o 10), .int ((r 0).toInt32)])), (o 1, .inl (0, 6, .inl (seF t r))), (o 2, .inl (0, 3, .inl (maF r))), (o 3, .inl (0, 3, .inl (plX r))), (o 4, .inl (0, 3, .inl (plY r))), (o 5, .inl (1, 3, .inr (.inl (moX r)))), (o 6, .inl (1, 3, .inr (.inl (moY r)))), (q46, .inr (3, [.null, .null, .null, .null, .null, .int 0]))], ⟨in_f7 (by rw [← ((mvX10 (t := t) (j := 0) hpl hm (by decide)).trans (drq_7).symm)]; exact hk1), _, _, rfl⟩, by rw [← hV0, ← hF]; exact (h.sub [5, 6, 0, 1, 2, 3, 4, 7] rfl rfl)⟩)
set_option maxHeartbeats 4000000 in
set_option maxRecDepth 100000 in
theorem metX3_drift10S (l : Launch) (G : xG) (hG : xGood G) (o : Nat → Nat) (t r : Nat → Int64) (hpl : plR r) (hmo : moR r) (ht : tOK t) (hm : mOK r) (hin : isInQ (driftQ t r true false) = true) : xWm l G yX3_drift (Cond.code yX3_drift cX3_drift 4 none) { frames := 3, locals := 75, cells := 0, slots := 0 } [.ref (o 0), .int 1, .int 2] [(o 0, .inr (2, [.ref (o 1), .ref (o 2), .ref (o 3), .ref (o 4), .ref (o 5), .ref (o 6), .ref (o 7), .ref (o 8), .ref (o 9), .ref (o 10), .int ((r 0).toInt32)])), (o 1, .inl (0, 6, .inl (seF t r))), (o 2, .inl (0, 3, .inl (maF r))), (o 3, .inl (0, 3, .inl (plX r))), (o 4, .inl (0, 3, .inl (plY r))), (o 5, .inl (1, 3, .inr (.inl (moX r)))), (o 6, .inl (1, 3, .inr (.inl (moY r))))] (fun v w' => v = none ∧ isInQ (driftQ t r true false) = true ∧ w' = [(o 0, .inr (2, [.ref (o 1), .ref (o 2), .ref (o 3), .ref (o 4), .ref (o 5), .ref (o 6), .ref (o 7), .ref (o 8), .ref (o 9), .ref (o 10), .int (((driftQ t r true false) 0).toInt32)])), (o 1, .inl (0, 6, .inl (seF t (driftQ t r true false)))), (o 2, .inl (0, 3, .inl (maF (driftQ t r true false)))), (o 3, .inl (0, 3, .inl (plX (driftQ t r true false)))), (o 4, .inl (0, 3, .inl (plY (driftQ t r true false)))), (o 5, .inl (1, 3, .inr (.inl (moX (driftQ t r true false))))), (o 6, .inl (1, 3, .inr (.inl (moY (driftQ t r true false)))))]) (fun _ _ => False) := by
  intro V hV
  refine xMet_ofT RX3 hG rfl (by decide) (Nat.le_of_ble_eq_true rfl) fun C hC hQ hX hl hg _ hTab => ?_
  subst hl hg
  obtain ⟨V0, hV0⟩ : ∃ V0, V0 = V := ⟨_, rfl⟩
  obtain ⟨F, hF⟩ : ∃ F, F = xF [(o 0, .inr (2, [.ref (o 1), .ref (o 2), .ref (o 3), .ref (o 4), .ref (o 5), .ref (o 6), .ref (o 7), .ref (o 8), .ref (o 9), .ref (o 10), .int ((r 0).toInt32)])), (o 1, .inl (0, 6, .inl (seF t r))), (o 2, .inl (0, 3, .inl (maF r))), (o 3, .inl (0, 3, .inl (plX r))), (o 4, .inl (0, 3, .inl (plY r))), (o 5, .inl (1, 3, .inr (.inl (moX r)))), (o 6, .inl (1, 3, .inr (.inl (moY r))))] := ⟨_, rfl⟩
  refine rn.mono (J := xSt F V0 [(o 0, .inr (2, [.ref (o 1), .ref (o 2), .ref (o 3), .ref (o 4), .ref (o 5), .ref (o 6), .ref (o 7), .ref (o 8), .ref (o 9), .ref (o 10), .int ((r 0).toInt32)])), (o 1, .inl (0, 6, .inl (seF t r))), (o 2, .inl (0, 3, .inl (maF r))), (o 3, .inl (0, 3, .inl (plX r))), (o 4, .inl (0, 3, .inl (plY r))), (o 5, .inl (1, 3, .inr (.inl (moX r)))), (o 6, .inl (1, 3, .inr (.inl (moY r))))]) (fun V9 h => by rw [h, hV0, hF]; exact hV.st) ?_
  show rn C (xSt F V0 [(o 0, .inr (2, [.ref (o 1), .ref (o 2), .ref (o 3), .ref (o 4), .ref (o 5), .ref (o 6), .ref (o 7), .ref (o 8), .ref (o 9), .ref (o 10), .int ((r 0).toInt32)])), (o 1, .inl (0, 6, .inl (seF t r))), (o 2, .inl (0, 3, .inl (maF r))), (o 3, .inl (0, 3, .inl (plX r))), (o 4, .inl (0, 3, .inl (plY r))), (o 5, .inl (1, 3, .inr (.inl (moX r)))), (o 6, .inl (1, 3, .inr (.inl (moY r))))]) 0 0 0 [(0, .ref (o 0)), (1, .int 1), (2, .int 2)] []
  refine r_iconst hC 0 dX3_drift_0 ic_0 1 rfl ?_
  refine r_istore_n hC 3 [(3, .int 0), (0, .ref (o 0)), (1, .int 1), (2, .int 2)] dX3_drift_1 rfl (Nat.le_of_ble_eq_true rfl) rfl 2 rfl ?_
  refine r_iload_n hC 0 dX3_drift_2 rfl 3 rfl ?_
  refine r_iconst hC 3 dX3_drift_3 ic_3 4 rfl ?_
  refine r_icge hC 75 dX3_drift_4 (by decide) 7 rfl (fun h => absurd h (by decide)) (fun _ => ?_)
  refine r_aload_n hC 1 dX3_drift_7 rfl 8 rfl ?_
  refine r_get (v := .ref (o 3)) hC kX3 2 rfl q180 (fun _ h => h.get 0 rfl) rfl dX3_drift_8 11 rfl ?_
  refine r_iload_n hC 0 dX3_drift_11 rfl 12 rfl ?_
  refine r_aload_n hC 1 dX3_drift_12 rfl 13 rfl ?_
  refine r_aload_n hC 1 dX3_drift_13 rfl 14 rfl ?_
  refine r_get (v := .ref (o 3)) hC kX3 2 rfl q180 (fun _ h => h.get 0 rfl) rfl dX3_drift_14 17 rfl ?_
  refine r_iload_n hC 0 dX3_drift_17 rfl 18 rfl ?_
  refine r_iald hC 0 (xix_n 0 (Nat.le_of_ble_eq_true rfl) (Nat.le_of_ble_eq_true rfl)) (fun _ h => h.get 3 rfl) (plX r 0) (rfl) dX3_drift_18 19 rfl ?_
  refine r_aload_n hC 1 dX3_drift_19 rfl 20 rfl ?_
  refine r_get (v := .ref (o 5)) hC kX3 4 rfl q188 (fun _ h => h.get 0 rfl) rfl dX3_drift_20 23 rfl ?_
  refine r_iload_n hC 0 dX3_drift_23 rfl 24 rfl ?_
  refine r_lald hC 0 (xix_n 0 (Nat.le_of_ble_eq_true rfl) (Nat.le_of_ble_eq_true rfl)) (fun _ h => h.get 5 rfl) (moX r 0) (rfl) dX3_drift_24 25 rfl ?_
  refine r_eql (y := r 9) (rfl) ?_
  refine r_iload_n hC 3 dX3_drift_25 rfl 26 rfl ?_
  refine r_aload_n hC 1 dX3_drift_26 rfl 27 rfl ?_
  refine r_get (v := .ref (o 2)) hC kX3 1 rfl q177 (fun _ h => h.get 0 rfl) rfl dX3_drift_27 30 rfl ?_
  refine r_iload_n hC 0 dX3_drift_30 rfl 31 rfl ?_
  refine r_iald hC 0 (xix_n 0 (Nat.le_of_ble_eq_true rfl) (Nat.le_of_ble_eq_true rfl)) (fun _ h => h.get 2 rfl) (maF r 0) (rfl) dX3_drift_31 32 rfl ?_
  refine r_imul hC (2 * (maF r 0)) dX3_drift_32  (rfl) 33 rfl ?_
  refine r_iload_n hC 2 dX3_drift_33 rfl 34 rfl ?_
  have hk1 : m_in (mvQ t (plX r 0) (r 9) (2 * (maF r 0)) 1) (-100000) 100000 = true := by rw [((mvX10 (t := t) (j := 0) hpl hm (by decide)).trans (drq_7).symm)]; exact in_y7 hin
  refine xCall.r (r := some (.int ((mvQ t (plX r 0) (r 9) (2 * (maF r 0)) 1).toInt32))) (r_cV hC kX3 (o 0) [.int (plX r 0), .long (r 9), .int (2 * (maF r 0)), .int 1] mVX3_moved q416 (fun _ h => ⟨_, h.get 0 rfl⟩) (fun V9 h9 => (metX3_moved0G _ _ hG o t r (plX r 0) (r 9) (2 * (maF r 0)) (dv2_n hm (by decide)) ht hk1) V9 (h9.in.sub [0, 1] rfl rfl)) ⟨rfl, rfl⟩ (Nat.le_of_ble_eq_true rfl) (Nat.le_of_ble_eq_true rfl) rfl (Nat.le_of_ble_eq_true rfl) dX3_drift_34) 0 0 37 rfl rfl rfl ?_
  refine r_iast (J := xSt F V0 [(o 0, .inr (2, [.ref (o 1), .ref (o 2), .ref (o 3), .ref (o 4), .ref (o 5), .ref (o 6), .ref (o 7), .ref (o 8), .ref (o 9), .ref (o 10), .int ((r 0).toInt32)])), (o 1, .inl (0, 6, .inl (seF t r))), (o 2, .inl (0, 3, .inl (maF r))), (o 3, .inl (0, 3, .inl (va_up (plX r) 0 ((mvQ t (plX r 0) (r 9) (2 * (maF r 0)) 1).toInt32)))), (o 4, .inl (0, 3, .inl (plY r))), (o 5, .inl (1, 3, .inr (.inl (moX r)))), (o 6, .inl (1, 3, .inr (.inl (moY r))))]) hC 0 (xix_n 0 (Nat.le_of_ble_eq_true rfl) (Nat.le_of_ble_eq_true rfl)) (fun _ h => h.get 3 rfl) dX3_drift_37 (fun _ h => h.set 3 _ rfl) 38 rfl ?_
  generalize hu2 : va_up (plX r) 0 ((mvQ t (plX r 0) (r 9) (2 * (maF r 0)) 1).toInt32) = u2
  refine r_aload_n hC 1 dX3_drift_38 rfl 39 rfl ?_
  refine r_get (v := .ref (o 4)) hC kX3 3 rfl q184 (fun _ h => h.get 0 rfl) rfl dX3_drift_39 42 rfl ?_
  refine r_iload_n hC 0 dX3_drift_42 rfl 43 rfl ?_
  refine r_aload_n hC 1 dX3_drift_43 rfl 44 rfl ?_
  refine r_aload_n hC 1 dX3_drift_44 rfl 45 rfl ?_
  refine r_get (v := .ref (o 4)) hC kX3 3 rfl q184 (fun _ h => h.get 0 rfl) rfl dX3_drift_45 48 rfl ?_
  refine r_iload_n hC 0 dX3_drift_48 rfl 49 rfl ?_
  refine r_iald hC 0 (xix_n 0 (Nat.le_of_ble_eq_true rfl) (Nat.le_of_ble_eq_true rfl)) (fun _ h => h.get 4 rfl) (plY r 0) (rfl) dX3_drift_49 50 rfl ?_
  refine r_aload_n hC 1 dX3_drift_50 rfl 51 rfl ?_
  refine r_get (v := .ref (o 6)) hC kX3 5 rfl q191 (fun _ h => h.get 0 rfl) rfl dX3_drift_51 54 rfl ?_
  refine r_iload_n hC 0 dX3_drift_54 rfl 55 rfl ?_
  refine r_lald hC 0 (xix_n 0 (Nat.le_of_ble_eq_true rfl) (Nat.le_of_ble_eq_true rfl)) (fun _ h => h.get 6 rfl) (moY r 0) (rfl) dX3_drift_55 56 rfl ?_
  refine r_eql (y := r 10) (rfl) ?_
  refine r_iload_n hC 3 dX3_drift_56 rfl 57 rfl ?_
  refine r_aload_n hC 1 dX3_drift_57 rfl 58 rfl ?_
  refine r_get (v := .ref (o 2)) hC kX3 1 rfl q177 (fun _ h => h.get 0 rfl) rfl dX3_drift_58 61 rfl ?_
  refine r_iload_n hC 0 dX3_drift_61 rfl 62 rfl ?_
  refine r_iald hC 0 (xix_n 0 (Nat.le_of_ble_eq_true rfl) (Nat.le_of_ble_eq_true rfl)) (fun _ h => h.get 2 rfl) (maF r 0) (rfl) dX3_drift_62 63 rfl ?_
  refine r_imul hC (2 * (maF r 0)) dX3_drift_63  (rfl) 64 rfl ?_
  refine r_iload_n hC 2 dX3_drift_64 rfl 65 rfl ?_
  have hk3 : m_in (mvQ t (plY r 0) (r 10) (2 * (maF r 0)) 1) (-100000) 100000 = true := by rw [((mvY10 (t := t) (j := 0) hpl hm (by decide)).trans (drq_8).symm)]; exact in_y8 hin
  refine xCall.r (r := some (.int ((mvQ t (plY r 0) (r 10) (2 * (maF r 0)) 1).toInt32))) (r_cV hC kX3 (o 0) [.int (plY r 0), .long (r 10), .int (2 * (maF r 0)), .int 1] mVX3_moved q416 (fun _ h => ⟨_, h.get 0 rfl⟩) (fun V9 h9 => (metX3_moved0G _ _ hG o t r (plY r 0) (r 10) (2 * (maF r 0)) (dv2_n hm (by decide)) ht hk3) V9 (h9.in.sub [0, 1] rfl rfl)) ⟨rfl, rfl⟩ (Nat.le_of_ble_eq_true rfl) (Nat.le_of_ble_eq_true rfl) rfl (Nat.le_of_ble_eq_true rfl) dX3_drift_65) 0 0 68 rfl rfl rfl ?_
  refine r_iast (J := xSt F V0 [(o 0, .inr (2, [.ref (o 1), .ref (o 2), .ref (o 3), .ref (o 4), .ref (o 5), .ref (o 6), .ref (o 7), .ref (o 8), .ref (o 9), .ref (o 10), .int ((r 0).toInt32)])), (o 1, .inl (0, 6, .inl (seF t r))), (o 2, .inl (0, 3, .inl (maF r))), (o 3, .inl (0, 3, .inl u2)), (o 4, .inl (0, 3, .inl (va_up (plY r) 0 ((mvQ t (plY r 0) (r 10) (2 * (maF r 0)) 1).toInt32)))), (o 5, .inl (1, 3, .inr (.inl (moX r)))), (o 6, .inl (1, 3, .inr (.inl (moY r))))]) hC 0 (xix_n 0 (Nat.le_of_ble_eq_true rfl) (Nat.le_of_ble_eq_true rfl)) (fun _ h => h.get 4 rfl) dX3_drift_68 (fun _ h => h.set 4 _ rfl) 69 rfl ?_
  generalize hu4 : va_up (plY r) 0 ((mvQ t (plY r 0) (r 10) (2 * (maF r 0)) 1).toInt32) = u4
  refine r_iinc hC 1 3 0 [(3, .int 1), (0, .ref (o 0)), (1, .int 1), (2, .int 2)] dX3_drift_69 rfl (by decide) (Nat.le_of_ble_eq_true rfl) rfl 72 rfl ?_
  refine r_goto hC 2 dX3_drift_72 (by decide) ?_
  refine r_iload_n hC 0 dX3_drift_2 rfl 3 rfl ?_
  refine r_iconst hC 3 dX3_drift_3 ic_3 4 rfl ?_
  refine r_icge hC 75 dX3_drift_4 (by decide) 7 rfl (fun h => absurd h (by decide)) (fun _ => ?_)
  refine r_aload_n hC 1 dX3_drift_7 rfl 8 rfl ?_
  refine r_get (v := .ref (o 3)) hC kX3 2 rfl q180 (fun _ h => h.get 0 rfl) rfl dX3_drift_8 11 rfl ?_
  refine r_iload_n hC 0 dX3_drift_11 rfl 12 rfl ?_
  refine r_aload_n hC 1 dX3_drift_12 rfl 13 rfl ?_
  refine r_aload_n hC 1 dX3_drift_13 rfl 14 rfl ?_
  refine r_get (v := .ref (o 3)) hC kX3 2 rfl q180 (fun _ h => h.get 0 rfl) rfl dX3_drift_14 17 rfl ?_
  refine r_iload_n hC 0 dX3_drift_17 rfl 18 rfl ?_
  refine r_iald hC 1 (xix_n 1 (Nat.le_of_ble_eq_true rfl) (Nat.le_of_ble_eq_true rfl)) (fun _ h => h.get 3 rfl) (plX r 1) (by rw [← hu2]; rfl) dX3_drift_18 19 rfl ?_
  refine r_aload_n hC 1 dX3_drift_19 rfl 20 rfl ?_
  refine r_get (v := .ref (o 5)) hC kX3 4 rfl q188 (fun _ h => h.get 0 rfl) rfl dX3_drift_20 23 rfl ?_
  refine r_iload_n hC 0 dX3_drift_23 rfl 24 rfl ?_
  refine r_lald hC 1 (xix_n 1 (Nat.le_of_ble_eq_true rfl) (Nat.le_of_ble_eq_true rfl)) (fun _ h => h.get 5 rfl) (moX r 1) (rfl) dX3_drift_24 25 rfl ?_
  refine r_eql (y := r 14) (rfl) ?_
  refine r_iload_n hC 3 dX3_drift_25 rfl 26 rfl ?_
  refine r_aload_n hC 1 dX3_drift_26 rfl 27 rfl ?_
  refine r_get (v := .ref (o 2)) hC kX3 1 rfl q177 (fun _ h => h.get 0 rfl) rfl dX3_drift_27 30 rfl ?_
  refine r_iload_n hC 0 dX3_drift_30 rfl 31 rfl ?_
  refine r_iald hC 1 (xix_n 1 (Nat.le_of_ble_eq_true rfl) (Nat.le_of_ble_eq_true rfl)) (fun _ h => h.get 2 rfl) (maF r 1) (rfl) dX3_drift_31 32 rfl ?_
  refine r_imul hC (2 * (maF r 1)) dX3_drift_32  (rfl) 33 rfl ?_
  refine r_iload_n hC 2 dX3_drift_33 rfl 34 rfl ?_
  have hk5 : m_in (mvQ t (plX r 1) (r 14) (2 * (maF r 1)) 1) (-100000) 100000 = true := by rw [((mvX10 (t := t) (j := 1) hpl hm (by decide)).trans (drq_12).symm)]; exact in_y12 hin
  refine xCall.r (r := some (.int ((mvQ t (plX r 1) (r 14) (2 * (maF r 1)) 1).toInt32))) (r_cV hC kX3 (o 0) [.int (plX r 1), .long (r 14), .int (2 * (maF r 1)), .int 1] mVX3_moved q416 (fun _ h => ⟨_, h.get 0 rfl⟩) (fun V9 h9 => (metX3_moved0G _ _ hG o t r (plX r 1) (r 14) (2 * (maF r 1)) (dv2_n hm (by decide)) ht hk5) V9 (h9.in.sub [0, 1] rfl rfl)) ⟨rfl, rfl⟩ (Nat.le_of_ble_eq_true rfl) (Nat.le_of_ble_eq_true rfl) rfl (Nat.le_of_ble_eq_true rfl) dX3_drift_34) 0 0 37 rfl rfl rfl ?_
  refine r_iast (J := xSt F V0 [(o 0, .inr (2, [.ref (o 1), .ref (o 2), .ref (o 3), .ref (o 4), .ref (o 5), .ref (o 6), .ref (o 7), .ref (o 8), .ref (o 9), .ref (o 10), .int ((r 0).toInt32)])), (o 1, .inl (0, 6, .inl (seF t r))), (o 2, .inl (0, 3, .inl (maF r))), (o 3, .inl (0, 3, .inl (va_up u2 1 ((mvQ t (plX r 1) (r 14) (2 * (maF r 1)) 1).toInt32)))), (o 4, .inl (0, 3, .inl u4)), (o 5, .inl (1, 3, .inr (.inl (moX r)))), (o 6, .inl (1, 3, .inr (.inl (moY r))))]) hC 1 (xix_n 1 (Nat.le_of_ble_eq_true rfl) (Nat.le_of_ble_eq_true rfl)) (fun _ h => h.get 3 rfl) dX3_drift_37 (fun _ h => h.set 3 _ rfl) 38 rfl ?_
  generalize hu6 : va_up u2 1 ((mvQ t (plX r 1) (r 14) (2 * (maF r 1)) 1).toInt32) = u6
  refine r_aload_n hC 1 dX3_drift_38 rfl 39 rfl ?_
  refine r_get (v := .ref (o 4)) hC kX3 3 rfl q184 (fun _ h => h.get 0 rfl) rfl dX3_drift_39 42 rfl ?_
  refine r_iload_n hC 0 dX3_drift_42 rfl 43 rfl ?_
  refine r_aload_n hC 1 dX3_drift_43 rfl 44 rfl ?_
  refine r_aload_n hC 1 dX3_drift_44 rfl 45 rfl ?_
  refine r_get (v := .ref (o 4)) hC kX3 3 rfl q184 (fun _ h => h.get 0 rfl) rfl dX3_drift_45 48 rfl ?_
  refine r_iload_n hC 0 dX3_drift_48 rfl 49 rfl ?_
  refine r_iald hC 1 (xix_n 1 (Nat.le_of_ble_eq_true rfl) (Nat.le_of_ble_eq_true rfl)) (fun _ h => h.get 4 rfl) (plY r 1) (by rw [← hu4]; rfl) dX3_drift_49 50 rfl ?_
  refine r_aload_n hC 1 dX3_drift_50 rfl 51 rfl ?_
  refine r_get (v := .ref (o 6)) hC kX3 5 rfl q191 (fun _ h => h.get 0 rfl) rfl dX3_drift_51 54 rfl ?_
  refine r_iload_n hC 0 dX3_drift_54 rfl 55 rfl ?_
  refine r_lald hC 1 (xix_n 1 (Nat.le_of_ble_eq_true rfl) (Nat.le_of_ble_eq_true rfl)) (fun _ h => h.get 6 rfl) (moY r 1) (rfl) dX3_drift_55 56 rfl ?_
  refine r_eql (y := r 15) (rfl) ?_
  refine r_iload_n hC 3 dX3_drift_56 rfl 57 rfl ?_
  refine r_aload_n hC 1 dX3_drift_57 rfl 58 rfl ?_
  refine r_get (v := .ref (o 2)) hC kX3 1 rfl q177 (fun _ h => h.get 0 rfl) rfl dX3_drift_58 61 rfl ?_
  refine r_iload_n hC 0 dX3_drift_61 rfl 62 rfl ?_
  refine r_iald hC 1 (xix_n 1 (Nat.le_of_ble_eq_true rfl) (Nat.le_of_ble_eq_true rfl)) (fun _ h => h.get 2 rfl) (maF r 1) (rfl) dX3_drift_62 63 rfl ?_
  refine r_imul hC (2 * (maF r 1)) dX3_drift_63  (rfl) 64 rfl ?_
  refine r_iload_n hC 2 dX3_drift_64 rfl 65 rfl ?_
  have hk7 : m_in (mvQ t (plY r 1) (r 15) (2 * (maF r 1)) 1) (-100000) 100000 = true := by rw [((mvY10 (t := t) (j := 1) hpl hm (by decide)).trans (drq_13).symm)]; exact in_y13 hin
  refine xCall.r (r := some (.int ((mvQ t (plY r 1) (r 15) (2 * (maF r 1)) 1).toInt32))) (r_cV hC kX3 (o 0) [.int (plY r 1), .long (r 15), .int (2 * (maF r 1)), .int 1] mVX3_moved q416 (fun _ h => ⟨_, h.get 0 rfl⟩) (fun V9 h9 => (metX3_moved0G _ _ hG o t r (plY r 1) (r 15) (2 * (maF r 1)) (dv2_n hm (by decide)) ht hk7) V9 (h9.in.sub [0, 1] rfl rfl)) ⟨rfl, rfl⟩ (Nat.le_of_ble_eq_true rfl) (Nat.le_of_ble_eq_true rfl) rfl (Nat.le_of_ble_eq_true rfl) dX3_drift_65) 0 0 68 rfl rfl rfl ?_
  refine r_iast (J := xSt F V0 [(o 0, .inr (2, [.ref (o 1), .ref (o 2), .ref (o 3), .ref (o 4), .ref (o 5), .ref (o 6), .ref (o 7), .ref (o 8), .ref (o 9), .ref (o 10), .int ((r 0).toInt32)])), (o 1, .inl (0, 6, .inl (seF t r))), (o 2, .inl (0, 3, .inl (maF r))), (o 3, .inl (0, 3, .inl u6)), (o 4, .inl (0, 3, .inl (va_up u4 1 ((mvQ t (plY r 1) (r 15) (2 * (maF r 1)) 1).toInt32)))), (o 5, .inl (1, 3, .inr (.inl (moX r)))), (o 6, .inl (1, 3, .inr (.inl (moY r))))]) hC 1 (xix_n 1 (Nat.le_of_ble_eq_true rfl) (Nat.le_of_ble_eq_true rfl)) (fun _ h => h.get 4 rfl) dX3_drift_68 (fun _ h => h.set 4 _ rfl) 69 rfl ?_
  generalize hu8 : va_up u4 1 ((mvQ t (plY r 1) (r 15) (2 * (maF r 1)) 1).toInt32) = u8
  refine r_iinc hC 2 3 0 [(3, .int 2), (0, .ref (o 0)), (1, .int 1), (2, .int 2)] dX3_drift_69 rfl (by decide) (Nat.le_of_ble_eq_true rfl) rfl 72 rfl ?_
  refine r_goto hC 2 dX3_drift_72 (by decide) ?_
  refine r_iload_n hC 0 dX3_drift_2 rfl 3 rfl ?_
  refine r_iconst hC 3 dX3_drift_3 ic_3 4 rfl ?_
  refine r_icge hC 75 dX3_drift_4 (by decide) 7 rfl (fun h => absurd h (by decide)) (fun _ => ?_)
  refine r_aload_n hC 1 dX3_drift_7 rfl 8 rfl ?_
  refine r_get (v := .ref (o 3)) hC kX3 2 rfl q180 (fun _ h => h.get 0 rfl) rfl dX3_drift_8 11 rfl ?_
  refine r_iload_n hC 0 dX3_drift_11 rfl 12 rfl ?_
  refine r_aload_n hC 1 dX3_drift_12 rfl 13 rfl ?_
  refine r_aload_n hC 1 dX3_drift_13 rfl 14 rfl ?_
  refine r_get (v := .ref (o 3)) hC kX3 2 rfl q180 (fun _ h => h.get 0 rfl) rfl dX3_drift_14 17 rfl ?_
  refine r_iload_n hC 0 dX3_drift_17 rfl 18 rfl ?_
  refine r_iald hC 2 (xix_n 2 (Nat.le_of_ble_eq_true rfl) (Nat.le_of_ble_eq_true rfl)) (fun _ h => h.get 3 rfl) (plX r 2) (by rw [← hu6, ← hu2]; rfl) dX3_drift_18 19 rfl ?_
  refine r_aload_n hC 1 dX3_drift_19 rfl 20 rfl ?_
  refine r_get (v := .ref (o 5)) hC kX3 4 rfl q188 (fun _ h => h.get 0 rfl) rfl dX3_drift_20 23 rfl ?_
  refine r_iload_n hC 0 dX3_drift_23 rfl 24 rfl ?_
  refine r_lald hC 2 (xix_n 2 (Nat.le_of_ble_eq_true rfl) (Nat.le_of_ble_eq_true rfl)) (fun _ h => h.get 5 rfl) (moX r 2) (rfl) dX3_drift_24 25 rfl ?_
  refine r_eql (y := r 19) (rfl) ?_
  refine r_iload_n hC 3 dX3_drift_25 rfl 26 rfl ?_
  refine r_aload_n hC 1 dX3_drift_26 rfl 27 rfl ?_
  refine r_get (v := .ref (o 2)) hC kX3 1 rfl q177 (fun _ h => h.get 0 rfl) rfl dX3_drift_27 30 rfl ?_
  refine r_iload_n hC 0 dX3_drift_30 rfl 31 rfl ?_
  refine r_iald hC 2 (xix_n 2 (Nat.le_of_ble_eq_true rfl) (Nat.le_of_ble_eq_true rfl)) (fun _ h => h.get 2 rfl) (maF r 2) (rfl) dX3_drift_31 32 rfl ?_
  refine r_imul hC (2 * (maF r 2)) dX3_drift_32  (rfl) 33 rfl ?_
  refine r_iload_n hC 2 dX3_drift_33 rfl 34 rfl ?_
  have hk9 : m_in (mvQ t (plX r 2) (r 19) (2 * (maF r 2)) 1) (-100000) 100000 = true := by rw [((mvX10 (t := t) (j := 2) hpl hm (by decide)).trans (drq_17).symm)]; exact in_y17 hin
  refine xCall.r (r := some (.int ((mvQ t (plX r 2) (r 19) (2 * (maF r 2)) 1).toInt32))) (r_cV hC kX3 (o 0) [.int (plX r 2), .long (r 19), .int (2 * (maF r 2)), .int 1] mVX3_moved q416 (fun _ h => ⟨_, h.get 0 rfl⟩) (fun V9 h9 => (metX3_moved0G _ _ hG o t r (plX r 2) (r 19) (2 * (maF r 2)) (dv2_n hm (by decide)) ht hk9) V9 (h9.in.sub [0, 1] rfl rfl)) ⟨rfl, rfl⟩ (Nat.le_of_ble_eq_true rfl) (Nat.le_of_ble_eq_true rfl) rfl (Nat.le_of_ble_eq_true rfl) dX3_drift_34) 0 0 37 rfl rfl rfl ?_
  refine r_iast (J := xSt F V0 [(o 0, .inr (2, [.ref (o 1), .ref (o 2), .ref (o 3), .ref (o 4), .ref (o 5), .ref (o 6), .ref (o 7), .ref (o 8), .ref (o 9), .ref (o 10), .int ((r 0).toInt32)])), (o 1, .inl (0, 6, .inl (seF t r))), (o 2, .inl (0, 3, .inl (maF r))), (o 3, .inl (0, 3, .inl (va_up u6 2 ((mvQ t (plX r 2) (r 19) (2 * (maF r 2)) 1).toInt32)))), (o 4, .inl (0, 3, .inl u8)), (o 5, .inl (1, 3, .inr (.inl (moX r)))), (o 6, .inl (1, 3, .inr (.inl (moY r))))]) hC 2 (xix_n 2 (Nat.le_of_ble_eq_true rfl) (Nat.le_of_ble_eq_true rfl)) (fun _ h => h.get 3 rfl) dX3_drift_37 (fun _ h => h.set 3 _ rfl) 38 rfl ?_
  generalize hu10 : va_up u6 2 ((mvQ t (plX r 2) (r 19) (2 * (maF r 2)) 1).toInt32) = u10
  refine r_aload_n hC 1 dX3_drift_38 rfl 39 rfl ?_
  refine r_get (v := .ref (o 4)) hC kX3 3 rfl q184 (fun _ h => h.get 0 rfl) rfl dX3_drift_39 42 rfl ?_
  refine r_iload_n hC 0 dX3_drift_42 rfl 43 rfl ?_
  refine r_aload_n hC 1 dX3_drift_43 rfl 44 rfl ?_
  refine r_aload_n hC 1 dX3_drift_44 rfl 45 rfl ?_
  refine r_get (v := .ref (o 4)) hC kX3 3 rfl q184 (fun _ h => h.get 0 rfl) rfl dX3_drift_45 48 rfl ?_
  refine r_iload_n hC 0 dX3_drift_48 rfl 49 rfl ?_
  refine r_iald hC 2 (xix_n 2 (Nat.le_of_ble_eq_true rfl) (Nat.le_of_ble_eq_true rfl)) (fun _ h => h.get 4 rfl) (plY r 2) (by rw [← hu8, ← hu4]; rfl) dX3_drift_49 50 rfl ?_
  refine r_aload_n hC 1 dX3_drift_50 rfl 51 rfl ?_
  refine r_get (v := .ref (o 6)) hC kX3 5 rfl q191 (fun _ h => h.get 0 rfl) rfl dX3_drift_51 54 rfl ?_
  refine r_iload_n hC 0 dX3_drift_54 rfl 55 rfl ?_
  refine r_lald hC 2 (xix_n 2 (Nat.le_of_ble_eq_true rfl) (Nat.le_of_ble_eq_true rfl)) (fun _ h => h.get 6 rfl) (moY r 2) (rfl) dX3_drift_55 56 rfl ?_
  refine r_eql (y := r 20) (rfl) ?_
  refine r_iload_n hC 3 dX3_drift_56 rfl 57 rfl ?_
  refine r_aload_n hC 1 dX3_drift_57 rfl 58 rfl ?_
  refine r_get (v := .ref (o 2)) hC kX3 1 rfl q177 (fun _ h => h.get 0 rfl) rfl dX3_drift_58 61 rfl ?_
  refine r_iload_n hC 0 dX3_drift_61 rfl 62 rfl ?_
  refine r_iald hC 2 (xix_n 2 (Nat.le_of_ble_eq_true rfl) (Nat.le_of_ble_eq_true rfl)) (fun _ h => h.get 2 rfl) (maF r 2) (rfl) dX3_drift_62 63 rfl ?_
  refine r_imul hC (2 * (maF r 2)) dX3_drift_63  (rfl) 64 rfl ?_
  refine r_iload_n hC 2 dX3_drift_64 rfl 65 rfl ?_
  have hk11 : m_in (mvQ t (plY r 2) (r 20) (2 * (maF r 2)) 1) (-100000) 100000 = true := by rw [((mvY10 (t := t) (j := 2) hpl hm (by decide)).trans (drq_18).symm)]; exact in_y18 hin
  refine xCall.r (r := some (.int ((mvQ t (plY r 2) (r 20) (2 * (maF r 2)) 1).toInt32))) (r_cV hC kX3 (o 0) [.int (plY r 2), .long (r 20), .int (2 * (maF r 2)), .int 1] mVX3_moved q416 (fun _ h => ⟨_, h.get 0 rfl⟩) (fun V9 h9 => (metX3_moved0G _ _ hG o t r (plY r 2) (r 20) (2 * (maF r 2)) (dv2_n hm (by decide)) ht hk11) V9 (h9.in.sub [0, 1] rfl rfl)) ⟨rfl, rfl⟩ (Nat.le_of_ble_eq_true rfl) (Nat.le_of_ble_eq_true rfl) rfl (Nat.le_of_ble_eq_true rfl) dX3_drift_65) 0 0 68 rfl rfl rfl ?_
  refine r_iast (J := xSt F V0 [(o 0, .inr (2, [.ref (o 1), .ref (o 2), .ref (o 3), .ref (o 4), .ref (o 5), .ref (o 6), .ref (o 7), .ref (o 8), .ref (o 9), .ref (o 10), .int ((r 0).toInt32)])), (o 1, .inl (0, 6, .inl (seF t r))), (o 2, .inl (0, 3, .inl (maF r))), (o 3, .inl (0, 3, .inl u10)), (o 4, .inl (0, 3, .inl (va_up u8 2 ((mvQ t (plY r 2) (r 20) (2 * (maF r 2)) 1).toInt32)))), (o 5, .inl (1, 3, .inr (.inl (moX r)))), (o 6, .inl (1, 3, .inr (.inl (moY r))))]) hC 2 (xix_n 2 (Nat.le_of_ble_eq_true rfl) (Nat.le_of_ble_eq_true rfl)) (fun _ h => h.get 4 rfl) dX3_drift_68 (fun _ h => h.set 4 _ rfl) 69 rfl ?_
  generalize hu12 : va_up u8 2 ((mvQ t (plY r 2) (r 20) (2 * (maF r 2)) 1).toInt32) = u12
  refine r_iinc hC 3 3 0 [(3, .int 3), (0, .ref (o 0)), (1, .int 1), (2, .int 2)] dX3_drift_69 rfl (by decide) (Nat.le_of_ble_eq_true rfl) rfl 72 rfl ?_
  refine r_goto hC 2 dX3_drift_72 (by decide) ?_
  refine r_iload_n hC 0 dX3_drift_2 rfl 3 rfl ?_
  refine r_iconst hC 3 dX3_drift_3 ic_3 4 rfl ?_
  refine r_icge hC 75 dX3_drift_4 (by decide) 7 rfl (fun _ => ?_) (fun h => absurd h (by decide))
  subst hu12
  subst hu10
  subst hu8
  subst hu6
  subst hu4
  subst hu2
  refine rn_cellI (J := xSt F V0 [(o 0, .inr (2, [.ref (o 1), .ref (o 2), .ref (o 3), .ref (o 4), .ref (o 5), .ref (o 6), .ref (o 7), .ref (o 8), .ref (o 9), .ref (o 10), .int ((r 0).toInt32)])), (o 1, .inl (0, 6, .inl (seF t r))), (o 2, .inl (0, 3, .inl (maF (driftQ t r true false)))), (o 3, .inl (0, 3, .inl (va_up (va_up (va_up (plX r) 0 ((mvQ t (plX r 0) (r 9) (2 * (maF r 0)) 1).toInt32)) 1 ((mvQ t (plX r 1) (r 14) (2 * (maF r 1)) 1).toInt32)) 2 ((mvQ t (plX r 2) (r 19) (2 * (maF r 2)) 1).toInt32)))), (o 4, .inl (0, 3, .inl (va_up (va_up (va_up (plY r) 0 ((mvQ t (plY r 0) (r 10) (2 * (maF r 0)) 1).toInt32)) 1 ((mvQ t (plY r 1) (r 15) (2 * (maF r 1)) 1).toInt32)) 2 ((mvQ t (plY r 2) (r 20) (2 * (maF r 2)) 1).toInt32)))), (o 5, .inl (1, 3, .inr (.inl (moX r)))), (o 6, .inl (1, 3, .inr (.inl (moY r))))]) (fun _ h => h.get 2 rfl) (fun j9 hj9 => by
      rcases (show j9 = 0 ∨ j9 = 1 ∨ j9 = 2 by omega) with rfl | rfl | rfl
      · exact congrArg Int64.toInt32 (drq_6).symm
      · exact congrArg Int64.toInt32 (drq_11).symm
      · exact congrArg Int64.toInt32 (drq_16).symm) (fun _ h => h.set 2 _ rfl) ?_
  refine rn_cellI (J := xSt F V0 [(o 0, .inr (2, [.ref (o 1), .ref (o 2), .ref (o 3), .ref (o 4), .ref (o 5), .ref (o 6), .ref (o 7), .ref (o 8), .ref (o 9), .ref (o 10), .int ((r 0).toInt32)])), (o 1, .inl (0, 6, .inl (seF t r))), (o 2, .inl (0, 3, .inl (maF (driftQ t r true false)))), (o 3, .inl (0, 3, .inl (plX (driftQ t r true false)))), (o 4, .inl (0, 3, .inl (va_up (va_up (va_up (plY r) 0 ((mvQ t (plY r 0) (r 10) (2 * (maF r 0)) 1).toInt32)) 1 ((mvQ t (plY r 1) (r 15) (2 * (maF r 1)) 1).toInt32)) 2 ((mvQ t (plY r 2) (r 20) (2 * (maF r 2)) 1).toInt32)))), (o 5, .inl (1, 3, .inr (.inl (moX r)))), (o 6, .inl (1, 3, .inr (.inl (moY r))))]) (fun _ h => h.get 3 rfl) (fun j9 hj9 => by
      rcases (show j9 = 0 ∨ j9 = 1 ∨ j9 = 2 by omega) with rfl | rfl | rfl
      · exact ((up_ne (by decide)).trans ((up_ne (by decide)).trans (up_same _ _ _))).trans (congrArg Int64.toInt32 ((mvX10 (t := t) (j := 0) hpl hm (by decide)).trans (drq_7).symm))
      · exact ((up_ne (by decide)).trans (up_same _ _ _)).trans (congrArg Int64.toInt32 ((mvX10 (t := t) (j := 1) hpl hm (by decide)).trans (drq_12).symm))
      · exact (up_same _ _ _).trans (congrArg Int64.toInt32 ((mvX10 (t := t) (j := 2) hpl hm (by decide)).trans (drq_17).symm))) (fun _ h => h.set 3 _ rfl) ?_
  refine rn_cellI (J := xSt F V0 [(o 0, .inr (2, [.ref (o 1), .ref (o 2), .ref (o 3), .ref (o 4), .ref (o 5), .ref (o 6), .ref (o 7), .ref (o 8), .ref (o 9), .ref (o 10), .int ((r 0).toInt32)])), (o 1, .inl (0, 6, .inl (seF t r))), (o 2, .inl (0, 3, .inl (maF (driftQ t r true false)))), (o 3, .inl (0, 3, .inl (plX (driftQ t r true false)))), (o 4, .inl (0, 3, .inl (plY (driftQ t r true false)))), (o 5, .inl (1, 3, .inr (.inl (moX r)))), (o 6, .inl (1, 3, .inr (.inl (moY r))))]) (fun _ h => h.get 4 rfl) (fun j9 hj9 => by
      rcases (show j9 = 0 ∨ j9 = 1 ∨ j9 = 2 by omega) with rfl | rfl | rfl
      · exact ((up_ne (by decide)).trans ((up_ne (by decide)).trans (up_same _ _ _))).trans (congrArg Int64.toInt32 ((mvY10 (t := t) (j := 0) hpl hm (by decide)).trans (drq_8).symm))
      · exact ((up_ne (by decide)).trans (up_same _ _ _)).trans (congrArg Int64.toInt32 ((mvY10 (t := t) (j := 1) hpl hm (by decide)).trans (drq_13).symm))
      · exact (up_same _ _ _).trans (congrArg Int64.toInt32 ((mvY10 (t := t) (j := 2) hpl hm (by decide)).trans (drq_18).symm))) (fun _ h => h.set 4 _ rfl) ?_
  refine rn_cellJ (J := xSt F V0 [(o 0, .inr (2, [.ref (o 1), .ref (o 2), .ref (o 3), .ref (o 4), .ref (o 5), .ref (o 6), .ref (o 7), .ref (o 8), .ref (o 9), .ref (o 10), .int ((r 0).toInt32)])), (o 1, .inl (0, 6, .inl (seF t r))), (o 2, .inl (0, 3, .inl (maF (driftQ t r true false)))), (o 3, .inl (0, 3, .inl (plX (driftQ t r true false)))), (o 4, .inl (0, 3, .inl (plY (driftQ t r true false)))), (o 5, .inl (1, 3, .inr (.inl (moX (driftQ t r true false))))), (o 6, .inl (1, 3, .inr (.inl (moY r))))]) (fun _ h => h.get 5 rfl) (fun j9 hj9 => by
      rcases (show j9 = 0 ∨ j9 = 1 ∨ j9 = 2 by omega) with rfl | rfl | rfl
      · exact (drq_9).symm
      · exact (drq_14).symm
      · exact (drq_19).symm) (fun _ h => h.set 5 _ rfl) ?_
  refine rn_cellJ (J := xSt F V0 [(o 0, .inr (2, [.ref (o 1), .ref (o 2), .ref (o 3), .ref (o 4), .ref (o 5), .ref (o 6), .ref (o 7), .ref (o 8), .ref (o 9), .ref (o 10), .int ((r 0).toInt32)])), (o 1, .inl (0, 6, .inl (seF t r))), (o 2, .inl (0, 3, .inl (maF (driftQ t r true false)))), (o 3, .inl (0, 3, .inl (plX (driftQ t r true false)))), (o 4, .inl (0, 3, .inl (plY (driftQ t r true false)))), (o 5, .inl (1, 3, .inr (.inl (moX (driftQ t r true false))))), (o 6, .inl (1, 3, .inr (.inl (moY (driftQ t r true false)))))]) (fun _ h => h.get 6 rfl) (fun j9 hj9 => by
      rcases (show j9 = 0 ∨ j9 = 1 ∨ j9 = 2 by omega) with rfl | rfl | rfl
      · exact (drq_10).symm
      · exact (drq_15).symm
      · exact (drq_20).symm) (fun _ h => h.set 6 _ rfl) ?_
  exact r_vret hC (Nat.le_of_ble_eq_true rfl) (Nat.le_of_ble_eq_true rfl) (fun V9 h => hQ _ _ ⟨[(o 0, .inr (2, [.ref (o 1), .ref (o 2), .ref (o 3), .ref (o 4), .ref (o 5), .ref (o 6), .ref (o 7), .ref (o 8), .ref (o 9), .ref (o 10), .int (((driftQ t r true false) 0).toInt32)])), (o 1, .inl (0, 6, .inl (seF t (driftQ t r true false)))), (o 2, .inl (0, 3, .inl (maF (driftQ t r true false)))), (o 3, .inl (0, 3, .inl (plX (driftQ t r true false)))), (o 4, .inl (0, 3, .inl (plY (driftQ t r true false)))), (o 5, .inl (1, 3, .inr (.inl (moX (driftQ t r true false))))), (o 6, .inl (1, 3, .inr (.inl (moY (driftQ t r true false)))))], ⟨rfl, in_t2 (moR_drift hmo) (by rw [← ((mvX10 (t := t) (j := 0) hpl hm (by decide)).trans (drq_7).symm)]; exact hk1) (by rw [← ((mvY10 (t := t) (j := 0) hpl hm (by decide)).trans (drq_8).symm)]; exact hk3) (by rw [← ((mvX10 (t := t) (j := 1) hpl hm (by decide)).trans (drq_12).symm)]; exact hk5) (by rw [← ((mvY10 (t := t) (j := 1) hpl hm (by decide)).trans (drq_13).symm)]; exact hk7) (by rw [← ((mvX10 (t := t) (j := 2) hpl hm (by decide)).trans (drq_17).symm)]; exact hk9) (by rw [← ((mvY10 (t := t) (j := 2) hpl hm (by decide)).trans (drq_18).symm)]; exact hk11), rfl⟩, by rw [← hV0, ← hF]; exact h⟩) dX3_drift_75
set_option maxHeartbeats 4000000 in
set_option maxRecDepth 100000 in
theorem metX3_drift11 (l : Launch) (G : xG) (hG : xGood G) (o : Nat → Nat) (t r : Nat → Int64) (hpl : plR r) (hmo : moR r) (ht : tOK t) (hm : mOK r) : xWm l G yX3_drift (Cond.code yX3_drift cX3_drift 4 none) { frames := 6, locals := 138, cells := 1, slots := 6 } [.ref (o 0), .int (-1), .int 2] [(o 0, .inr (2, [.ref (o 1), .ref (o 2), .ref (o 3), .ref (o 4), .ref (o 5), .ref (o 6), .ref (o 7), .ref (o 8), .ref (o 9), .ref (o 10), .int ((r 0).toInt32)])), (o 1, .inl (0, 6, .inl (seF t r))), (o 2, .inl (0, 3, .inl (maF r))), (o 3, .inl (0, 3, .inl (plX r))), (o 4, .inl (0, 3, .inl (plY r))), (o 5, .inl (1, 3, .inr (.inl (moX r)))), (o 6, .inl (1, 3, .inr (.inl (moY r))))] (fun v w' => v = none ∧ isInQ (driftQ t r true true) = true ∧ w' = [(o 0, .inr (2, [.ref (o 1), .ref (o 2), .ref (o 3), .ref (o 4), .ref (o 5), .ref (o 6), .ref (o 7), .ref (o 8), .ref (o 9), .ref (o 10), .int (((driftQ t r true true) 0).toInt32)])), (o 1, .inl (0, 6, .inl (seF t (driftQ t r true true)))), (o 2, .inl (0, 3, .inl (maF (driftQ t r true true)))), (o 3, .inl (0, 3, .inl (plX (driftQ t r true true)))), (o 4, .inl (0, 3, .inl (plY (driftQ t r true true)))), (o 5, .inl (1, 3, .inr (.inl (moX (driftQ t r true true))))), (o 6, .inl (1, 3, .inr (.inl (moY (driftQ t r true true)))))]) (fun q w' => isInQ (driftQ t r true true) = false ∧ ∃ x' y' : Nat → Int32, w' = [(o 0, .inr (2, [.ref (o 1), .ref (o 2), .ref (o 3), .ref (o 4), .ref (o 5), .ref (o 6), .ref (o 7), .ref (o 8), .ref (o 9), .ref (o 10), .int ((r 0).toInt32)])), (o 1, .inl (0, 6, .inl (seF t r))), (o 2, .inl (0, 3, .inl (maF r))), (o 3, .inl (0, 3, .inl x')), (o 4, .inl (0, 3, .inl y')), (o 5, .inl (1, 3, .inr (.inl (moX r)))), (o 6, .inl (1, 3, .inr (.inl (moY r)))), (q, .inr (3, [.null, .null, .null, .null, .null, .int 0]))]) := by
  intro V hV
  refine xMet_ofT RX3 hG rfl (by decide) (Nat.le_of_ble_eq_true rfl) fun C hC hQ hX hl hg _ hTab => ?_
  subst hl hg
  obtain ⟨V0, hV0⟩ : ∃ V0, V0 = V := ⟨_, rfl⟩
  obtain ⟨F, hF⟩ : ∃ F, F = xF [(o 0, .inr (2, [.ref (o 1), .ref (o 2), .ref (o 3), .ref (o 4), .ref (o 5), .ref (o 6), .ref (o 7), .ref (o 8), .ref (o 9), .ref (o 10), .int ((r 0).toInt32)])), (o 1, .inl (0, 6, .inl (seF t r))), (o 2, .inl (0, 3, .inl (maF r))), (o 3, .inl (0, 3, .inl (plX r))), (o 4, .inl (0, 3, .inl (plY r))), (o 5, .inl (1, 3, .inr (.inl (moX r)))), (o 6, .inl (1, 3, .inr (.inl (moY r))))] := ⟨_, rfl⟩
  refine rn.mono (J := xSt F V0 [(o 0, .inr (2, [.ref (o 1), .ref (o 2), .ref (o 3), .ref (o 4), .ref (o 5), .ref (o 6), .ref (o 7), .ref (o 8), .ref (o 9), .ref (o 10), .int ((r 0).toInt32)])), (o 1, .inl (0, 6, .inl (seF t r))), (o 2, .inl (0, 3, .inl (maF r))), (o 3, .inl (0, 3, .inl (plX r))), (o 4, .inl (0, 3, .inl (plY r))), (o 5, .inl (1, 3, .inr (.inl (moX r)))), (o 6, .inl (1, 3, .inr (.inl (moY r))))]) (fun V9 h => by rw [h, hV0, hF]; exact hV.st) ?_
  show rn C (xSt F V0 [(o 0, .inr (2, [.ref (o 1), .ref (o 2), .ref (o 3), .ref (o 4), .ref (o 5), .ref (o 6), .ref (o 7), .ref (o 8), .ref (o 9), .ref (o 10), .int ((r 0).toInt32)])), (o 1, .inl (0, 6, .inl (seF t r))), (o 2, .inl (0, 3, .inl (maF r))), (o 3, .inl (0, 3, .inl (plX r))), (o 4, .inl (0, 3, .inl (plY r))), (o 5, .inl (1, 3, .inr (.inl (moX r)))), (o 6, .inl (1, 3, .inr (.inl (moY r))))]) 0 0 0 [(0, .ref (o 0)), (1, .int (-1)), (2, .int 2)] []
  refine r_iconst hC 0 dX3_drift_0 ic_0 1 rfl ?_
  refine r_istore_n hC 3 [(3, .int 0), (0, .ref (o 0)), (1, .int (-1)), (2, .int 2)] dX3_drift_1 rfl (Nat.le_of_ble_eq_true rfl) rfl 2 rfl ?_
  refine r_iload_n hC 0 dX3_drift_2 rfl 3 rfl ?_
  refine r_iconst hC 3 dX3_drift_3 ic_3 4 rfl ?_
  refine r_icge hC 75 dX3_drift_4 (by decide) 7 rfl (fun h => absurd h (by decide)) (fun _ => ?_)
  refine r_aload_n hC 1 dX3_drift_7 rfl 8 rfl ?_
  refine r_get (v := .ref (o 3)) hC kX3 2 rfl q180 (fun _ h => h.get 0 rfl) rfl dX3_drift_8 11 rfl ?_
  refine r_iload_n hC 0 dX3_drift_11 rfl 12 rfl ?_
  refine r_aload_n hC 1 dX3_drift_12 rfl 13 rfl ?_
  refine r_aload_n hC 1 dX3_drift_13 rfl 14 rfl ?_
  refine r_get (v := .ref (o 3)) hC kX3 2 rfl q180 (fun _ h => h.get 0 rfl) rfl dX3_drift_14 17 rfl ?_
  refine r_iload_n hC 0 dX3_drift_17 rfl 18 rfl ?_
  refine r_iald hC 0 (xix_n 0 (Nat.le_of_ble_eq_true rfl) (Nat.le_of_ble_eq_true rfl)) (fun _ h => h.get 3 rfl) (plX r 0) (rfl) dX3_drift_18 19 rfl ?_
  refine r_aload_n hC 1 dX3_drift_19 rfl 20 rfl ?_
  refine r_get (v := .ref (o 5)) hC kX3 4 rfl q188 (fun _ h => h.get 0 rfl) rfl dX3_drift_20 23 rfl ?_
  refine r_iload_n hC 0 dX3_drift_23 rfl 24 rfl ?_
  refine r_lald hC 0 (xix_n 0 (Nat.le_of_ble_eq_true rfl) (Nat.le_of_ble_eq_true rfl)) (fun _ h => h.get 5 rfl) (moX r 0) (rfl) dX3_drift_24 25 rfl ?_
  refine r_eql (y := r 9) (rfl) ?_
  refine r_iload_n hC 3 dX3_drift_25 rfl 26 rfl ?_
  refine r_aload_n hC 1 dX3_drift_26 rfl 27 rfl ?_
  refine r_get (v := .ref (o 2)) hC kX3 1 rfl q177 (fun _ h => h.get 0 rfl) rfl dX3_drift_27 30 rfl ?_
  refine r_iload_n hC 0 dX3_drift_30 rfl 31 rfl ?_
  refine r_iald hC 0 (xix_n 0 (Nat.le_of_ble_eq_true rfl) (Nat.le_of_ble_eq_true rfl)) (fun _ h => h.get 2 rfl) (maF r 0) (rfl) dX3_drift_31 32 rfl ?_
  refine r_imul hC (2 * (maF r 0)) dX3_drift_32  (rfl) 33 rfl ?_
  refine r_iload_n hC 2 dX3_drift_33 rfl 34 rfl ?_
  rcases Bool.eq_false_or_eq_true (m_in (mvQ t (plX r 0) (r 9) (2 * (maF r 0)) (-1)) (-100000) 100000) with hk1 | hk1
  · skip
    refine xCall.r (r := some (.int ((mvQ t (plX r 0) (r 9) (2 * (maF r 0)) (-1)).toInt32))) (r_cV hC kX3 (o 0) [.int (plX r 0), .long (r 9), .int (2 * (maF r 0)), .int (-1)] mVX3_moved q416 (fun _ h => ⟨_, h.get 0 rfl⟩) (fun V9 h9 => (metX3_moved1G _ _ hG o t r (plX r 0) (r 9) (2 * (maF r 0)) (dv2_n hm (by decide)) ht hk1) V9 (h9.in.sub [0, 1] rfl rfl)) ⟨rfl, rfl⟩ (Nat.le_of_ble_eq_true rfl) (Nat.le_of_ble_eq_true rfl) rfl (Nat.le_of_ble_eq_true rfl) dX3_drift_34) 0 0 37 rfl rfl rfl ?_
    refine r_iast (J := xSt F V0 [(o 0, .inr (2, [.ref (o 1), .ref (o 2), .ref (o 3), .ref (o 4), .ref (o 5), .ref (o 6), .ref (o 7), .ref (o 8), .ref (o 9), .ref (o 10), .int ((r 0).toInt32)])), (o 1, .inl (0, 6, .inl (seF t r))), (o 2, .inl (0, 3, .inl (maF r))), (o 3, .inl (0, 3, .inl (va_up (plX r) 0 ((mvQ t (plX r 0) (r 9) (2 * (maF r 0)) (-1)).toInt32)))), (o 4, .inl (0, 3, .inl (plY r))), (o 5, .inl (1, 3, .inr (.inl (moX r)))), (o 6, .inl (1, 3, .inr (.inl (moY r))))]) hC 0 (xix_n 0 (Nat.le_of_ble_eq_true rfl) (Nat.le_of_ble_eq_true rfl)) (fun _ h => h.get 3 rfl) dX3_drift_37 (fun _ h => h.set 3 _ rfl) 38 rfl ?_
    generalize hu2 : va_up (plX r) 0 ((mvQ t (plX r 0) (r 9) (2 * (maF r 0)) (-1)).toInt32) = u2
    refine r_aload_n hC 1 dX3_drift_38 rfl 39 rfl ?_
    refine r_get (v := .ref (o 4)) hC kX3 3 rfl q184 (fun _ h => h.get 0 rfl) rfl dX3_drift_39 42 rfl ?_
    refine r_iload_n hC 0 dX3_drift_42 rfl 43 rfl ?_
    refine r_aload_n hC 1 dX3_drift_43 rfl 44 rfl ?_
    refine r_aload_n hC 1 dX3_drift_44 rfl 45 rfl ?_
    refine r_get (v := .ref (o 4)) hC kX3 3 rfl q184 (fun _ h => h.get 0 rfl) rfl dX3_drift_45 48 rfl ?_
    refine r_iload_n hC 0 dX3_drift_48 rfl 49 rfl ?_
    refine r_iald hC 0 (xix_n 0 (Nat.le_of_ble_eq_true rfl) (Nat.le_of_ble_eq_true rfl)) (fun _ h => h.get 4 rfl) (plY r 0) (rfl) dX3_drift_49 50 rfl ?_
    refine r_aload_n hC 1 dX3_drift_50 rfl 51 rfl ?_
    refine r_get (v := .ref (o 6)) hC kX3 5 rfl q191 (fun _ h => h.get 0 rfl) rfl dX3_drift_51 54 rfl ?_
    refine r_iload_n hC 0 dX3_drift_54 rfl 55 rfl ?_
    refine r_lald hC 0 (xix_n 0 (Nat.le_of_ble_eq_true rfl) (Nat.le_of_ble_eq_true rfl)) (fun _ h => h.get 6 rfl) (moY r 0) (rfl) dX3_drift_55 56 rfl ?_
    refine r_eql (y := r 10) (rfl) ?_
    refine r_iload_n hC 3 dX3_drift_56 rfl 57 rfl ?_
    refine r_aload_n hC 1 dX3_drift_57 rfl 58 rfl ?_
    refine r_get (v := .ref (o 2)) hC kX3 1 rfl q177 (fun _ h => h.get 0 rfl) rfl dX3_drift_58 61 rfl ?_
    refine r_iload_n hC 0 dX3_drift_61 rfl 62 rfl ?_
    refine r_iald hC 0 (xix_n 0 (Nat.le_of_ble_eq_true rfl) (Nat.le_of_ble_eq_true rfl)) (fun _ h => h.get 2 rfl) (maF r 0) (rfl) dX3_drift_62 63 rfl ?_
    refine r_imul hC (2 * (maF r 0)) dX3_drift_63  (rfl) 64 rfl ?_
    refine r_iload_n hC 2 dX3_drift_64 rfl 65 rfl ?_
    rcases Bool.eq_false_or_eq_true (m_in (mvQ t (plY r 0) (r 10) (2 * (maF r 0)) (-1)) (-100000) 100000) with hk3 | hk3
    · skip
      refine xCall.r (r := some (.int ((mvQ t (plY r 0) (r 10) (2 * (maF r 0)) (-1)).toInt32))) (r_cV hC kX3 (o 0) [.int (plY r 0), .long (r 10), .int (2 * (maF r 0)), .int (-1)] mVX3_moved q416 (fun _ h => ⟨_, h.get 0 rfl⟩) (fun V9 h9 => (metX3_moved1G _ _ hG o t r (plY r 0) (r 10) (2 * (maF r 0)) (dv2_n hm (by decide)) ht hk3) V9 (h9.in.sub [0, 1] rfl rfl)) ⟨rfl, rfl⟩ (Nat.le_of_ble_eq_true rfl) (Nat.le_of_ble_eq_true rfl) rfl (Nat.le_of_ble_eq_true rfl) dX3_drift_65) 0 0 68 rfl rfl rfl ?_
      refine r_iast (J := xSt F V0 [(o 0, .inr (2, [.ref (o 1), .ref (o 2), .ref (o 3), .ref (o 4), .ref (o 5), .ref (o 6), .ref (o 7), .ref (o 8), .ref (o 9), .ref (o 10), .int ((r 0).toInt32)])), (o 1, .inl (0, 6, .inl (seF t r))), (o 2, .inl (0, 3, .inl (maF r))), (o 3, .inl (0, 3, .inl u2)), (o 4, .inl (0, 3, .inl (va_up (plY r) 0 ((mvQ t (plY r 0) (r 10) (2 * (maF r 0)) (-1)).toInt32)))), (o 5, .inl (1, 3, .inr (.inl (moX r)))), (o 6, .inl (1, 3, .inr (.inl (moY r))))]) hC 0 (xix_n 0 (Nat.le_of_ble_eq_true rfl) (Nat.le_of_ble_eq_true rfl)) (fun _ h => h.get 4 rfl) dX3_drift_68 (fun _ h => h.set 4 _ rfl) 69 rfl ?_
      generalize hu4 : va_up (plY r) 0 ((mvQ t (plY r 0) (r 10) (2 * (maF r 0)) (-1)).toInt32) = u4
      refine r_iinc hC 1 3 0 [(3, .int 1), (0, .ref (o 0)), (1, .int (-1)), (2, .int 2)] dX3_drift_69 rfl (by decide) (Nat.le_of_ble_eq_true rfl) rfl 72 rfl ?_
      refine r_goto hC 2 dX3_drift_72 (by decide) ?_
      refine r_iload_n hC 0 dX3_drift_2 rfl 3 rfl ?_
      refine r_iconst hC 3 dX3_drift_3 ic_3 4 rfl ?_
      refine r_icge hC 75 dX3_drift_4 (by decide) 7 rfl (fun h => absurd h (by decide)) (fun _ => ?_)
      refine r_aload_n hC 1 dX3_drift_7 rfl 8 rfl ?_
      refine r_get (v := .ref (o 3)) hC kX3 2 rfl q180 (fun _ h => h.get 0 rfl) rfl dX3_drift_8 11 rfl ?_
      refine r_iload_n hC 0 dX3_drift_11 rfl 12 rfl ?_
      refine r_aload_n hC 1 dX3_drift_12 rfl 13 rfl ?_
      refine r_aload_n hC 1 dX3_drift_13 rfl 14 rfl ?_
      refine r_get (v := .ref (o 3)) hC kX3 2 rfl q180 (fun _ h => h.get 0 rfl) rfl dX3_drift_14 17 rfl ?_
      refine r_iload_n hC 0 dX3_drift_17 rfl 18 rfl ?_
      refine r_iald hC 1 (xix_n 1 (Nat.le_of_ble_eq_true rfl) (Nat.le_of_ble_eq_true rfl)) (fun _ h => h.get 3 rfl) (plX r 1) (by rw [← hu2]; rfl) dX3_drift_18 19 rfl ?_
      refine r_aload_n hC 1 dX3_drift_19 rfl 20 rfl ?_
      refine r_get (v := .ref (o 5)) hC kX3 4 rfl q188 (fun _ h => h.get 0 rfl) rfl dX3_drift_20 23 rfl ?_
      refine r_iload_n hC 0 dX3_drift_23 rfl 24 rfl ?_
      refine r_lald hC 1 (xix_n 1 (Nat.le_of_ble_eq_true rfl) (Nat.le_of_ble_eq_true rfl)) (fun _ h => h.get 5 rfl) (moX r 1) (rfl) dX3_drift_24 25 rfl ?_
      refine r_eql (y := r 14) (rfl) ?_
      refine r_iload_n hC 3 dX3_drift_25 rfl 26 rfl ?_
      refine r_aload_n hC 1 dX3_drift_26 rfl 27 rfl ?_
      refine r_get (v := .ref (o 2)) hC kX3 1 rfl q177 (fun _ h => h.get 0 rfl) rfl dX3_drift_27 30 rfl ?_
      refine r_iload_n hC 0 dX3_drift_30 rfl 31 rfl ?_
      refine r_iald hC 1 (xix_n 1 (Nat.le_of_ble_eq_true rfl) (Nat.le_of_ble_eq_true rfl)) (fun _ h => h.get 2 rfl) (maF r 1) (rfl) dX3_drift_31 32 rfl ?_
      refine r_imul hC (2 * (maF r 1)) dX3_drift_32  (rfl) 33 rfl ?_
      refine r_iload_n hC 2 dX3_drift_33 rfl 34 rfl ?_
      rcases Bool.eq_false_or_eq_true (m_in (mvQ t (plX r 1) (r 14) (2 * (maF r 1)) (-1)) (-100000) 100000) with hk5 | hk5
      · skip
        refine xCall.r (r := some (.int ((mvQ t (plX r 1) (r 14) (2 * (maF r 1)) (-1)).toInt32))) (r_cV hC kX3 (o 0) [.int (plX r 1), .long (r 14), .int (2 * (maF r 1)), .int (-1)] mVX3_moved q416 (fun _ h => ⟨_, h.get 0 rfl⟩) (fun V9 h9 => (metX3_moved1G _ _ hG o t r (plX r 1) (r 14) (2 * (maF r 1)) (dv2_n hm (by decide)) ht hk5) V9 (h9.in.sub [0, 1] rfl rfl)) ⟨rfl, rfl⟩ (Nat.le_of_ble_eq_true rfl) (Nat.le_of_ble_eq_true rfl) rfl (Nat.le_of_ble_eq_true rfl) dX3_drift_34) 0 0 37 rfl rfl rfl ?_
        refine r_iast (J := xSt F V0 [(o 0, .inr (2, [.ref (o 1), .ref (o 2), .ref (o 3), .ref (o 4), .ref (o 5), .ref (o 6), .ref (o 7), .ref (o 8), .ref (o 9), .ref (o 10), .int ((r 0).toInt32)])), (o 1, .inl (0, 6, .inl (seF t r))), (o 2, .inl (0, 3, .inl (maF r))), (o 3, .inl (0, 3, .inl (va_up u2 1 ((mvQ t (plX r 1) (r 14) (2 * (maF r 1)) (-1)).toInt32)))), (o 4, .inl (0, 3, .inl u4)), (o 5, .inl (1, 3, .inr (.inl (moX r)))), (o 6, .inl (1, 3, .inr (.inl (moY r))))]) hC 1 (xix_n 1 (Nat.le_of_ble_eq_true rfl) (Nat.le_of_ble_eq_true rfl)) (fun _ h => h.get 3 rfl) dX3_drift_37 (fun _ h => h.set 3 _ rfl) 38 rfl ?_
        generalize hu6 : va_up u2 1 ((mvQ t (plX r 1) (r 14) (2 * (maF r 1)) (-1)).toInt32) = u6
        refine r_aload_n hC 1 dX3_drift_38 rfl 39 rfl ?_
        refine r_get (v := .ref (o 4)) hC kX3 3 rfl q184 (fun _ h => h.get 0 rfl) rfl dX3_drift_39 42 rfl ?_
        refine r_iload_n hC 0 dX3_drift_42 rfl 43 rfl ?_
        refine r_aload_n hC 1 dX3_drift_43 rfl 44 rfl ?_
        refine r_aload_n hC 1 dX3_drift_44 rfl 45 rfl ?_
        refine r_get (v := .ref (o 4)) hC kX3 3 rfl q184 (fun _ h => h.get 0 rfl) rfl dX3_drift_45 48 rfl ?_
        refine r_iload_n hC 0 dX3_drift_48 rfl 49 rfl ?_
        refine r_iald hC 1 (xix_n 1 (Nat.le_of_ble_eq_true rfl) (Nat.le_of_ble_eq_true rfl)) (fun _ h => h.get 4 rfl) (plY r 1) (by rw [← hu4]; rfl) dX3_drift_49 50 rfl ?_
        refine r_aload_n hC 1 dX3_drift_50 rfl 51 rfl ?_
        refine r_get (v := .ref (o 6)) hC kX3 5 rfl q191 (fun _ h => h.get 0 rfl) rfl dX3_drift_51 54 rfl ?_
        refine r_iload_n hC 0 dX3_drift_54 rfl 55 rfl ?_
        refine r_lald hC 1 (xix_n 1 (Nat.le_of_ble_eq_true rfl) (Nat.le_of_ble_eq_true rfl)) (fun _ h => h.get 6 rfl) (moY r 1) (rfl) dX3_drift_55 56 rfl ?_
        refine r_eql (y := r 15) (rfl) ?_
        refine r_iload_n hC 3 dX3_drift_56 rfl 57 rfl ?_
        refine r_aload_n hC 1 dX3_drift_57 rfl 58 rfl ?_
        refine r_get (v := .ref (o 2)) hC kX3 1 rfl q177 (fun _ h => h.get 0 rfl) rfl dX3_drift_58 61 rfl ?_
        refine r_iload_n hC 0 dX3_drift_61 rfl 62 rfl ?_
        refine r_iald hC 1 (xix_n 1 (Nat.le_of_ble_eq_true rfl) (Nat.le_of_ble_eq_true rfl)) (fun _ h => h.get 2 rfl) (maF r 1) (rfl) dX3_drift_62 63 rfl ?_
        refine r_imul hC (2 * (maF r 1)) dX3_drift_63  (rfl) 64 rfl ?_
        refine r_iload_n hC 2 dX3_drift_64 rfl 65 rfl ?_
        rcases Bool.eq_false_or_eq_true (m_in (mvQ t (plY r 1) (r 15) (2 * (maF r 1)) (-1)) (-100000) 100000) with hk7 | hk7
        · skip
          refine xCall.r (r := some (.int ((mvQ t (plY r 1) (r 15) (2 * (maF r 1)) (-1)).toInt32))) (r_cV hC kX3 (o 0) [.int (plY r 1), .long (r 15), .int (2 * (maF r 1)), .int (-1)] mVX3_moved q416 (fun _ h => ⟨_, h.get 0 rfl⟩) (fun V9 h9 => (metX3_moved1G _ _ hG o t r (plY r 1) (r 15) (2 * (maF r 1)) (dv2_n hm (by decide)) ht hk7) V9 (h9.in.sub [0, 1] rfl rfl)) ⟨rfl, rfl⟩ (Nat.le_of_ble_eq_true rfl) (Nat.le_of_ble_eq_true rfl) rfl (Nat.le_of_ble_eq_true rfl) dX3_drift_65) 0 0 68 rfl rfl rfl ?_
          refine r_iast (J := xSt F V0 [(o 0, .inr (2, [.ref (o 1), .ref (o 2), .ref (o 3), .ref (o 4), .ref (o 5), .ref (o 6), .ref (o 7), .ref (o 8), .ref (o 9), .ref (o 10), .int ((r 0).toInt32)])), (o 1, .inl (0, 6, .inl (seF t r))), (o 2, .inl (0, 3, .inl (maF r))), (o 3, .inl (0, 3, .inl u6)), (o 4, .inl (0, 3, .inl (va_up u4 1 ((mvQ t (plY r 1) (r 15) (2 * (maF r 1)) (-1)).toInt32)))), (o 5, .inl (1, 3, .inr (.inl (moX r)))), (o 6, .inl (1, 3, .inr (.inl (moY r))))]) hC 1 (xix_n 1 (Nat.le_of_ble_eq_true rfl) (Nat.le_of_ble_eq_true rfl)) (fun _ h => h.get 4 rfl) dX3_drift_68 (fun _ h => h.set 4 _ rfl) 69 rfl ?_
          generalize hu8 : va_up u4 1 ((mvQ t (plY r 1) (r 15) (2 * (maF r 1)) (-1)).toInt32) = u8
          refine r_iinc hC 2 3 0 [(3, .int 2), (0, .ref (o 0)), (1, .int (-1)), (2, .int 2)] dX3_drift_69 rfl (by decide) (Nat.le_of_ble_eq_true rfl) rfl 72 rfl ?_
          refine r_goto hC 2 dX3_drift_72 (by decide) ?_
          refine r_iload_n hC 0 dX3_drift_2 rfl 3 rfl ?_
          refine r_iconst hC 3 dX3_drift_3 ic_3 4 rfl ?_
          refine r_icge hC 75 dX3_drift_4 (by decide) 7 rfl (fun h => absurd h (by decide)) (fun _ => ?_)
          refine r_aload_n hC 1 dX3_drift_7 rfl 8 rfl ?_
          refine r_get (v := .ref (o 3)) hC kX3 2 rfl q180 (fun _ h => h.get 0 rfl) rfl dX3_drift_8 11 rfl ?_
          refine r_iload_n hC 0 dX3_drift_11 rfl 12 rfl ?_
          refine r_aload_n hC 1 dX3_drift_12 rfl 13 rfl ?_
          refine r_aload_n hC 1 dX3_drift_13 rfl 14 rfl ?_
          refine r_get (v := .ref (o 3)) hC kX3 2 rfl q180 (fun _ h => h.get 0 rfl) rfl dX3_drift_14 17 rfl ?_
          refine r_iload_n hC 0 dX3_drift_17 rfl 18 rfl ?_
          refine r_iald hC 2 (xix_n 2 (Nat.le_of_ble_eq_true rfl) (Nat.le_of_ble_eq_true rfl)) (fun _ h => h.get 3 rfl) (plX r 2) (by rw [← hu6, ← hu2]; rfl) dX3_drift_18 19 rfl ?_
          refine r_aload_n hC 1 dX3_drift_19 rfl 20 rfl ?_
          refine r_get (v := .ref (o 5)) hC kX3 4 rfl q188 (fun _ h => h.get 0 rfl) rfl dX3_drift_20 23 rfl ?_
          refine r_iload_n hC 0 dX3_drift_23 rfl 24 rfl ?_
          refine r_lald hC 2 (xix_n 2 (Nat.le_of_ble_eq_true rfl) (Nat.le_of_ble_eq_true rfl)) (fun _ h => h.get 5 rfl) (moX r 2) (rfl) dX3_drift_24 25 rfl ?_
          refine r_eql (y := r 19) (rfl) ?_
          refine r_iload_n hC 3 dX3_drift_25 rfl 26 rfl ?_
          refine r_aload_n hC 1 dX3_drift_26 rfl 27 rfl ?_
          refine r_get (v := .ref (o 2)) hC kX3 1 rfl q177 (fun _ h => h.get 0 rfl) rfl dX3_drift_27 30 rfl ?_
          refine r_iload_n hC 0 dX3_drift_30 rfl 31 rfl ?_
          refine r_iald hC 2 (xix_n 2 (Nat.le_of_ble_eq_true rfl) (Nat.le_of_ble_eq_true rfl)) (fun _ h => h.get 2 rfl) (maF r 2) (rfl) dX3_drift_31 32 rfl ?_
          refine r_imul hC (2 * (maF r 2)) dX3_drift_32  (rfl) 33 rfl ?_
          refine r_iload_n hC 2 dX3_drift_33 rfl 34 rfl ?_
          rcases Bool.eq_false_or_eq_true (m_in (mvQ t (plX r 2) (r 19) (2 * (maF r 2)) (-1)) (-100000) 100000) with hk9 | hk9
          · skip
            refine xCall.r (r := some (.int ((mvQ t (plX r 2) (r 19) (2 * (maF r 2)) (-1)).toInt32))) (r_cV hC kX3 (o 0) [.int (plX r 2), .long (r 19), .int (2 * (maF r 2)), .int (-1)] mVX3_moved q416 (fun _ h => ⟨_, h.get 0 rfl⟩) (fun V9 h9 => (metX3_moved1G _ _ hG o t r (plX r 2) (r 19) (2 * (maF r 2)) (dv2_n hm (by decide)) ht hk9) V9 (h9.in.sub [0, 1] rfl rfl)) ⟨rfl, rfl⟩ (Nat.le_of_ble_eq_true rfl) (Nat.le_of_ble_eq_true rfl) rfl (Nat.le_of_ble_eq_true rfl) dX3_drift_34) 0 0 37 rfl rfl rfl ?_
            refine r_iast (J := xSt F V0 [(o 0, .inr (2, [.ref (o 1), .ref (o 2), .ref (o 3), .ref (o 4), .ref (o 5), .ref (o 6), .ref (o 7), .ref (o 8), .ref (o 9), .ref (o 10), .int ((r 0).toInt32)])), (o 1, .inl (0, 6, .inl (seF t r))), (o 2, .inl (0, 3, .inl (maF r))), (o 3, .inl (0, 3, .inl (va_up u6 2 ((mvQ t (plX r 2) (r 19) (2 * (maF r 2)) (-1)).toInt32)))), (o 4, .inl (0, 3, .inl u8)), (o 5, .inl (1, 3, .inr (.inl (moX r)))), (o 6, .inl (1, 3, .inr (.inl (moY r))))]) hC 2 (xix_n 2 (Nat.le_of_ble_eq_true rfl) (Nat.le_of_ble_eq_true rfl)) (fun _ h => h.get 3 rfl) dX3_drift_37 (fun _ h => h.set 3 _ rfl) 38 rfl ?_
            generalize hu10 : va_up u6 2 ((mvQ t (plX r 2) (r 19) (2 * (maF r 2)) (-1)).toInt32) = u10
            refine r_aload_n hC 1 dX3_drift_38 rfl 39 rfl ?_
            refine r_get (v := .ref (o 4)) hC kX3 3 rfl q184 (fun _ h => h.get 0 rfl) rfl dX3_drift_39 42 rfl ?_
            refine r_iload_n hC 0 dX3_drift_42 rfl 43 rfl ?_
            refine r_aload_n hC 1 dX3_drift_43 rfl 44 rfl ?_
            refine r_aload_n hC 1 dX3_drift_44 rfl 45 rfl ?_
            refine r_get (v := .ref (o 4)) hC kX3 3 rfl q184 (fun _ h => h.get 0 rfl) rfl dX3_drift_45 48 rfl ?_
            refine r_iload_n hC 0 dX3_drift_48 rfl 49 rfl ?_
            refine r_iald hC 2 (xix_n 2 (Nat.le_of_ble_eq_true rfl) (Nat.le_of_ble_eq_true rfl)) (fun _ h => h.get 4 rfl) (plY r 2) (by rw [← hu8, ← hu4]; rfl) dX3_drift_49 50 rfl ?_
            refine r_aload_n hC 1 dX3_drift_50 rfl 51 rfl ?_
            refine r_get (v := .ref (o 6)) hC kX3 5 rfl q191 (fun _ h => h.get 0 rfl) rfl dX3_drift_51 54 rfl ?_
            refine r_iload_n hC 0 dX3_drift_54 rfl 55 rfl ?_
            refine r_lald hC 2 (xix_n 2 (Nat.le_of_ble_eq_true rfl) (Nat.le_of_ble_eq_true rfl)) (fun _ h => h.get 6 rfl) (moY r 2) (rfl) dX3_drift_55 56 rfl ?_
            refine r_eql (y := r 20) (rfl) ?_
            refine r_iload_n hC 3 dX3_drift_56 rfl 57 rfl ?_
            refine r_aload_n hC 1 dX3_drift_57 rfl 58 rfl ?_
            refine r_get (v := .ref (o 2)) hC kX3 1 rfl q177 (fun _ h => h.get 0 rfl) rfl dX3_drift_58 61 rfl ?_
            refine r_iload_n hC 0 dX3_drift_61 rfl 62 rfl ?_
            refine r_iald hC 2 (xix_n 2 (Nat.le_of_ble_eq_true rfl) (Nat.le_of_ble_eq_true rfl)) (fun _ h => h.get 2 rfl) (maF r 2) (rfl) dX3_drift_62 63 rfl ?_
            refine r_imul hC (2 * (maF r 2)) dX3_drift_63  (rfl) 64 rfl ?_
            refine r_iload_n hC 2 dX3_drift_64 rfl 65 rfl ?_
            rcases Bool.eq_false_or_eq_true (m_in (mvQ t (plY r 2) (r 20) (2 * (maF r 2)) (-1)) (-100000) 100000) with hk11 | hk11
            · skip
              refine xCall.r (r := some (.int ((mvQ t (plY r 2) (r 20) (2 * (maF r 2)) (-1)).toInt32))) (r_cV hC kX3 (o 0) [.int (plY r 2), .long (r 20), .int (2 * (maF r 2)), .int (-1)] mVX3_moved q416 (fun _ h => ⟨_, h.get 0 rfl⟩) (fun V9 h9 => (metX3_moved1G _ _ hG o t r (plY r 2) (r 20) (2 * (maF r 2)) (dv2_n hm (by decide)) ht hk11) V9 (h9.in.sub [0, 1] rfl rfl)) ⟨rfl, rfl⟩ (Nat.le_of_ble_eq_true rfl) (Nat.le_of_ble_eq_true rfl) rfl (Nat.le_of_ble_eq_true rfl) dX3_drift_65) 0 0 68 rfl rfl rfl ?_
              refine r_iast (J := xSt F V0 [(o 0, .inr (2, [.ref (o 1), .ref (o 2), .ref (o 3), .ref (o 4), .ref (o 5), .ref (o 6), .ref (o 7), .ref (o 8), .ref (o 9), .ref (o 10), .int ((r 0).toInt32)])), (o 1, .inl (0, 6, .inl (seF t r))), (o 2, .inl (0, 3, .inl (maF r))), (o 3, .inl (0, 3, .inl u10)), (o 4, .inl (0, 3, .inl (va_up u8 2 ((mvQ t (plY r 2) (r 20) (2 * (maF r 2)) (-1)).toInt32)))), (o 5, .inl (1, 3, .inr (.inl (moX r)))), (o 6, .inl (1, 3, .inr (.inl (moY r))))]) hC 2 (xix_n 2 (Nat.le_of_ble_eq_true rfl) (Nat.le_of_ble_eq_true rfl)) (fun _ h => h.get 4 rfl) dX3_drift_68 (fun _ h => h.set 4 _ rfl) 69 rfl ?_
              generalize hu12 : va_up u8 2 ((mvQ t (plY r 2) (r 20) (2 * (maF r 2)) (-1)).toInt32) = u12
              refine r_iinc hC 3 3 0 [(3, .int 3), (0, .ref (o 0)), (1, .int (-1)), (2, .int 2)] dX3_drift_69 rfl (by decide) (Nat.le_of_ble_eq_true rfl) rfl 72 rfl ?_
              refine r_goto hC 2 dX3_drift_72 (by decide) ?_
              refine r_iload_n hC 0 dX3_drift_2 rfl 3 rfl ?_
              refine r_iconst hC 3 dX3_drift_3 ic_3 4 rfl ?_
              refine r_icge hC 75 dX3_drift_4 (by decide) 7 rfl (fun _ => ?_) (fun h => absurd h (by decide))
              subst hu12
              subst hu10
              subst hu8
              subst hu6
              subst hu4
              subst hu2
              refine rn_cellI (J := xSt F V0 [(o 0, .inr (2, [.ref (o 1), .ref (o 2), .ref (o 3), .ref (o 4), .ref (o 5), .ref (o 6), .ref (o 7), .ref (o 8), .ref (o 9), .ref (o 10), .int ((r 0).toInt32)])), (o 1, .inl (0, 6, .inl (seF t r))), (o 2, .inl (0, 3, .inl (maF (driftQ t r true true)))), (o 3, .inl (0, 3, .inl (va_up (va_up (va_up (plX r) 0 ((mvQ t (plX r 0) (r 9) (2 * (maF r 0)) (-1)).toInt32)) 1 ((mvQ t (plX r 1) (r 14) (2 * (maF r 1)) (-1)).toInt32)) 2 ((mvQ t (plX r 2) (r 19) (2 * (maF r 2)) (-1)).toInt32)))), (o 4, .inl (0, 3, .inl (va_up (va_up (va_up (plY r) 0 ((mvQ t (plY r 0) (r 10) (2 * (maF r 0)) (-1)).toInt32)) 1 ((mvQ t (plY r 1) (r 15) (2 * (maF r 1)) (-1)).toInt32)) 2 ((mvQ t (plY r 2) (r 20) (2 * (maF r 2)) (-1)).toInt32)))), (o 5, .inl (1, 3, .inr (.inl (moX r)))), (o 6, .inl (1, 3, .inr (.inl (moY r))))]) (fun _ h => h.get 2 rfl) (fun j9 hj9 => by
                  rcases (show j9 = 0 ∨ j9 = 1 ∨ j9 = 2 by omega) with rfl | rfl | rfl
                  · exact congrArg Int64.toInt32 (drq_6).symm
                  · exact congrArg Int64.toInt32 (drq_11).symm
                  · exact congrArg Int64.toInt32 (drq_16).symm) (fun _ h => h.set 2 _ rfl) ?_
              refine rn_cellI (J := xSt F V0 [(o 0, .inr (2, [.ref (o 1), .ref (o 2), .ref (o 3), .ref (o 4), .ref (o 5), .ref (o 6), .ref (o 7), .ref (o 8), .ref (o 9), .ref (o 10), .int ((r 0).toInt32)])), (o 1, .inl (0, 6, .inl (seF t r))), (o 2, .inl (0, 3, .inl (maF (driftQ t r true true)))), (o 3, .inl (0, 3, .inl (plX (driftQ t r true true)))), (o 4, .inl (0, 3, .inl (va_up (va_up (va_up (plY r) 0 ((mvQ t (plY r 0) (r 10) (2 * (maF r 0)) (-1)).toInt32)) 1 ((mvQ t (plY r 1) (r 15) (2 * (maF r 1)) (-1)).toInt32)) 2 ((mvQ t (plY r 2) (r 20) (2 * (maF r 2)) (-1)).toInt32)))), (o 5, .inl (1, 3, .inr (.inl (moX r)))), (o 6, .inl (1, 3, .inr (.inl (moY r))))]) (fun _ h => h.get 3 rfl) (fun j9 hj9 => by
                  rcases (show j9 = 0 ∨ j9 = 1 ∨ j9 = 2 by omega) with rfl | rfl | rfl
                  · exact ((up_ne (by decide)).trans ((up_ne (by decide)).trans (up_same _ _ _))).trans (congrArg Int64.toInt32 ((mvX11 (t := t) (j := 0) hpl hm (by decide)).trans (drq_7).symm))
                  · exact ((up_ne (by decide)).trans (up_same _ _ _)).trans (congrArg Int64.toInt32 ((mvX11 (t := t) (j := 1) hpl hm (by decide)).trans (drq_12).symm))
                  · exact (up_same _ _ _).trans (congrArg Int64.toInt32 ((mvX11 (t := t) (j := 2) hpl hm (by decide)).trans (drq_17).symm))) (fun _ h => h.set 3 _ rfl) ?_
              refine rn_cellI (J := xSt F V0 [(o 0, .inr (2, [.ref (o 1), .ref (o 2), .ref (o 3), .ref (o 4), .ref (o 5), .ref (o 6), .ref (o 7), .ref (o 8), .ref (o 9), .ref (o 10), .int ((r 0).toInt32)])), (o 1, .inl (0, 6, .inl (seF t r))), (o 2, .inl (0, 3, .inl (maF (driftQ t r true true)))), (o 3, .inl (0, 3, .inl (plX (driftQ t r true true)))), (o 4, .inl (0, 3, .inl (plY (driftQ t r true true)))), (o 5, .inl (1, 3, .inr (.inl (moX r)))), (o 6, .inl (1, 3, .inr (.inl (moY r))))]) (fun _ h => h.get 4 rfl) (fun j9 hj9 => by
                  rcases (show j9 = 0 ∨ j9 = 1 ∨ j9 = 2 by omega) with rfl | rfl | rfl
                  · exact ((up_ne (by decide)).trans ((up_ne (by decide)).trans (up_same _ _ _))).trans (congrArg Int64.toInt32 ((mvY11 (t := t) (j := 0) hpl hm (by decide)).trans (drq_8).symm))
                  · exact ((up_ne (by decide)).trans (up_same _ _ _)).trans (congrArg Int64.toInt32 ((mvY11 (t := t) (j := 1) hpl hm (by decide)).trans (drq_13).symm))
                  · exact (up_same _ _ _).trans (congrArg Int64.toInt32 ((mvY11 (t := t) (j := 2) hpl hm (by decide)).trans (drq_18).symm))) (fun _ h => h.set 4 _ rfl) ?_
              refine rn_cellJ (J := xSt F V0 [(o 0, .inr (2, [.ref (o 1), .ref (o 2), .ref (o 3), .ref (o 4), .ref (o 5), .ref (o 6), .ref (o 7), .ref (o 8), .ref (o 9), .ref (o 10), .int ((r 0).toInt32)])), (o 1, .inl (0, 6, .inl (seF t r))), (o 2, .inl (0, 3, .inl (maF (driftQ t r true true)))), (o 3, .inl (0, 3, .inl (plX (driftQ t r true true)))), (o 4, .inl (0, 3, .inl (plY (driftQ t r true true)))), (o 5, .inl (1, 3, .inr (.inl (moX (driftQ t r true true))))), (o 6, .inl (1, 3, .inr (.inl (moY r))))]) (fun _ h => h.get 5 rfl) (fun j9 hj9 => by
                  rcases (show j9 = 0 ∨ j9 = 1 ∨ j9 = 2 by omega) with rfl | rfl | rfl
                  · exact (drq_9).symm
                  · exact (drq_14).symm
                  · exact (drq_19).symm) (fun _ h => h.set 5 _ rfl) ?_
              refine rn_cellJ (J := xSt F V0 [(o 0, .inr (2, [.ref (o 1), .ref (o 2), .ref (o 3), .ref (o 4), .ref (o 5), .ref (o 6), .ref (o 7), .ref (o 8), .ref (o 9), .ref (o 10), .int ((r 0).toInt32)])), (o 1, .inl (0, 6, .inl (seF t r))), (o 2, .inl (0, 3, .inl (maF (driftQ t r true true)))), (o 3, .inl (0, 3, .inl (plX (driftQ t r true true)))), (o 4, .inl (0, 3, .inl (plY (driftQ t r true true)))), (o 5, .inl (1, 3, .inr (.inl (moX (driftQ t r true true))))), (o 6, .inl (1, 3, .inr (.inl (moY (driftQ t r true true)))))]) (fun _ h => h.get 6 rfl) (fun j9 hj9 => by
                  rcases (show j9 = 0 ∨ j9 = 1 ∨ j9 = 2 by omega) with rfl | rfl | rfl
                  · exact (drq_10).symm
                  · exact (drq_15).symm
                  · exact (drq_20).symm) (fun _ h => h.set 6 _ rfl) ?_
              exact r_vret hC (Nat.le_of_ble_eq_true rfl) (Nat.le_of_ble_eq_true rfl) (fun V9 h => hQ _ _ ⟨[(o 0, .inr (2, [.ref (o 1), .ref (o 2), .ref (o 3), .ref (o 4), .ref (o 5), .ref (o 6), .ref (o 7), .ref (o 8), .ref (o 9), .ref (o 10), .int (((driftQ t r true true) 0).toInt32)])), (o 1, .inl (0, 6, .inl (seF t (driftQ t r true true)))), (o 2, .inl (0, 3, .inl (maF (driftQ t r true true)))), (o 3, .inl (0, 3, .inl (plX (driftQ t r true true)))), (o 4, .inl (0, 3, .inl (plY (driftQ t r true true)))), (o 5, .inl (1, 3, .inr (.inl (moX (driftQ t r true true))))), (o 6, .inl (1, 3, .inr (.inl (moY (driftQ t r true true)))))], ⟨rfl, in_t2 (moR_drift hmo) (by rw [← ((mvX11 (t := t) (j := 0) hpl hm (by decide)).trans (drq_7).symm)]; exact hk1) (by rw [← ((mvY11 (t := t) (j := 0) hpl hm (by decide)).trans (drq_8).symm)]; exact hk3) (by rw [← ((mvX11 (t := t) (j := 1) hpl hm (by decide)).trans (drq_12).symm)]; exact hk5) (by rw [← ((mvY11 (t := t) (j := 1) hpl hm (by decide)).trans (drq_13).symm)]; exact hk7) (by rw [← ((mvX11 (t := t) (j := 2) hpl hm (by decide)).trans (drq_17).symm)]; exact hk9) (by rw [← ((mvY11 (t := t) (j := 2) hpl hm (by decide)).trans (drq_18).symm)]; exact hk11), rfl⟩, by rw [← hV0, ← hF]; exact h⟩) dX3_drift_75
            · skip
              refine xCall.w (wr := [(o 2, .inl (0, 3, .inl (maF r))), (o 3, .inl (0, 3, .inl u10)), (o 4, .inl (0, 3, .inl u8)), (o 5, .inl (1, 3, .inr (.inl (moX r)))), (o 6, .inl (1, 3, .inr (.inl (moY r))))]) (r_cV hC kX3 (o 0) [.int (plY r 2), .long (r 20), .int (2 * (maF r 2)), .int (-1)] mVX3_moved q416 (fun _ h => ⟨_, h.get 0 rfl⟩) (fun V9 h9 => (metX3_moved1B _ _ hG o t r (plY r 2) (r 20) (2 * (maF r 2)) (dv2_n hm (by decide)) ht hk11) V9 (h9.in.sub [0, 1] rfl rfl)) ⟨rfl, rfl⟩ (Nat.le_of_ble_eq_true rfl) (Nat.le_of_ble_eq_true rfl) rfl (Nat.le_of_ble_eq_true rfl) dX3_drift_65) [0, 1] [2, 3, 4, 5, 6] rfl rfl rfl (by decide) 1 6 68 rfl rfl rfl (fun _ _ h => h.elim) (fun q16 w17 h18 => ?_)
              obtain rfl := h18
              show rx C (xSt F V0 [(o 2, .inl (0, 3, .inl (maF r))), (o 3, .inl (0, 3, .inl u10)), (o 4, .inl (0, 3, .inl u8)), (o 5, .inl (1, 3, .inr (.inl (moX r)))), (o 6, .inl (1, 3, .inr (.inl (moY r)))), (o 0, .inr (2, [.ref (o 1), .ref (o 2), .ref (o 3), .ref (o 4), .ref (o 5), .ref (o 6), .ref (o 7), .ref (o 8), .ref (o 9), .ref (o 10), .int ((r 0).toInt32)])), (o 1, .inl (0, 6, .inl (seF t r))), (q16, .inr (3, [.null, .null, .null, .null, .null, .int 0]))]) 1 6 65 [(3, .int 2), (0, .ref (o 0)), (1, .int (-1)), (2, .int 2)] [.int 2, .ref (o 4)] q16
              subst hu10
              subst hu8
              subst hu6
              subst hu4
              subst hu2
              exact rx_out hC hTab (fun _ h => by cases h) (Nat.le_of_ble_eq_true rfl) (Nat.le_of_ble_eq_true rfl) (fun V9 h => hX _ _ ⟨[(o 0, .inr (2, [.ref (o 1), .ref (o 2), .ref (o 3), .ref (o 4), .ref (o 5), .ref (o 6), .ref (o 7), .ref (o 8), .ref (o 9), .ref (o 10), .int ((r 0).toInt32)])), (o 1, .inl (0, 6, .inl (seF t r))), (o 2, .inl (0, 3, .inl (maF r))), (o 3, .inl (0, 3, .inl (va_up (va_up (va_up (plX r) 0 ((mvQ t (plX r 0) (r 9) (2 * (maF r 0)) (-1)).toInt32)) 1 ((mvQ t (plX r 1) (r 14) (2 * (maF r 1)) (-1)).toInt32)) 2 ((mvQ t (plX r 2) (r 19) (2 * (maF r 2)) (-1)).toInt32)))), (o 4, .inl (0, 3, .inl (va_up (va_up (plY r) 0 ((mvQ t (plY r 0) (r 10) (2 * (maF r 0)) (-1)).toInt32)) 1 ((mvQ t (plY r 1) (r 15) (2 * (maF r 1)) (-1)).toInt32)))), (o 5, .inl (1, 3, .inr (.inl (moX r)))), (o 6, .inl (1, 3, .inr (.inl (moY r)))), (q16, .inr (3, [.null, .null, .null, .null, .null, .int 0]))], ⟨in_f18 (by rw [← ((mvY11 (t := t) (j := 2) hpl hm (by decide)).trans (drq_18).symm)]; exact hk11), _, _, rfl⟩, by rw [← hV0, ← hF]; exact (h.sub [5, 6, 0, 1, 2, 3, 4, 7] rfl rfl)⟩)
          · skip
            refine xCall.w (wr := [(o 2, .inl (0, 3, .inl (maF r))), (o 3, .inl (0, 3, .inl u6)), (o 4, .inl (0, 3, .inl u8)), (o 5, .inl (1, 3, .inr (.inl (moX r)))), (o 6, .inl (1, 3, .inr (.inl (moY r))))]) (r_cV hC kX3 (o 0) [.int (plX r 2), .long (r 19), .int (2 * (maF r 2)), .int (-1)] mVX3_moved q416 (fun _ h => ⟨_, h.get 0 rfl⟩) (fun V9 h9 => (metX3_moved1B _ _ hG o t r (plX r 2) (r 19) (2 * (maF r 2)) (dv2_n hm (by decide)) ht hk9) V9 (h9.in.sub [0, 1] rfl rfl)) ⟨rfl, rfl⟩ (Nat.le_of_ble_eq_true rfl) (Nat.le_of_ble_eq_true rfl) rfl (Nat.le_of_ble_eq_true rfl) dX3_drift_34) [0, 1] [2, 3, 4, 5, 6] rfl rfl rfl (by decide) 1 6 37 rfl rfl rfl (fun _ _ h => h.elim) (fun q22 w23 h24 => ?_)
            obtain rfl := h24
            show rx C (xSt F V0 [(o 2, .inl (0, 3, .inl (maF r))), (o 3, .inl (0, 3, .inl u6)), (o 4, .inl (0, 3, .inl u8)), (o 5, .inl (1, 3, .inr (.inl (moX r)))), (o 6, .inl (1, 3, .inr (.inl (moY r)))), (o 0, .inr (2, [.ref (o 1), .ref (o 2), .ref (o 3), .ref (o 4), .ref (o 5), .ref (o 6), .ref (o 7), .ref (o 8), .ref (o 9), .ref (o 10), .int ((r 0).toInt32)])), (o 1, .inl (0, 6, .inl (seF t r))), (q22, .inr (3, [.null, .null, .null, .null, .null, .int 0]))]) 1 6 34 [(3, .int 2), (0, .ref (o 0)), (1, .int (-1)), (2, .int 2)] [.int 2, .ref (o 3)] q22
            subst hu8
            subst hu6
            subst hu4
            subst hu2
            exact rx_out hC hTab (fun _ h => by cases h) (Nat.le_of_ble_eq_true rfl) (Nat.le_of_ble_eq_true rfl) (fun V9 h => hX _ _ ⟨[(o 0, .inr (2, [.ref (o 1), .ref (o 2), .ref (o 3), .ref (o 4), .ref (o 5), .ref (o 6), .ref (o 7), .ref (o 8), .ref (o 9), .ref (o 10), .int ((r 0).toInt32)])), (o 1, .inl (0, 6, .inl (seF t r))), (o 2, .inl (0, 3, .inl (maF r))), (o 3, .inl (0, 3, .inl (va_up (va_up (plX r) 0 ((mvQ t (plX r 0) (r 9) (2 * (maF r 0)) (-1)).toInt32)) 1 ((mvQ t (plX r 1) (r 14) (2 * (maF r 1)) (-1)).toInt32)))), (o 4, .inl (0, 3, .inl (va_up (va_up (plY r) 0 ((mvQ t (plY r 0) (r 10) (2 * (maF r 0)) (-1)).toInt32)) 1 ((mvQ t (plY r 1) (r 15) (2 * (maF r 1)) (-1)).toInt32)))), (o 5, .inl (1, 3, .inr (.inl (moX r)))), (o 6, .inl (1, 3, .inr (.inl (moY r)))), (q22, .inr (3, [.null, .null, .null, .null, .null, .int 0]))], ⟨in_f17 (by rw [← ((mvX11 (t := t) (j := 2) hpl hm (by decide)).trans (drq_17).symm)]; exact hk9), _, _, rfl⟩, by rw [← hV0, ← hF]; exact (h.sub [5, 6, 0, 1, 2, 3, 4, 7] rfl rfl)⟩)
        · skip
          refine xCall.w (wr := [(o 2, .inl (0, 3, .inl (maF r))), (o 3, .inl (0, 3, .inl u6)), (o 4, .inl (0, 3, .inl u4)), (o 5, .inl (1, 3, .inr (.inl (moX r)))), (o 6, .inl (1, 3, .inr (.inl (moY r))))]) (r_cV hC kX3 (o 0) [.int (plY r 1), .long (r 15), .int (2 * (maF r 1)), .int (-1)] mVX3_moved q416 (fun _ h => ⟨_, h.get 0 rfl⟩) (fun V9 h9 => (metX3_moved1B _ _ hG o t r (plY r 1) (r 15) (2 * (maF r 1)) (dv2_n hm (by decide)) ht hk7) V9 (h9.in.sub [0, 1] rfl rfl)) ⟨rfl, rfl⟩ (Nat.le_of_ble_eq_true rfl) (Nat.le_of_ble_eq_true rfl) rfl (Nat.le_of_ble_eq_true rfl) dX3_drift_65) [0, 1] [2, 3, 4, 5, 6] rfl rfl rfl (by decide) 1 6 68 rfl rfl rfl (fun _ _ h => h.elim) (fun q28 w29 h30 => ?_)
          obtain rfl := h30
          show rx C (xSt F V0 [(o 2, .inl (0, 3, .inl (maF r))), (o 3, .inl (0, 3, .inl u6)), (o 4, .inl (0, 3, .inl u4)), (o 5, .inl (1, 3, .inr (.inl (moX r)))), (o 6, .inl (1, 3, .inr (.inl (moY r)))), (o 0, .inr (2, [.ref (o 1), .ref (o 2), .ref (o 3), .ref (o 4), .ref (o 5), .ref (o 6), .ref (o 7), .ref (o 8), .ref (o 9), .ref (o 10), .int ((r 0).toInt32)])), (o 1, .inl (0, 6, .inl (seF t r))), (q28, .inr (3, [.null, .null, .null, .null, .null, .int 0]))]) 1 6 65 [(3, .int 1), (0, .ref (o 0)), (1, .int (-1)), (2, .int 2)] [.int 1, .ref (o 4)] q28
          subst hu6
          subst hu4
          subst hu2
          exact rx_out hC hTab (fun _ h => by cases h) (Nat.le_of_ble_eq_true rfl) (Nat.le_of_ble_eq_true rfl) (fun V9 h => hX _ _ ⟨[(o 0, .inr (2, [.ref (o 1), .ref (o 2), .ref (o 3), .ref (o 4), .ref (o 5), .ref (o 6), .ref (o 7), .ref (o 8), .ref (o 9), .ref (o 10), .int ((r 0).toInt32)])), (o 1, .inl (0, 6, .inl (seF t r))), (o 2, .inl (0, 3, .inl (maF r))), (o 3, .inl (0, 3, .inl (va_up (va_up (plX r) 0 ((mvQ t (plX r 0) (r 9) (2 * (maF r 0)) (-1)).toInt32)) 1 ((mvQ t (plX r 1) (r 14) (2 * (maF r 1)) (-1)).toInt32)))), (o 4, .inl (0, 3, .inl (va_up (plY r) 0 ((mvQ t (plY r 0) (r 10) (2 * (maF r 0)) (-1)).toInt32)))), (o 5, .inl (1, 3, .inr (.inl (moX r)))), (o 6, .inl (1, 3, .inr (.inl (moY r)))), (q28, .inr (3, [.null, .null, .null, .null, .null, .int 0]))], ⟨in_f13 (by rw [← ((mvY11 (t := t) (j := 1) hpl hm (by decide)).trans (drq_13).symm)]; exact hk7), _, _, rfl⟩, by rw [← hV0, ← hF]; exact (h.sub [5, 6, 0, 1, 2, 3, 4, 7] rfl rfl)⟩)
      · skip
        refine xCall.w (wr := [(o 2, .inl (0, 3, .inl (maF r))), (o 3, .inl (0, 3, .inl u2)), (o 4, .inl (0, 3, .inl u4)), (o 5, .inl (1, 3, .inr (.inl (moX r)))), (o 6, .inl (1, 3, .inr (.inl (moY r))))]) (r_cV hC kX3 (o 0) [.int (plX r 1), .long (r 14), .int (2 * (maF r 1)), .int (-1)] mVX3_moved q416 (fun _ h => ⟨_, h.get 0 rfl⟩) (fun V9 h9 => (metX3_moved1B _ _ hG o t r (plX r 1) (r 14) (2 * (maF r 1)) (dv2_n hm (by decide)) ht hk5) V9 (h9.in.sub [0, 1] rfl rfl)) ⟨rfl, rfl⟩ (Nat.le_of_ble_eq_true rfl) (Nat.le_of_ble_eq_true rfl) rfl (Nat.le_of_ble_eq_true rfl) dX3_drift_34) [0, 1] [2, 3, 4, 5, 6] rfl rfl rfl (by decide) 1 6 37 rfl rfl rfl (fun _ _ h => h.elim) (fun q34 w35 h36 => ?_)
        obtain rfl := h36
        show rx C (xSt F V0 [(o 2, .inl (0, 3, .inl (maF r))), (o 3, .inl (0, 3, .inl u2)), (o 4, .inl (0, 3, .inl u4)), (o 5, .inl (1, 3, .inr (.inl (moX r)))), (o 6, .inl (1, 3, .inr (.inl (moY r)))), (o 0, .inr (2, [.ref (o 1), .ref (o 2), .ref (o 3), .ref (o 4), .ref (o 5), .ref (o 6), .ref (o 7), .ref (o 8), .ref (o 9), .ref (o 10), .int ((r 0).toInt32)])), (o 1, .inl (0, 6, .inl (seF t r))), (q34, .inr (3, [.null, .null, .null, .null, .null, .int 0]))]) 1 6 34 [(3, .int 1), (0, .ref (o 0)), (1, .int (-1)), (2, .int 2)] [.int 1, .ref (o 3)] q34
        subst hu4
        subst hu2
        exact rx_out hC hTab (fun _ h => by cases h) (Nat.le_of_ble_eq_true rfl) (Nat.le_of_ble_eq_true rfl) (fun V9 h => hX _ _ ⟨[(o 0, .inr (2, [.ref (o 1), .ref (o 2), .ref (o 3), .ref (o 4), .ref (o 5), .ref (o 6), .ref (o 7), .ref (o 8), .ref (o 9), .ref (o 10), .int ((r 0).toInt32)])), (o 1, .inl (0, 6, .inl (seF t r))), (o 2, .inl (0, 3, .inl (maF r))), (o 3, .inl (0, 3, .inl (va_up (plX r) 0 ((mvQ t (plX r 0) (r 9) (2 * (maF r 0)) (-1)).toInt32)))), (o 4, .inl (0, 3, .inl (va_up (plY r) 0 ((mvQ t (plY r 0) (r 10) (2 * (maF r 0)) (-1)).toInt32)))), (o 5, .inl (1, 3, .inr (.inl (moX r)))), (o 6, .inl (1, 3, .inr (.inl (moY r)))), (q34, .inr (3, [.null, .null, .null, .null, .null, .int 0]))], ⟨in_f12 (by rw [← ((mvX11 (t := t) (j := 1) hpl hm (by decide)).trans (drq_12).symm)]; exact hk5), _, _, rfl⟩, by rw [← hV0, ← hF]; exact (h.sub [5, 6, 0, 1, 2, 3, 4, 7] rfl rfl)⟩)
    · skip
      refine xCall.w (wr := [(o 2, .inl (0, 3, .inl (maF r))), (o 3, .inl (0, 3, .inl u2)), (o 4, .inl (0, 3, .inl (plY r))), (o 5, .inl (1, 3, .inr (.inl (moX r)))), (o 6, .inl (1, 3, .inr (.inl (moY r))))]) (r_cV hC kX3 (o 0) [.int (plY r 0), .long (r 10), .int (2 * (maF r 0)), .int (-1)] mVX3_moved q416 (fun _ h => ⟨_, h.get 0 rfl⟩) (fun V9 h9 => (metX3_moved1B _ _ hG o t r (plY r 0) (r 10) (2 * (maF r 0)) (dv2_n hm (by decide)) ht hk3) V9 (h9.in.sub [0, 1] rfl rfl)) ⟨rfl, rfl⟩ (Nat.le_of_ble_eq_true rfl) (Nat.le_of_ble_eq_true rfl) rfl (Nat.le_of_ble_eq_true rfl) dX3_drift_65) [0, 1] [2, 3, 4, 5, 6] rfl rfl rfl (by decide) 1 6 68 rfl rfl rfl (fun _ _ h => h.elim) (fun q40 w41 h42 => ?_)
      obtain rfl := h42
      show rx C (xSt F V0 [(o 2, .inl (0, 3, .inl (maF r))), (o 3, .inl (0, 3, .inl u2)), (o 4, .inl (0, 3, .inl (plY r))), (o 5, .inl (1, 3, .inr (.inl (moX r)))), (o 6, .inl (1, 3, .inr (.inl (moY r)))), (o 0, .inr (2, [.ref (o 1), .ref (o 2), .ref (o 3), .ref (o 4), .ref (o 5), .ref (o 6), .ref (o 7), .ref (o 8), .ref (o 9), .ref (o 10), .int ((r 0).toInt32)])), (o 1, .inl (0, 6, .inl (seF t r))), (q40, .inr (3, [.null, .null, .null, .null, .null, .int 0]))]) 1 6 65 [(3, .int 0), (0, .ref (o 0)), (1, .int (-1)), (2, .int 2)] [.int 0, .ref (o 4)] q40
      subst hu2
      exact rx_out hC hTab (fun _ h => by cases h) (Nat.le_of_ble_eq_true rfl) (Nat.le_of_ble_eq_true rfl) (fun V9 h => hX _ _ ⟨[(o 0, .inr (2, [.ref (o 1), .ref (o 2), .ref (o 3), .ref (o 4), .ref (o 5), .ref (o 6), .ref (o 7), .ref (o 8), .ref (o 9), .ref (o 10), .int ((r 0).toInt32)])), (o 1, .inl (0, 6, .inl (seF t r))), (o 2, .inl (0, 3, .inl (maF r))), (o 3, .inl (0, 3, .inl (va_up (plX r) 0 ((mvQ t (plX r 0) (r 9) (2 * (maF r 0)) (-1)).toInt32)))), (o 4, .inl (0, 3, .inl (plY r))), (o 5, .inl (1, 3, .inr (.inl (moX r)))), (o 6, .inl (1, 3, .inr (.inl (moY r)))), (q40, .inr (3, [.null, .null, .null, .null, .null, .int 0]))], ⟨in_f8 (by rw [← ((mvY11 (t := t) (j := 0) hpl hm (by decide)).trans (drq_8).symm)]; exact hk3), _, _, rfl⟩, by rw [← hV0, ← hF]; exact (h.sub [5, 6, 0, 1, 2, 3, 4, 7] rfl rfl)⟩)
  · skip
    refine xCall.w (wr := [(o 2, .inl (0, 3, .inl (maF r))), (o 3, .inl (0, 3, .inl (plX r))), (o 4, .inl (0, 3, .inl (plY r))), (o 5, .inl (1, 3, .inr (.inl (moX r)))), (o 6, .inl (1, 3, .inr (.inl (moY r))))]) (r_cV hC kX3 (o 0) [.int (plX r 0), .long (r 9), .int (2 * (maF r 0)), .int (-1)] mVX3_moved q416 (fun _ h => ⟨_, h.get 0 rfl⟩) (fun V9 h9 => (metX3_moved1B _ _ hG o t r (plX r 0) (r 9) (2 * (maF r 0)) (dv2_n hm (by decide)) ht hk1) V9 (h9.in.sub [0, 1] rfl rfl)) ⟨rfl, rfl⟩ (Nat.le_of_ble_eq_true rfl) (Nat.le_of_ble_eq_true rfl) rfl (Nat.le_of_ble_eq_true rfl) dX3_drift_34) [0, 1] [2, 3, 4, 5, 6] rfl rfl rfl (by decide) 1 6 37 rfl rfl rfl (fun _ _ h => h.elim) (fun q46 w47 h48 => ?_)
    obtain rfl := h48
    show rx C (xSt F V0 [(o 2, .inl (0, 3, .inl (maF r))), (o 3, .inl (0, 3, .inl (plX r))), (o 4, .inl (0, 3, .inl (plY r))), (o 5, .inl (1, 3, .inr (.inl (moX r)))), (o 6, .inl (1, 3, .inr (.inl (moY r)))), (o 0, .inr (2, [.ref (o 1), .ref (o 2), .ref (o 3), .ref (o 4), .ref (o 5), .ref (o 6), .ref (o 7), .ref (o 8), .ref (o 9), .ref (o 10), .int ((r 0).toInt32)])), (o 1, .inl (0, 6, .inl (seF t r))), (q46, .inr (3, [.null, .null, .null, .null, .null, .int 0]))]) 1 6 34 [(3, .int 0), (0, .ref (o 0)), (1, .int (-1)), (2, .int 2)] [.int 0, .ref (o 3)] q46
    exact rx_out hC hTab (fun _ h => by cases h) (Nat.le_of_ble_eq_true rfl) (Nat.le_of_ble_eq_true rfl) (fun V9 h => hX _ _ ⟨[(o 0, .inr (2, [.ref (o 1), .ref (o 2), .ref (o 3), .ref (o 4), .ref (o 5), .ref (o 6), .ref (o 7), .ref (o 8), .ref (o 9), .ref (o 10), .int ((r 0).toInt32)])), (o 1, .inl (0, 6, .inl (seF t r))), (o 2, .inl (0, 3, .inl (maF r))), (o 3, .inl (0, 3, .inl (plX r))), (o 4, .inl (0, 3, .inl (plY r))), (o 5, .inl (1, 3, .inr (.inl (moX r)))), (o 6, .inl (1, 3, .inr (.inl (moY r)))), (q46, .inr (3, [.null, .null, .null, .null, .null, .int 0]))], ⟨in_f7 (by rw [← ((mvX11 (t := t) (j := 0) hpl hm (by decide)).trans (drq_7).symm)]; exact hk1), _, _, rfl⟩, by rw [← hV0, ← hF]; exact (h.sub [5, 6, 0, 1, 2, 3, 4, 7] rfl rfl)⟩)
set_option maxHeartbeats 4000000 in
set_option maxRecDepth 100000 in
theorem metX3_drift11S (l : Launch) (G : xG) (hG : xGood G) (o : Nat → Nat) (t r : Nat → Int64) (hpl : plR r) (hmo : moR r) (ht : tOK t) (hm : mOK r) (hin : isInQ (driftQ t r true true) = true) : xWm l G yX3_drift (Cond.code yX3_drift cX3_drift 4 none) { frames := 3, locals := 75, cells := 0, slots := 0 } [.ref (o 0), .int (-1), .int 2] [(o 0, .inr (2, [.ref (o 1), .ref (o 2), .ref (o 3), .ref (o 4), .ref (o 5), .ref (o 6), .ref (o 7), .ref (o 8), .ref (o 9), .ref (o 10), .int ((r 0).toInt32)])), (o 1, .inl (0, 6, .inl (seF t r))), (o 2, .inl (0, 3, .inl (maF r))), (o 3, .inl (0, 3, .inl (plX r))), (o 4, .inl (0, 3, .inl (plY r))), (o 5, .inl (1, 3, .inr (.inl (moX r)))), (o 6, .inl (1, 3, .inr (.inl (moY r))))] (fun v w' => v = none ∧ isInQ (driftQ t r true true) = true ∧ w' = [(o 0, .inr (2, [.ref (o 1), .ref (o 2), .ref (o 3), .ref (o 4), .ref (o 5), .ref (o 6), .ref (o 7), .ref (o 8), .ref (o 9), .ref (o 10), .int (((driftQ t r true true) 0).toInt32)])), (o 1, .inl (0, 6, .inl (seF t (driftQ t r true true)))), (o 2, .inl (0, 3, .inl (maF (driftQ t r true true)))), (o 3, .inl (0, 3, .inl (plX (driftQ t r true true)))), (o 4, .inl (0, 3, .inl (plY (driftQ t r true true)))), (o 5, .inl (1, 3, .inr (.inl (moX (driftQ t r true true))))), (o 6, .inl (1, 3, .inr (.inl (moY (driftQ t r true true)))))]) (fun _ _ => False) := by
  intro V hV
  refine xMet_ofT RX3 hG rfl (by decide) (Nat.le_of_ble_eq_true rfl) fun C hC hQ hX hl hg _ hTab => ?_
  subst hl hg
  obtain ⟨V0, hV0⟩ : ∃ V0, V0 = V := ⟨_, rfl⟩
  obtain ⟨F, hF⟩ : ∃ F, F = xF [(o 0, .inr (2, [.ref (o 1), .ref (o 2), .ref (o 3), .ref (o 4), .ref (o 5), .ref (o 6), .ref (o 7), .ref (o 8), .ref (o 9), .ref (o 10), .int ((r 0).toInt32)])), (o 1, .inl (0, 6, .inl (seF t r))), (o 2, .inl (0, 3, .inl (maF r))), (o 3, .inl (0, 3, .inl (plX r))), (o 4, .inl (0, 3, .inl (plY r))), (o 5, .inl (1, 3, .inr (.inl (moX r)))), (o 6, .inl (1, 3, .inr (.inl (moY r))))] := ⟨_, rfl⟩
  refine rn.mono (J := xSt F V0 [(o 0, .inr (2, [.ref (o 1), .ref (o 2), .ref (o 3), .ref (o 4), .ref (o 5), .ref (o 6), .ref (o 7), .ref (o 8), .ref (o 9), .ref (o 10), .int ((r 0).toInt32)])), (o 1, .inl (0, 6, .inl (seF t r))), (o 2, .inl (0, 3, .inl (maF r))), (o 3, .inl (0, 3, .inl (plX r))), (o 4, .inl (0, 3, .inl (plY r))), (o 5, .inl (1, 3, .inr (.inl (moX r)))), (o 6, .inl (1, 3, .inr (.inl (moY r))))]) (fun V9 h => by rw [h, hV0, hF]; exact hV.st) ?_
  show rn C (xSt F V0 [(o 0, .inr (2, [.ref (o 1), .ref (o 2), .ref (o 3), .ref (o 4), .ref (o 5), .ref (o 6), .ref (o 7), .ref (o 8), .ref (o 9), .ref (o 10), .int ((r 0).toInt32)])), (o 1, .inl (0, 6, .inl (seF t r))), (o 2, .inl (0, 3, .inl (maF r))), (o 3, .inl (0, 3, .inl (plX r))), (o 4, .inl (0, 3, .inl (plY r))), (o 5, .inl (1, 3, .inr (.inl (moX r)))), (o 6, .inl (1, 3, .inr (.inl (moY r))))]) 0 0 0 [(0, .ref (o 0)), (1, .int (-1)), (2, .int 2)] []
  refine r_iconst hC 0 dX3_drift_0 ic_0 1 rfl ?_
  refine r_istore_n hC 3 [(3, .int 0), (0, .ref (o 0)), (1, .int (-1)), (2, .int 2)] dX3_drift_1 rfl (Nat.le_of_ble_eq_true rfl) rfl 2 rfl ?_
  refine r_iload_n hC 0 dX3_drift_2 rfl 3 rfl ?_
  refine r_iconst hC 3 dX3_drift_3 ic_3 4 rfl ?_
  refine r_icge hC 75 dX3_drift_4 (by decide) 7 rfl (fun h => absurd h (by decide)) (fun _ => ?_)
  refine r_aload_n hC 1 dX3_drift_7 rfl 8 rfl ?_
  refine r_get (v := .ref (o 3)) hC kX3 2 rfl q180 (fun _ h => h.get 0 rfl) rfl dX3_drift_8 11 rfl ?_
  refine r_iload_n hC 0 dX3_drift_11 rfl 12 rfl ?_
  refine r_aload_n hC 1 dX3_drift_12 rfl 13 rfl ?_
  refine r_aload_n hC 1 dX3_drift_13 rfl 14 rfl ?_
  refine r_get (v := .ref (o 3)) hC kX3 2 rfl q180 (fun _ h => h.get 0 rfl) rfl dX3_drift_14 17 rfl ?_
  refine r_iload_n hC 0 dX3_drift_17 rfl 18 rfl ?_
  refine r_iald hC 0 (xix_n 0 (Nat.le_of_ble_eq_true rfl) (Nat.le_of_ble_eq_true rfl)) (fun _ h => h.get 3 rfl) (plX r 0) (rfl) dX3_drift_18 19 rfl ?_
  refine r_aload_n hC 1 dX3_drift_19 rfl 20 rfl ?_
  refine r_get (v := .ref (o 5)) hC kX3 4 rfl q188 (fun _ h => h.get 0 rfl) rfl dX3_drift_20 23 rfl ?_
  refine r_iload_n hC 0 dX3_drift_23 rfl 24 rfl ?_
  refine r_lald hC 0 (xix_n 0 (Nat.le_of_ble_eq_true rfl) (Nat.le_of_ble_eq_true rfl)) (fun _ h => h.get 5 rfl) (moX r 0) (rfl) dX3_drift_24 25 rfl ?_
  refine r_eql (y := r 9) (rfl) ?_
  refine r_iload_n hC 3 dX3_drift_25 rfl 26 rfl ?_
  refine r_aload_n hC 1 dX3_drift_26 rfl 27 rfl ?_
  refine r_get (v := .ref (o 2)) hC kX3 1 rfl q177 (fun _ h => h.get 0 rfl) rfl dX3_drift_27 30 rfl ?_
  refine r_iload_n hC 0 dX3_drift_30 rfl 31 rfl ?_
  refine r_iald hC 0 (xix_n 0 (Nat.le_of_ble_eq_true rfl) (Nat.le_of_ble_eq_true rfl)) (fun _ h => h.get 2 rfl) (maF r 0) (rfl) dX3_drift_31 32 rfl ?_
  refine r_imul hC (2 * (maF r 0)) dX3_drift_32  (rfl) 33 rfl ?_
  refine r_iload_n hC 2 dX3_drift_33 rfl 34 rfl ?_
  have hk1 : m_in (mvQ t (plX r 0) (r 9) (2 * (maF r 0)) (-1)) (-100000) 100000 = true := by rw [((mvX11 (t := t) (j := 0) hpl hm (by decide)).trans (drq_7).symm)]; exact in_y7 hin
  refine xCall.r (r := some (.int ((mvQ t (plX r 0) (r 9) (2 * (maF r 0)) (-1)).toInt32))) (r_cV hC kX3 (o 0) [.int (plX r 0), .long (r 9), .int (2 * (maF r 0)), .int (-1)] mVX3_moved q416 (fun _ h => ⟨_, h.get 0 rfl⟩) (fun V9 h9 => (metX3_moved1G _ _ hG o t r (plX r 0) (r 9) (2 * (maF r 0)) (dv2_n hm (by decide)) ht hk1) V9 (h9.in.sub [0, 1] rfl rfl)) ⟨rfl, rfl⟩ (Nat.le_of_ble_eq_true rfl) (Nat.le_of_ble_eq_true rfl) rfl (Nat.le_of_ble_eq_true rfl) dX3_drift_34) 0 0 37 rfl rfl rfl ?_
  refine r_iast (J := xSt F V0 [(o 0, .inr (2, [.ref (o 1), .ref (o 2), .ref (o 3), .ref (o 4), .ref (o 5), .ref (o 6), .ref (o 7), .ref (o 8), .ref (o 9), .ref (o 10), .int ((r 0).toInt32)])), (o 1, .inl (0, 6, .inl (seF t r))), (o 2, .inl (0, 3, .inl (maF r))), (o 3, .inl (0, 3, .inl (va_up (plX r) 0 ((mvQ t (plX r 0) (r 9) (2 * (maF r 0)) (-1)).toInt32)))), (o 4, .inl (0, 3, .inl (plY r))), (o 5, .inl (1, 3, .inr (.inl (moX r)))), (o 6, .inl (1, 3, .inr (.inl (moY r))))]) hC 0 (xix_n 0 (Nat.le_of_ble_eq_true rfl) (Nat.le_of_ble_eq_true rfl)) (fun _ h => h.get 3 rfl) dX3_drift_37 (fun _ h => h.set 3 _ rfl) 38 rfl ?_
  generalize hu2 : va_up (plX r) 0 ((mvQ t (plX r 0) (r 9) (2 * (maF r 0)) (-1)).toInt32) = u2
  refine r_aload_n hC 1 dX3_drift_38 rfl 39 rfl ?_
  refine r_get (v := .ref (o 4)) hC kX3 3 rfl q184 (fun _ h => h.get 0 rfl) rfl dX3_drift_39 42 rfl ?_
  refine r_iload_n hC 0 dX3_drift_42 rfl 43 rfl ?_
  refine r_aload_n hC 1 dX3_drift_43 rfl 44 rfl ?_
  refine r_aload_n hC 1 dX3_drift_44 rfl 45 rfl ?_
  refine r_get (v := .ref (o 4)) hC kX3 3 rfl q184 (fun _ h => h.get 0 rfl) rfl dX3_drift_45 48 rfl ?_
  refine r_iload_n hC 0 dX3_drift_48 rfl 49 rfl ?_
  refine r_iald hC 0 (xix_n 0 (Nat.le_of_ble_eq_true rfl) (Nat.le_of_ble_eq_true rfl)) (fun _ h => h.get 4 rfl) (plY r 0) (rfl) dX3_drift_49 50 rfl ?_
  refine r_aload_n hC 1 dX3_drift_50 rfl 51 rfl ?_
  refine r_get (v := .ref (o 6)) hC kX3 5 rfl q191 (fun _ h => h.get 0 rfl) rfl dX3_drift_51 54 rfl ?_
  refine r_iload_n hC 0 dX3_drift_54 rfl 55 rfl ?_
  refine r_lald hC 0 (xix_n 0 (Nat.le_of_ble_eq_true rfl) (Nat.le_of_ble_eq_true rfl)) (fun _ h => h.get 6 rfl) (moY r 0) (rfl) dX3_drift_55 56 rfl ?_
  refine r_eql (y := r 10) (rfl) ?_
  refine r_iload_n hC 3 dX3_drift_56 rfl 57 rfl ?_
  refine r_aload_n hC 1 dX3_drift_57 rfl 58 rfl ?_
  refine r_get (v := .ref (o 2)) hC kX3 1 rfl q177 (fun _ h => h.get 0 rfl) rfl dX3_drift_58 61 rfl ?_
  refine r_iload_n hC 0 dX3_drift_61 rfl 62 rfl ?_
  refine r_iald hC 0 (xix_n 0 (Nat.le_of_ble_eq_true rfl) (Nat.le_of_ble_eq_true rfl)) (fun _ h => h.get 2 rfl) (maF r 0) (rfl) dX3_drift_62 63 rfl ?_
  refine r_imul hC (2 * (maF r 0)) dX3_drift_63  (rfl) 64 rfl ?_
  refine r_iload_n hC 2 dX3_drift_64 rfl 65 rfl ?_
  have hk3 : m_in (mvQ t (plY r 0) (r 10) (2 * (maF r 0)) (-1)) (-100000) 100000 = true := by rw [((mvY11 (t := t) (j := 0) hpl hm (by decide)).trans (drq_8).symm)]; exact in_y8 hin
  refine xCall.r (r := some (.int ((mvQ t (plY r 0) (r 10) (2 * (maF r 0)) (-1)).toInt32))) (r_cV hC kX3 (o 0) [.int (plY r 0), .long (r 10), .int (2 * (maF r 0)), .int (-1)] mVX3_moved q416 (fun _ h => ⟨_, h.get 0 rfl⟩) (fun V9 h9 => (metX3_moved1G _ _ hG o t r (plY r 0) (r 10) (2 * (maF r 0)) (dv2_n hm (by decide)) ht hk3) V9 (h9.in.sub [0, 1] rfl rfl)) ⟨rfl, rfl⟩ (Nat.le_of_ble_eq_true rfl) (Nat.le_of_ble_eq_true rfl) rfl (Nat.le_of_ble_eq_true rfl) dX3_drift_65) 0 0 68 rfl rfl rfl ?_
  refine r_iast (J := xSt F V0 [(o 0, .inr (2, [.ref (o 1), .ref (o 2), .ref (o 3), .ref (o 4), .ref (o 5), .ref (o 6), .ref (o 7), .ref (o 8), .ref (o 9), .ref (o 10), .int ((r 0).toInt32)])), (o 1, .inl (0, 6, .inl (seF t r))), (o 2, .inl (0, 3, .inl (maF r))), (o 3, .inl (0, 3, .inl u2)), (o 4, .inl (0, 3, .inl (va_up (plY r) 0 ((mvQ t (plY r 0) (r 10) (2 * (maF r 0)) (-1)).toInt32)))), (o 5, .inl (1, 3, .inr (.inl (moX r)))), (o 6, .inl (1, 3, .inr (.inl (moY r))))]) hC 0 (xix_n 0 (Nat.le_of_ble_eq_true rfl) (Nat.le_of_ble_eq_true rfl)) (fun _ h => h.get 4 rfl) dX3_drift_68 (fun _ h => h.set 4 _ rfl) 69 rfl ?_
  generalize hu4 : va_up (plY r) 0 ((mvQ t (plY r 0) (r 10) (2 * (maF r 0)) (-1)).toInt32) = u4
  refine r_iinc hC 1 3 0 [(3, .int 1), (0, .ref (o 0)), (1, .int (-1)), (2, .int 2)] dX3_drift_69 rfl (by decide) (Nat.le_of_ble_eq_true rfl) rfl 72 rfl ?_
  refine r_goto hC 2 dX3_drift_72 (by decide) ?_
  refine r_iload_n hC 0 dX3_drift_2 rfl 3 rfl ?_
  refine r_iconst hC 3 dX3_drift_3 ic_3 4 rfl ?_
  refine r_icge hC 75 dX3_drift_4 (by decide) 7 rfl (fun h => absurd h (by decide)) (fun _ => ?_)
  refine r_aload_n hC 1 dX3_drift_7 rfl 8 rfl ?_
  refine r_get (v := .ref (o 3)) hC kX3 2 rfl q180 (fun _ h => h.get 0 rfl) rfl dX3_drift_8 11 rfl ?_
  refine r_iload_n hC 0 dX3_drift_11 rfl 12 rfl ?_
  refine r_aload_n hC 1 dX3_drift_12 rfl 13 rfl ?_
  refine r_aload_n hC 1 dX3_drift_13 rfl 14 rfl ?_
  refine r_get (v := .ref (o 3)) hC kX3 2 rfl q180 (fun _ h => h.get 0 rfl) rfl dX3_drift_14 17 rfl ?_
  refine r_iload_n hC 0 dX3_drift_17 rfl 18 rfl ?_
  refine r_iald hC 1 (xix_n 1 (Nat.le_of_ble_eq_true rfl) (Nat.le_of_ble_eq_true rfl)) (fun _ h => h.get 3 rfl) (plX r 1) (by rw [← hu2]; rfl) dX3_drift_18 19 rfl ?_
  refine r_aload_n hC 1 dX3_drift_19 rfl 20 rfl ?_
  refine r_get (v := .ref (o 5)) hC kX3 4 rfl q188 (fun _ h => h.get 0 rfl) rfl dX3_drift_20 23 rfl ?_
  refine r_iload_n hC 0 dX3_drift_23 rfl 24 rfl ?_
  refine r_lald hC 1 (xix_n 1 (Nat.le_of_ble_eq_true rfl) (Nat.le_of_ble_eq_true rfl)) (fun _ h => h.get 5 rfl) (moX r 1) (rfl) dX3_drift_24 25 rfl ?_
  refine r_eql (y := r 14) (rfl) ?_
  refine r_iload_n hC 3 dX3_drift_25 rfl 26 rfl ?_
  refine r_aload_n hC 1 dX3_drift_26 rfl 27 rfl ?_
  refine r_get (v := .ref (o 2)) hC kX3 1 rfl q177 (fun _ h => h.get 0 rfl) rfl dX3_drift_27 30 rfl ?_
  refine r_iload_n hC 0 dX3_drift_30 rfl 31 rfl ?_
  refine r_iald hC 1 (xix_n 1 (Nat.le_of_ble_eq_true rfl) (Nat.le_of_ble_eq_true rfl)) (fun _ h => h.get 2 rfl) (maF r 1) (rfl) dX3_drift_31 32 rfl ?_
  refine r_imul hC (2 * (maF r 1)) dX3_drift_32  (rfl) 33 rfl ?_
  refine r_iload_n hC 2 dX3_drift_33 rfl 34 rfl ?_
  have hk5 : m_in (mvQ t (plX r 1) (r 14) (2 * (maF r 1)) (-1)) (-100000) 100000 = true := by rw [((mvX11 (t := t) (j := 1) hpl hm (by decide)).trans (drq_12).symm)]; exact in_y12 hin
  refine xCall.r (r := some (.int ((mvQ t (plX r 1) (r 14) (2 * (maF r 1)) (-1)).toInt32))) (r_cV hC kX3 (o 0) [.int (plX r 1), .long (r 14), .int (2 * (maF r 1)), .int (-1)] mVX3_moved q416 (fun _ h => ⟨_, h.get 0 rfl⟩) (fun V9 h9 => (metX3_moved1G _ _ hG o t r (plX r 1) (r 14) (2 * (maF r 1)) (dv2_n hm (by decide)) ht hk5) V9 (h9.in.sub [0, 1] rfl rfl)) ⟨rfl, rfl⟩ (Nat.le_of_ble_eq_true rfl) (Nat.le_of_ble_eq_true rfl) rfl (Nat.le_of_ble_eq_true rfl) dX3_drift_34) 0 0 37 rfl rfl rfl ?_
  refine r_iast (J := xSt F V0 [(o 0, .inr (2, [.ref (o 1), .ref (o 2), .ref (o 3), .ref (o 4), .ref (o 5), .ref (o 6), .ref (o 7), .ref (o 8), .ref (o 9), .ref (o 10), .int ((r 0).toInt32)])), (o 1, .inl (0, 6, .inl (seF t r))), (o 2, .inl (0, 3, .inl (maF r))), (o 3, .inl (0, 3, .inl (va_up u2 1 ((mvQ t (plX r 1) (r 14) (2 * (maF r 1)) (-1)).toInt32)))), (o 4, .inl (0, 3, .inl u4)), (o 5, .inl (1, 3, .inr (.inl (moX r)))), (o 6, .inl (1, 3, .inr (.inl (moY r))))]) hC 1 (xix_n 1 (Nat.le_of_ble_eq_true rfl) (Nat.le_of_ble_eq_true rfl)) (fun _ h => h.get 3 rfl) dX3_drift_37 (fun _ h => h.set 3 _ rfl) 38 rfl ?_
  generalize hu6 : va_up u2 1 ((mvQ t (plX r 1) (r 14) (2 * (maF r 1)) (-1)).toInt32) = u6
  refine r_aload_n hC 1 dX3_drift_38 rfl 39 rfl ?_
  refine r_get (v := .ref (o 4)) hC kX3 3 rfl q184 (fun _ h => h.get 0 rfl) rfl dX3_drift_39 42 rfl ?_
  refine r_iload_n hC 0 dX3_drift_42 rfl 43 rfl ?_
  refine r_aload_n hC 1 dX3_drift_43 rfl 44 rfl ?_
  refine r_aload_n hC 1 dX3_drift_44 rfl 45 rfl ?_
  refine r_get (v := .ref (o 4)) hC kX3 3 rfl q184 (fun _ h => h.get 0 rfl) rfl dX3_drift_45 48 rfl ?_
  refine r_iload_n hC 0 dX3_drift_48 rfl 49 rfl ?_
  refine r_iald hC 1 (xix_n 1 (Nat.le_of_ble_eq_true rfl) (Nat.le_of_ble_eq_true rfl)) (fun _ h => h.get 4 rfl) (plY r 1) (by rw [← hu4]; rfl) dX3_drift_49 50 rfl ?_
  refine r_aload_n hC 1 dX3_drift_50 rfl 51 rfl ?_
  refine r_get (v := .ref (o 6)) hC kX3 5 rfl q191 (fun _ h => h.get 0 rfl) rfl dX3_drift_51 54 rfl ?_
  refine r_iload_n hC 0 dX3_drift_54 rfl 55 rfl ?_
  refine r_lald hC 1 (xix_n 1 (Nat.le_of_ble_eq_true rfl) (Nat.le_of_ble_eq_true rfl)) (fun _ h => h.get 6 rfl) (moY r 1) (rfl) dX3_drift_55 56 rfl ?_
  refine r_eql (y := r 15) (rfl) ?_
  refine r_iload_n hC 3 dX3_drift_56 rfl 57 rfl ?_
  refine r_aload_n hC 1 dX3_drift_57 rfl 58 rfl ?_
  refine r_get (v := .ref (o 2)) hC kX3 1 rfl q177 (fun _ h => h.get 0 rfl) rfl dX3_drift_58 61 rfl ?_
  refine r_iload_n hC 0 dX3_drift_61 rfl 62 rfl ?_
  refine r_iald hC 1 (xix_n 1 (Nat.le_of_ble_eq_true rfl) (Nat.le_of_ble_eq_true rfl)) (fun _ h => h.get 2 rfl) (maF r 1) (rfl) dX3_drift_62 63 rfl ?_
  refine r_imul hC (2 * (maF r 1)) dX3_drift_63  (rfl) 64 rfl ?_
  refine r_iload_n hC 2 dX3_drift_64 rfl 65 rfl ?_
  have hk7 : m_in (mvQ t (plY r 1) (r 15) (2 * (maF r 1)) (-1)) (-100000) 100000 = true := by rw [((mvY11 (t := t) (j := 1) hpl hm (by decide)).trans (drq_13).symm)]; exact in_y13 hin
  refine xCall.r (r := some (.int ((mvQ t (plY r 1) (r 15) (2 * (maF r 1)) (-1)).toInt32))) (r_cV hC kX3 (o 0) [.int (plY r 1), .long (r 15), .int (2 * (maF r 1)), .int (-1)] mVX3_moved q416 (fun _ h => ⟨_, h.get 0 rfl⟩) (fun V9 h9 => (metX3_moved1G _ _ hG o t r (plY r 1) (r 15) (2 * (maF r 1)) (dv2_n hm (by decide)) ht hk7) V9 (h9.in.sub [0, 1] rfl rfl)) ⟨rfl, rfl⟩ (Nat.le_of_ble_eq_true rfl) (Nat.le_of_ble_eq_true rfl) rfl (Nat.le_of_ble_eq_true rfl) dX3_drift_65) 0 0 68 rfl rfl rfl ?_
  refine r_iast (J := xSt F V0 [(o 0, .inr (2, [.ref (o 1), .ref (o 2), .ref (o 3), .ref (o 4), .ref (o 5), .ref (o 6), .ref (o 7), .ref (o 8), .ref (o 9), .ref (o 10), .int ((r 0).toInt32)])), (o 1, .inl (0, 6, .inl (seF t r))), (o 2, .inl (0, 3, .inl (maF r))), (o 3, .inl (0, 3, .inl u6)), (o 4, .inl (0, 3, .inl (va_up u4 1 ((mvQ t (plY r 1) (r 15) (2 * (maF r 1)) (-1)).toInt32)))), (o 5, .inl (1, 3, .inr (.inl (moX r)))), (o 6, .inl (1, 3, .inr (.inl (moY r))))]) hC 1 (xix_n 1 (Nat.le_of_ble_eq_true rfl) (Nat.le_of_ble_eq_true rfl)) (fun _ h => h.get 4 rfl) dX3_drift_68 (fun _ h => h.set 4 _ rfl) 69 rfl ?_
  generalize hu8 : va_up u4 1 ((mvQ t (plY r 1) (r 15) (2 * (maF r 1)) (-1)).toInt32) = u8
  refine r_iinc hC 2 3 0 [(3, .int 2), (0, .ref (o 0)), (1, .int (-1)), (2, .int 2)] dX3_drift_69 rfl (by decide) (Nat.le_of_ble_eq_true rfl) rfl 72 rfl ?_
  refine r_goto hC 2 dX3_drift_72 (by decide) ?_
  refine r_iload_n hC 0 dX3_drift_2 rfl 3 rfl ?_
  refine r_iconst hC 3 dX3_drift_3 ic_3 4 rfl ?_
  refine r_icge hC 75 dX3_drift_4 (by decide) 7 rfl (fun h => absurd h (by decide)) (fun _ => ?_)
  refine r_aload_n hC 1 dX3_drift_7 rfl 8 rfl ?_
  refine r_get (v := .ref (o 3)) hC kX3 2 rfl q180 (fun _ h => h.get 0 rfl) rfl dX3_drift_8 11 rfl ?_
  refine r_iload_n hC 0 dX3_drift_11 rfl 12 rfl ?_
  refine r_aload_n hC 1 dX3_drift_12 rfl 13 rfl ?_
  refine r_aload_n hC 1 dX3_drift_13 rfl 14 rfl ?_
  refine r_get (v := .ref (o 3)) hC kX3 2 rfl q180 (fun _ h => h.get 0 rfl) rfl dX3_drift_14 17 rfl ?_
  refine r_iload_n hC 0 dX3_drift_17 rfl 18 rfl ?_
  refine r_iald hC 2 (xix_n 2 (Nat.le_of_ble_eq_true rfl) (Nat.le_of_ble_eq_true rfl)) (fun _ h => h.get 3 rfl) (plX r 2) (by rw [← hu6, ← hu2]; rfl) dX3_drift_18 19 rfl ?_
  refine r_aload_n hC 1 dX3_drift_19 rfl 20 rfl ?_
  refine r_get (v := .ref (o 5)) hC kX3 4 rfl q188 (fun _ h => h.get 0 rfl) rfl dX3_drift_20 23 rfl ?_
  refine r_iload_n hC 0 dX3_drift_23 rfl 24 rfl ?_
  refine r_lald hC 2 (xix_n 2 (Nat.le_of_ble_eq_true rfl) (Nat.le_of_ble_eq_true rfl)) (fun _ h => h.get 5 rfl) (moX r 2) (rfl) dX3_drift_24 25 rfl ?_
  refine r_eql (y := r 19) (rfl) ?_
  refine r_iload_n hC 3 dX3_drift_25 rfl 26 rfl ?_
  refine r_aload_n hC 1 dX3_drift_26 rfl 27 rfl ?_
  refine r_get (v := .ref (o 2)) hC kX3 1 rfl q177 (fun _ h => h.get 0 rfl) rfl dX3_drift_27 30 rfl ?_
  refine r_iload_n hC 0 dX3_drift_30 rfl 31 rfl ?_
  refine r_iald hC 2 (xix_n 2 (Nat.le_of_ble_eq_true rfl) (Nat.le_of_ble_eq_true rfl)) (fun _ h => h.get 2 rfl) (maF r 2) (rfl) dX3_drift_31 32 rfl ?_
  refine r_imul hC (2 * (maF r 2)) dX3_drift_32  (rfl) 33 rfl ?_
  refine r_iload_n hC 2 dX3_drift_33 rfl 34 rfl ?_
  have hk9 : m_in (mvQ t (plX r 2) (r 19) (2 * (maF r 2)) (-1)) (-100000) 100000 = true := by rw [((mvX11 (t := t) (j := 2) hpl hm (by decide)).trans (drq_17).symm)]; exact in_y17 hin
  refine xCall.r (r := some (.int ((mvQ t (plX r 2) (r 19) (2 * (maF r 2)) (-1)).toInt32))) (r_cV hC kX3 (o 0) [.int (plX r 2), .long (r 19), .int (2 * (maF r 2)), .int (-1)] mVX3_moved q416 (fun _ h => ⟨_, h.get 0 rfl⟩) (fun V9 h9 => (metX3_moved1G _ _ hG o t r (plX r 2) (r 19) (2 * (maF r 2)) (dv2_n hm (by decide)) ht hk9) V9 (h9.in.sub [0, 1] rfl rfl)) ⟨rfl, rfl⟩ (Nat.le_of_ble_eq_true rfl) (Nat.le_of_ble_eq_true rfl) rfl (Nat.le_of_ble_eq_true rfl) dX3_drift_34) 0 0 37 rfl rfl rfl ?_
  refine r_iast (J := xSt F V0 [(o 0, .inr (2, [.ref (o 1), .ref (o 2), .ref (o 3), .ref (o 4), .ref (o 5), .ref (o 6), .ref (o 7), .ref (o 8), .ref (o 9), .ref (o 10), .int ((r 0).toInt32)])), (o 1, .inl (0, 6, .inl (seF t r))), (o 2, .inl (0, 3, .inl (maF r))), (o 3, .inl (0, 3, .inl (va_up u6 2 ((mvQ t (plX r 2) (r 19) (2 * (maF r 2)) (-1)).toInt32)))), (o 4, .inl (0, 3, .inl u8)), (o 5, .inl (1, 3, .inr (.inl (moX r)))), (o 6, .inl (1, 3, .inr (.inl (moY r))))]) hC 2 (xix_n 2 (Nat.le_of_ble_eq_true rfl) (Nat.le_of_ble_eq_true rfl)) (fun _ h => h.get 3 rfl) dX3_drift_37 (fun _ h => h.set 3 _ rfl) 38 rfl ?_
  generalize hu10 : va_up u6 2 ((mvQ t (plX r 2) (r 19) (2 * (maF r 2)) (-1)).toInt32) = u10
  refine r_aload_n hC 1 dX3_drift_38 rfl 39 rfl ?_
  refine r_get (v := .ref (o 4)) hC kX3 3 rfl q184 (fun _ h => h.get 0 rfl) rfl dX3_drift_39 42 rfl ?_
  refine r_iload_n hC 0 dX3_drift_42 rfl 43 rfl ?_
  refine r_aload_n hC 1 dX3_drift_43 rfl 44 rfl ?_
  refine r_aload_n hC 1 dX3_drift_44 rfl 45 rfl ?_
  refine r_get (v := .ref (o 4)) hC kX3 3 rfl q184 (fun _ h => h.get 0 rfl) rfl dX3_drift_45 48 rfl ?_
  refine r_iload_n hC 0 dX3_drift_48 rfl 49 rfl ?_
  refine r_iald hC 2 (xix_n 2 (Nat.le_of_ble_eq_true rfl) (Nat.le_of_ble_eq_true rfl)) (fun _ h => h.get 4 rfl) (plY r 2) (by rw [← hu8, ← hu4]; rfl) dX3_drift_49 50 rfl ?_
  refine r_aload_n hC 1 dX3_drift_50 rfl 51 rfl ?_
  refine r_get (v := .ref (o 6)) hC kX3 5 rfl q191 (fun _ h => h.get 0 rfl) rfl dX3_drift_51 54 rfl ?_
  refine r_iload_n hC 0 dX3_drift_54 rfl 55 rfl ?_
  refine r_lald hC 2 (xix_n 2 (Nat.le_of_ble_eq_true rfl) (Nat.le_of_ble_eq_true rfl)) (fun _ h => h.get 6 rfl) (moY r 2) (rfl) dX3_drift_55 56 rfl ?_
  refine r_eql (y := r 20) (rfl) ?_
  refine r_iload_n hC 3 dX3_drift_56 rfl 57 rfl ?_
  refine r_aload_n hC 1 dX3_drift_57 rfl 58 rfl ?_
  refine r_get (v := .ref (o 2)) hC kX3 1 rfl q177 (fun _ h => h.get 0 rfl) rfl dX3_drift_58 61 rfl ?_
  refine r_iload_n hC 0 dX3_drift_61 rfl 62 rfl ?_
  refine r_iald hC 2 (xix_n 2 (Nat.le_of_ble_eq_true rfl) (Nat.le_of_ble_eq_true rfl)) (fun _ h => h.get 2 rfl) (maF r 2) (rfl) dX3_drift_62 63 rfl ?_
  refine r_imul hC (2 * (maF r 2)) dX3_drift_63  (rfl) 64 rfl ?_
  refine r_iload_n hC 2 dX3_drift_64 rfl 65 rfl ?_
  have hk11 : m_in (mvQ t (plY r 2) (r 20) (2 * (maF r 2)) (-1)) (-100000) 100000 = true := by rw [((mvY11 (t := t) (j := 2) hpl hm (by decide)).trans (drq_18).symm)]; exact in_y18 hin
  refine xCall.r (r := some (.int ((mvQ t (plY r 2) (r 20) (2 * (maF r 2)) (-1)).toInt32))) (r_cV hC kX3 (o 0) [.int (plY r 2), .long (r 20), .int (2 * (maF r 2)), .int (-1)] mVX3_moved q416 (fun _ h => ⟨_, h.get 0 rfl⟩) (fun V9 h9 => (metX3_moved1G _ _ hG o t r (plY r 2) (r 20) (2 * (maF r 2)) (dv2_n hm (by decide)) ht hk11) V9 (h9.in.sub [0, 1] rfl rfl)) ⟨rfl, rfl⟩ (Nat.le_of_ble_eq_true rfl) (Nat.le_of_ble_eq_true rfl) rfl (Nat.le_of_ble_eq_true rfl) dX3_drift_65) 0 0 68 rfl rfl rfl ?_
  refine r_iast (J := xSt F V0 [(o 0, .inr (2, [.ref (o 1), .ref (o 2), .ref (o 3), .ref (o 4), .ref (o 5), .ref (o 6), .ref (o 7), .ref (o 8), .ref (o 9), .ref (o 10), .int ((r 0).toInt32)])), (o 1, .inl (0, 6, .inl (seF t r))), (o 2, .inl (0, 3, .inl (maF r))), (o 3, .inl (0, 3, .inl u10)), (o 4, .inl (0, 3, .inl (va_up u8 2 ((mvQ t (plY r 2) (r 20) (2 * (maF r 2)) (-1)).toInt32)))), (o 5, .inl (1, 3, .inr (.inl (moX r)))), (o 6, .inl (1, 3, .inr (.inl (moY r))))]) hC 2 (xix_n 2 (Nat.le_of_ble_eq_true rfl) (Nat.le_of_ble_eq_true rfl)) (fun _ h => h.get 4 rfl) dX3_drift_68 (fun _ h => h.set 4 _ rfl) 69 rfl ?_
  generalize hu12 : va_up u8 2 ((mvQ t (plY r 2) (r 20) (2 * (maF r 2)) (-1)).toInt32) = u12
  refine r_iinc hC 3 3 0 [(3, .int 3), (0, .ref (o 0)), (1, .int (-1)), (2, .int 2)] dX3_drift_69 rfl (by decide) (Nat.le_of_ble_eq_true rfl) rfl 72 rfl ?_
  refine r_goto hC 2 dX3_drift_72 (by decide) ?_
  refine r_iload_n hC 0 dX3_drift_2 rfl 3 rfl ?_
  refine r_iconst hC 3 dX3_drift_3 ic_3 4 rfl ?_
  refine r_icge hC 75 dX3_drift_4 (by decide) 7 rfl (fun _ => ?_) (fun h => absurd h (by decide))
  subst hu12
  subst hu10
  subst hu8
  subst hu6
  subst hu4
  subst hu2
  refine rn_cellI (J := xSt F V0 [(o 0, .inr (2, [.ref (o 1), .ref (o 2), .ref (o 3), .ref (o 4), .ref (o 5), .ref (o 6), .ref (o 7), .ref (o 8), .ref (o 9), .ref (o 10), .int ((r 0).toInt32)])), (o 1, .inl (0, 6, .inl (seF t r))), (o 2, .inl (0, 3, .inl (maF (driftQ t r true true)))), (o 3, .inl (0, 3, .inl (va_up (va_up (va_up (plX r) 0 ((mvQ t (plX r 0) (r 9) (2 * (maF r 0)) (-1)).toInt32)) 1 ((mvQ t (plX r 1) (r 14) (2 * (maF r 1)) (-1)).toInt32)) 2 ((mvQ t (plX r 2) (r 19) (2 * (maF r 2)) (-1)).toInt32)))), (o 4, .inl (0, 3, .inl (va_up (va_up (va_up (plY r) 0 ((mvQ t (plY r 0) (r 10) (2 * (maF r 0)) (-1)).toInt32)) 1 ((mvQ t (plY r 1) (r 15) (2 * (maF r 1)) (-1)).toInt32)) 2 ((mvQ t (plY r 2) (r 20) (2 * (maF r 2)) (-1)).toInt32)))), (o 5, .inl (1, 3, .inr (.inl (moX r)))), (o 6, .inl (1, 3, .inr (.inl (moY r))))]) (fun _ h => h.get 2 rfl) (fun j9 hj9 => by
      rcases (show j9 = 0 ∨ j9 = 1 ∨ j9 = 2 by omega) with rfl | rfl | rfl
      · exact congrArg Int64.toInt32 (drq_6).symm
      · exact congrArg Int64.toInt32 (drq_11).symm
      · exact congrArg Int64.toInt32 (drq_16).symm) (fun _ h => h.set 2 _ rfl) ?_
  refine rn_cellI (J := xSt F V0 [(o 0, .inr (2, [.ref (o 1), .ref (o 2), .ref (o 3), .ref (o 4), .ref (o 5), .ref (o 6), .ref (o 7), .ref (o 8), .ref (o 9), .ref (o 10), .int ((r 0).toInt32)])), (o 1, .inl (0, 6, .inl (seF t r))), (o 2, .inl (0, 3, .inl (maF (driftQ t r true true)))), (o 3, .inl (0, 3, .inl (plX (driftQ t r true true)))), (o 4, .inl (0, 3, .inl (va_up (va_up (va_up (plY r) 0 ((mvQ t (plY r 0) (r 10) (2 * (maF r 0)) (-1)).toInt32)) 1 ((mvQ t (plY r 1) (r 15) (2 * (maF r 1)) (-1)).toInt32)) 2 ((mvQ t (plY r 2) (r 20) (2 * (maF r 2)) (-1)).toInt32)))), (o 5, .inl (1, 3, .inr (.inl (moX r)))), (o 6, .inl (1, 3, .inr (.inl (moY r))))]) (fun _ h => h.get 3 rfl) (fun j9 hj9 => by
      rcases (show j9 = 0 ∨ j9 = 1 ∨ j9 = 2 by omega) with rfl | rfl | rfl
      · exact ((up_ne (by decide)).trans ((up_ne (by decide)).trans (up_same _ _ _))).trans (congrArg Int64.toInt32 ((mvX11 (t := t) (j := 0) hpl hm (by decide)).trans (drq_7).symm))
      · exact ((up_ne (by decide)).trans (up_same _ _ _)).trans (congrArg Int64.toInt32 ((mvX11 (t := t) (j := 1) hpl hm (by decide)).trans (drq_12).symm))
      · exact (up_same _ _ _).trans (congrArg Int64.toInt32 ((mvX11 (t := t) (j := 2) hpl hm (by decide)).trans (drq_17).symm))) (fun _ h => h.set 3 _ rfl) ?_
  refine rn_cellI (J := xSt F V0 [(o 0, .inr (2, [.ref (o 1), .ref (o 2), .ref (o 3), .ref (o 4), .ref (o 5), .ref (o 6), .ref (o 7), .ref (o 8), .ref (o 9), .ref (o 10), .int ((r 0).toInt32)])), (o 1, .inl (0, 6, .inl (seF t r))), (o 2, .inl (0, 3, .inl (maF (driftQ t r true true)))), (o 3, .inl (0, 3, .inl (plX (driftQ t r true true)))), (o 4, .inl (0, 3, .inl (plY (driftQ t r true true)))), (o 5, .inl (1, 3, .inr (.inl (moX r)))), (o 6, .inl (1, 3, .inr (.inl (moY r))))]) (fun _ h => h.get 4 rfl) (fun j9 hj9 => by
      rcases (show j9 = 0 ∨ j9 = 1 ∨ j9 = 2 by omega) with rfl | rfl | rfl
      · exact ((up_ne (by decide)).trans ((up_ne (by decide)).trans (up_same _ _ _))).trans (congrArg Int64.toInt32 ((mvY11 (t := t) (j := 0) hpl hm (by decide)).trans (drq_8).symm))
      · exact ((up_ne (by decide)).trans (up_same _ _ _)).trans (congrArg Int64.toInt32 ((mvY11 (t := t) (j := 1) hpl hm (by decide)).trans (drq_13).symm))
      · exact (up_same _ _ _).trans (congrArg Int64.toInt32 ((mvY11 (t := t) (j := 2) hpl hm (by decide)).trans (drq_18).symm))) (fun _ h => h.set 4 _ rfl) ?_
  refine rn_cellJ (J := xSt F V0 [(o 0, .inr (2, [.ref (o 1), .ref (o 2), .ref (o 3), .ref (o 4), .ref (o 5), .ref (o 6), .ref (o 7), .ref (o 8), .ref (o 9), .ref (o 10), .int ((r 0).toInt32)])), (o 1, .inl (0, 6, .inl (seF t r))), (o 2, .inl (0, 3, .inl (maF (driftQ t r true true)))), (o 3, .inl (0, 3, .inl (plX (driftQ t r true true)))), (o 4, .inl (0, 3, .inl (plY (driftQ t r true true)))), (o 5, .inl (1, 3, .inr (.inl (moX (driftQ t r true true))))), (o 6, .inl (1, 3, .inr (.inl (moY r))))]) (fun _ h => h.get 5 rfl) (fun j9 hj9 => by
      rcases (show j9 = 0 ∨ j9 = 1 ∨ j9 = 2 by omega) with rfl | rfl | rfl
      · exact (drq_9).symm
      · exact (drq_14).symm
      · exact (drq_19).symm) (fun _ h => h.set 5 _ rfl) ?_
  refine rn_cellJ (J := xSt F V0 [(o 0, .inr (2, [.ref (o 1), .ref (o 2), .ref (o 3), .ref (o 4), .ref (o 5), .ref (o 6), .ref (o 7), .ref (o 8), .ref (o 9), .ref (o 10), .int ((r 0).toInt32)])), (o 1, .inl (0, 6, .inl (seF t r))), (o 2, .inl (0, 3, .inl (maF (driftQ t r true true)))), (o 3, .inl (0, 3, .inl (plX (driftQ t r true true)))), (o 4, .inl (0, 3, .inl (plY (driftQ t r true true)))), (o 5, .inl (1, 3, .inr (.inl (moX (driftQ t r true true))))), (o 6, .inl (1, 3, .inr (.inl (moY (driftQ t r true true)))))]) (fun _ h => h.get 6 rfl) (fun j9 hj9 => by
      rcases (show j9 = 0 ∨ j9 = 1 ∨ j9 = 2 by omega) with rfl | rfl | rfl
      · exact (drq_10).symm
      · exact (drq_15).symm
      · exact (drq_20).symm) (fun _ h => h.set 6 _ rfl) ?_
  exact r_vret hC (Nat.le_of_ble_eq_true rfl) (Nat.le_of_ble_eq_true rfl) (fun V9 h => hQ _ _ ⟨[(o 0, .inr (2, [.ref (o 1), .ref (o 2), .ref (o 3), .ref (o 4), .ref (o 5), .ref (o 6), .ref (o 7), .ref (o 8), .ref (o 9), .ref (o 10), .int (((driftQ t r true true) 0).toInt32)])), (o 1, .inl (0, 6, .inl (seF t (driftQ t r true true)))), (o 2, .inl (0, 3, .inl (maF (driftQ t r true true)))), (o 3, .inl (0, 3, .inl (plX (driftQ t r true true)))), (o 4, .inl (0, 3, .inl (plY (driftQ t r true true)))), (o 5, .inl (1, 3, .inr (.inl (moX (driftQ t r true true))))), (o 6, .inl (1, 3, .inr (.inl (moY (driftQ t r true true)))))], ⟨rfl, in_t2 (moR_drift hmo) (by rw [← ((mvX11 (t := t) (j := 0) hpl hm (by decide)).trans (drq_7).symm)]; exact hk1) (by rw [← ((mvY11 (t := t) (j := 0) hpl hm (by decide)).trans (drq_8).symm)]; exact hk3) (by rw [← ((mvX11 (t := t) (j := 1) hpl hm (by decide)).trans (drq_12).symm)]; exact hk5) (by rw [← ((mvY11 (t := t) (j := 1) hpl hm (by decide)).trans (drq_13).symm)]; exact hk7) (by rw [← ((mvX11 (t := t) (j := 2) hpl hm (by decide)).trans (drq_17).symm)]; exact hk9) (by rw [← ((mvY11 (t := t) (j := 2) hpl hm (by decide)).trans (drq_18).symm)]; exact hk11), rfl⟩, by rw [← hV0, ← hF]; exact h⟩) dX3_drift_75
