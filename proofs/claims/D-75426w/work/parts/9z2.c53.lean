/-! ===== the JDK: indexOf in a constant ===== -/
set_option maxRecDepth 100000
theorem ixF_n {B : Nat → Int32} {c : Int32} {d i : Nat} (h : ¬ B i = c) : ixF B c (d + 1) i = ixF B c d (i + 1) := by rw [ixF, if_neg h]
theorem ixF_y {B : Nat → Int32} {c : Int32} {d i : Nat} (h : B i = c) : ixF B c (d + 1) i = nI i := by rw [ixF, if_pos h]
set_option maxHeartbeats 4000000 in
set_option maxRecDepth 100000 in
theorem lpJ13_indexOfChar {C : xC} {V : xV} (hC : xCtx C RJ13 cJ13_indexOfChar 6 (some .int) { frames := 0, locals := 0, cells := 0, slots := 0 }) {k k9 : Nat} (c : Int32) (ka kv m : Nat) (B : Nat → Int32) (hst : xStr (xGG C) ka kv m B) (hm : m < 65536) : ∀ (d i : Nat), i + d = m → rn C (xRo [] V) k k9 24 [] [.int (ixF B c d i)] → rn C (xRo [] V) k k9 32 [] [.int (ixF B c d i)] → rn C (xRo [] V) k k9 7 [(5, .int (nI i)), (4, .int c), (3, .int (nI m)), (0, .ref kv)] [] := by
  intro d
  induction d with
  | zero =>
    intro i hi kx1 kx2
    obtain rfl : i = m := by omega
    refine r_iload hC 0 dJ13_indexOfChar_7 rfl 9 rfl ?_
    refine r_iload_n hC 2 dJ13_indexOfChar_9 rfl 10 rfl ?_
    refine r_icge hC 31 dJ13_indexOfChar_10 (by decide) 13 rfl (fun _ => ?_) (fun h => absurd (Int32.le_refl _) h)
    refine r_iconst hC (-1) dJ13_indexOfChar_31 ic_m1 32 rfl ?_
    refine rn.sub (lv' := []) [] rfl ?_
    rw [ixF] at kx2
    exact kx2
  | succ d ih =>
    intro i hi kx1 kx2
    refine r_iload hC 0 dJ13_indexOfChar_7 rfl 9 rfl ?_
    refine r_iload_n hC 2 dJ13_indexOfChar_9 rfl 10 rfl ?_
    refine r_icge hC 31 dJ13_indexOfChar_10 (by decide) 13 rfl (fun h => absurd h (nI_ge (by omega) (by omega))) (fun _ => ?_)
    refine r_aload_n hC 3 dJ13_indexOfChar_13 rfl 14 rfl ?_
    refine r_iload hC 0 dJ13_indexOfChar_14 rfl 16 rfl ?_
    refine r_baldT hC hst.2.2.2.1 i (xix_n i (by omega) (by omega)) (B i) rfl dJ13_indexOfChar_16 17 rfl ?_
    refine r_iload hC 1 dJ13_indexOfChar_17 rfl 19 rfl ?_
    refine r_icne hC 25 dJ13_indexOfChar_19 (by decide) 22 rfl (fun c1 => ?_) (fun c1 => ?_)
    · skip
      refine r_iinc hC (nI (i + 1)) 5 0 [(5, .int (nI (i + 1))), (4, .int c), (3, .int (nI m)), (0, .ref kv)] dJ13_indexOfChar_25 rfl (nI_add i 1) (Nat.le_of_ble_eq_true rfl) rfl 28 rfl ?_
      refine r_goto hC 7 dJ13_indexOfChar_28 (by decide) ?_
      refine rn.sub (lv' := [(5, .int (nI (i + 1))), (4, .int c), (3, .int (nI m)), (0, .ref kv)]) [0, 1, 2, 3] rfl ?_
      rw [ixF_n c1] at kx1 kx2
      exact ih (i + 1) (by omega) kx1 kx2
    · skip
      refine r_iload hC 0 dJ13_indexOfChar_22 rfl 24 rfl ?_
      refine rn.sub (lv' := []) [] rfl ?_
      rw [ixF_y c1] at kx1
      exact kx1
set_option maxHeartbeats 4000000 in
set_option maxRecDepth 100000 in
theorem metJ13_indexOfChar (l : Launch) (G : xG) (hG : xGood G) (c : Int32) (hb : c.toInt8.toInt32 = c) (ka kv m : Nat) (B : Nat → Int32) (hst : xStr G ka kv m B) : xRm l G yJ13_indexOfChar (Cond.code yJ13_indexOfChar cJ13_indexOfChar 6 (some .int)) { frames := 0, locals := 0, cells := 0, slots := 0 } [.ref kv, .int c, .int 0, .int (nI m)] [] (some (.int (ixF B c m 0))) := by
  intro V hV
  refine xMet_ofT RJ13 hG rfl (by decide) (Nat.le_of_ble_eq_true rfl) fun C hC hQ hX hl hg _ hTab => ?_
  subst hl hg
  refine rn.mono (J := xRo [] V) (fun V9 h => ⟨h, hV⟩) ?_
  show rn C (xRo [] V) 0 0 0 [(0, .ref kv), (1, .int c), (2, .int 0), (3, .int (nI m))] []
  refine r_iload_n hC 1 dJ13_indexOfChar_0 rfl 1 rfl ?_
  refine r_i2b hC c dJ13_indexOfChar_1 (hb) 2 rfl ?_
  refine r_istore hC 4 [(4, .int c), (0, .ref kv), (1, .int c), (2, .int 0), (3, .int (nI m))] dJ13_indexOfChar_2 (Nat.le_of_ble_eq_true rfl) rfl 4 rfl ?_
  refine r_iload_n hC 3 dJ13_indexOfChar_4 rfl 5 rfl ?_
  refine r_istore hC 5 [(5, .int 0), (4, .int c), (0, .ref kv), (1, .int c), (2, .int 0), (3, .int (nI m))] dJ13_indexOfChar_5 (Nat.le_of_ble_eq_true rfl) rfl 7 rfl ?_
  refine rn.sub (lv' := [(5, .int 0), (4, .int c), (3, .int (nI m)), (0, .ref kv)]) [0, 1, 5, 2] rfl ?_
  refine lpJ13_indexOfChar (k := 0) (k9 := 0) hC c ka kv m B hst hst.2.2.2.2 m 0 (by omega) ?_ ?_
  · skip
    exact r_iret hC (Nat.le_of_ble_eq_true rfl) (Nat.le_of_ble_eq_true rfl) (fun V9 h => hQ _ _ ⟨rfl, h.1⟩) dJ13_indexOfChar_24
  · skip
    exact r_iret hC (Nat.le_of_ble_eq_true rfl) (Nat.le_of_ble_eq_true rfl) (fun V9 h => hQ _ _ ⟨rfl, h.1⟩) dJ13_indexOfChar_32
set_option maxHeartbeats 4000000 in
set_option maxRecDepth 100000 in
theorem metJ13_indexOfY (l : Launch) (G : xG) (hG : xGood G) (c : Int32) (hb : c.toInt8.toInt32 = c) (h0 : 0 ≤ c) (hc : c ≤ 255) (ka kv m : Nat) (B : Nat → Int32) (hst : xStr G ka kv m B) (hm0 : 0 < m) : xRm l G yJ13_indexOf (Cond.code yJ13_indexOf cJ13_indexOf 4 (some .int)) { frames := 1, locals := 25, cells := 0, slots := 0 } [.ref kv, .int c, .int 0, .int (nI m)] [] (some (.int (ixF B c m 0))) := by
  intro V hV
  refine xMet_ofT RJ13 hG rfl (by decide) (Nat.le_of_ble_eq_true rfl) fun C hC hQ hX hl hg _ hTab => ?_
  subst hl hg
  refine rn.mono (J := xRo [] V) (fun V9 h => ⟨h, hV⟩) ?_
  show rn C (xRo [] V) 0 0 0 [(0, .ref kv), (1, .int c), (2, .int 0), (3, .int (nI m))] []
  refine r_iload_n hC 1 dJ13_indexOf_0 rfl 1 rfl ?_
  refine xCall.r (r := some (.int 1)) (r_cS hC [.int c] mSJ13_canEncode_2 q1229 (fun V9 h9 => (metJ13_canEncodeI1 _ _ hG c h0 hc) V9 xIn.nil) ⟨rfl, rfl⟩ (Nat.le_of_ble_eq_true rfl) (Nat.le_of_ble_eq_true rfl) rfl (Nat.le_of_ble_eq_true rfl) dJ13_indexOf_1) 0 0 4 rfl rfl rfl ?_
  refine r_ifne hC 9 dJ13_indexOf_4 (by decide) 7 rfl (fun _ => ?_) (fun h => absurd h (by decide))
  refine r_iload_n hC 2 dJ13_indexOf_9 rfl 10 rfl ?_
  refine r_iconst hC 0 dJ13_indexOf_10 ic_0 11 rfl ?_
  refine xCall.r (r := some (.int (x_max 0 0))) (r_cS hC [.int 0, .int 0] mSJ4_max q1232 (fun V9 h9 => (metJ4_max _ _ hG 0 0) V9 xIn.nil) ⟨rfl, rfl⟩ (Nat.le_of_ble_eq_true rfl) (Nat.le_of_ble_eq_true rfl) rfl (Nat.le_of_ble_eq_true rfl) dJ13_indexOf_11) 0 0 14 rfl rfl rfl ?_
  refine r_eqi (y := 0) (by decide) ?_
  refine r_istore_n hC 2 [(2, .int 0), (0, .ref kv), (1, .int c), (3, .int (nI m))] dJ13_indexOf_14 rfl (Nat.le_of_ble_eq_true rfl) rfl 15 rfl ?_
  refine r_iload_n hC 3 dJ13_indexOf_15 rfl 16 rfl ?_
  refine r_aload_n hC 1 dJ13_indexOf_16 rfl 17 rfl ?_
  refine r_alenT hC hst.2.2.2.1 dJ13_indexOf_17 18 rfl ?_
  refine xCall.r (r := some (.int (x_min (nI m) (nI m)))) (r_cS hC [.int (nI m), .int (nI m)] mSJ4_min q1233 (fun V9 h9 => (metJ4_min _ _ hG (nI m) (nI m)) V9 xIn.nil) ⟨rfl, rfl⟩ (Nat.le_of_ble_eq_true rfl) (Nat.le_of_ble_eq_true rfl) rfl (Nat.le_of_ble_eq_true rfl) dJ13_indexOf_18) 0 0 21 rfl rfl rfl ?_
  refine r_eqi (y := nI m) (by rw [x_minN (by have := hst.2.2.2.2; omega) (by have := hst.2.2.2.2; omega), Nat.min_self]) ?_
  refine r_istore_n hC 3 [(3, .int (nI m)), (2, .int 0), (0, .ref kv), (1, .int c)] dJ13_indexOf_21 rfl (Nat.le_of_ble_eq_true rfl) rfl 22 rfl ?_
  refine r_iload_n hC 1 dJ13_indexOf_22 rfl 23 rfl ?_
  refine r_iload_n hC 0 dJ13_indexOf_23 rfl 24 rfl ?_
  refine r_iclt hC 29 dJ13_indexOf_24 (by decide) 27 rfl (fun _ => ?_) (fun h => absurd (by have := (lt_nI (a := 0) (b := m) (by omega) (by have := hst.2.2.2.2; omega)).mpr hm0; exact this) h)
  refine r_aload_n hC 2 dJ13_indexOf_29 rfl 30 rfl ?_
  refine r_iload_n hC 3 dJ13_indexOf_30 rfl 31 rfl ?_
  refine r_iload_n hC 1 dJ13_indexOf_31 rfl 32 rfl ?_
  refine r_iload_n hC 0 dJ13_indexOf_32 rfl 33 rfl ?_
  refine xCall.r (r := some (.int (ixF B c m 0))) (r_cS hC [.ref kv, .int c, .int 0, .int (nI m)] mSJ13_indexOfChar q1234 (fun V9 h9 => (metJ13_indexOfChar _ _ hG c hb ka kv m B hst) V9 xIn.nil) ⟨rfl, rfl⟩ (Nat.le_of_ble_eq_true rfl) (Nat.le_of_ble_eq_true rfl) rfl (Nat.le_of_ble_eq_true rfl) dJ13_indexOf_33) 0 0 36 rfl rfl rfl ?_
  exact r_iret hC (Nat.le_of_ble_eq_true rfl) (Nat.le_of_ble_eq_true rfl) (fun V9 h => hQ _ _ ⟨rfl, h.1⟩) dJ13_indexOf_36
set_option maxHeartbeats 4000000 in
set_option maxRecDepth 100000 in
theorem metJ13_indexOfN (l : Launch) (G : xG) (hG : xGood G) (c : Int32) (h0 : c < 0) (ka kv m : Nat) (B : Nat → Int32) (hst : xStr G ka kv m B) : xRm l G yJ13_indexOf (Cond.code yJ13_indexOf cJ13_indexOf 4 (some .int)) { frames := 1, locals := 25, cells := 0, slots := 0 } [.ref kv, .int c, .int 0, .int (nI m)] [] (some (.int (-1))) := by
  intro V hV
  refine xMet_ofT RJ13 hG rfl (by decide) (Nat.le_of_ble_eq_true rfl) fun C hC hQ hX hl hg _ hTab => ?_
  subst hl hg
  refine rn.mono (J := xRo [] V) (fun V9 h => ⟨h, hV⟩) ?_
  show rn C (xRo [] V) 0 0 0 [(0, .ref kv), (1, .int c), (2, .int 0), (3, .int (nI m))] []
  refine r_iload_n hC 1 dJ13_indexOf_0 rfl 1 rfl ?_
  refine xCall.r (r := some (.int 0)) (r_cS hC [.int c] mSJ13_canEncode_2 q1229 (fun V9 h9 => (metJ13_canEncodeI0 _ _ hG c h0) V9 xIn.nil) ⟨rfl, rfl⟩ (Nat.le_of_ble_eq_true rfl) (Nat.le_of_ble_eq_true rfl) rfl (Nat.le_of_ble_eq_true rfl) dJ13_indexOf_1) 0 0 4 rfl rfl rfl ?_
  refine r_ifne hC 9 dJ13_indexOf_4 (by decide) 7 rfl (fun h => absurd h (by decide)) (fun _ => ?_)
  refine r_iconst hC (-1) dJ13_indexOf_7 ic_m1 8 rfl ?_
  exact r_iret hC (Nat.le_of_ble_eq_true rfl) (Nat.le_of_ble_eq_true rfl) (fun V9 h => hQ _ _ ⟨rfl, h.1⟩) dJ13_indexOf_8
set_option maxHeartbeats 4000000 in
set_option maxRecDepth 100000 in
theorem metJ7_indexOf_2Y (l : Launch) (G : xG) (hG : xGood G) (c : Int32) (hb : c.toInt8.toInt32 = c) (h0 : 0 ≤ c) (hc : c ≤ 255) (ka kv m : Nat) (B : Nat → Int32) (hst : xStr G ka kv m B) (hm0 : 0 < m) : xRm l G yJ7_indexOf_2 (Cond.code yJ7_indexOf_2 cJ7_indexOf_2 3 (some .int)) { frames := 2, locals := 48, cells := 0, slots := 0 } [.ref ka, .int c, .int 0] [] (some (.int (ixF B c m 0))) := by
  intro V hV
  refine xMet_ofT RJ7 hG rfl (by decide) (Nat.le_of_ble_eq_true rfl) fun C hC hQ hX hl hg _ hTab => ?_
  subst hl hg
  refine rn.mono (J := xRo [] V) (fun V9 h => ⟨h, hV⟩) ?_
  show rn C (xRo [] V) 0 0 0 [(0, .ref ka), (1, .int c), (2, .int 0)] []
  refine r_aload_n hC 0 dJ7_indexOf_2_0 rfl 1 rfl ?_
  refine xCall.r (r := some (.int 1)) (r_cVO hC ka hst.1 [] mVJ7_isLatin1 q1221 (fun V9 h9 => (metJ7_isLatin1 _ _ hG ka kv m B hst) V9 xIn.nil) ⟨rfl, rfl⟩ (Nat.le_of_ble_eq_true rfl) (Nat.le_of_ble_eq_true rfl) rfl (Nat.le_of_ble_eq_true rfl) dJ7_indexOf_2_1) 0 0 4 rfl rfl rfl ?_
  refine r_ifeq hC 23 dJ7_indexOf_2_4 (by decide) 7 rfl (fun h => absurd h (by decide)) (fun _ => ?_)
  refine r_aload_n hC 0 dJ7_indexOf_2_7 rfl 8 rfl ?_
  refine r_getO hC hst.2.2.1 q1190 dJ7_indexOf_2_8 11 rfl ?_
  refine r_iload_n hC 1 dJ7_indexOf_2_11 rfl 12 rfl ?_
  refine r_iload_n hC 2 dJ7_indexOf_2_12 rfl 13 rfl ?_
  refine r_aload_n hC 0 dJ7_indexOf_2_13 rfl 14 rfl ?_
  refine xCall.r (r := some (.int (nI m))) (r_cVO hC ka hst.1 [] mVJ7_length q1225 (fun V9 h9 => (metJ7_length _ _ hG ka kv m B hst) V9 xIn.nil) ⟨rfl, rfl⟩ (Nat.le_of_ble_eq_true rfl) (Nat.le_of_ble_eq_true rfl) rfl (Nat.le_of_ble_eq_true rfl) dJ7_indexOf_2_14) 0 0 17 rfl rfl rfl ?_
  refine xCall.r (r := some (.int (ixF B c m 0))) (r_cS hC [.ref kv, .int c, .int 0, .int (nI m)] mSJ13_indexOf q1226 (fun V9 h9 => (metJ13_indexOfY _ _ hG c hb h0 hc ka kv m B hst hm0) V9 xIn.nil) ⟨rfl, rfl⟩ (Nat.le_of_ble_eq_true rfl) (Nat.le_of_ble_eq_true rfl) rfl (Nat.le_of_ble_eq_true rfl) dJ7_indexOf_2_17) 0 0 20 rfl rfl rfl ?_
  refine r_goto hC 36 dJ7_indexOf_2_20 (by decide) ?_
  exact r_iret hC (Nat.le_of_ble_eq_true rfl) (Nat.le_of_ble_eq_true rfl) (fun V9 h => hQ _ _ ⟨rfl, h.1⟩) dJ7_indexOf_2_36
set_option maxHeartbeats 4000000 in
set_option maxRecDepth 100000 in
theorem metJ7_indexOf_2N (l : Launch) (G : xG) (hG : xGood G) (c : Int32) (h0 : c < 0) (ka kv m : Nat) (B : Nat → Int32) (hst : xStr G ka kv m B) : xRm l G yJ7_indexOf_2 (Cond.code yJ7_indexOf_2 cJ7_indexOf_2 3 (some .int)) { frames := 2, locals := 48, cells := 0, slots := 0 } [.ref ka, .int c, .int 0] [] (some (.int (-1))) := by
  intro V hV
  refine xMet_ofT RJ7 hG rfl (by decide) (Nat.le_of_ble_eq_true rfl) fun C hC hQ hX hl hg _ hTab => ?_
  subst hl hg
  refine rn.mono (J := xRo [] V) (fun V9 h => ⟨h, hV⟩) ?_
  show rn C (xRo [] V) 0 0 0 [(0, .ref ka), (1, .int c), (2, .int 0)] []
  refine r_aload_n hC 0 dJ7_indexOf_2_0 rfl 1 rfl ?_
  refine xCall.r (r := some (.int 1)) (r_cVO hC ka hst.1 [] mVJ7_isLatin1 q1221 (fun V9 h9 => (metJ7_isLatin1 _ _ hG ka kv m B hst) V9 xIn.nil) ⟨rfl, rfl⟩ (Nat.le_of_ble_eq_true rfl) (Nat.le_of_ble_eq_true rfl) rfl (Nat.le_of_ble_eq_true rfl) dJ7_indexOf_2_1) 0 0 4 rfl rfl rfl ?_
  refine r_ifeq hC 23 dJ7_indexOf_2_4 (by decide) 7 rfl (fun h => absurd h (by decide)) (fun _ => ?_)
  refine r_aload_n hC 0 dJ7_indexOf_2_7 rfl 8 rfl ?_
  refine r_getO hC hst.2.2.1 q1190 dJ7_indexOf_2_8 11 rfl ?_
  refine r_iload_n hC 1 dJ7_indexOf_2_11 rfl 12 rfl ?_
  refine r_iload_n hC 2 dJ7_indexOf_2_12 rfl 13 rfl ?_
  refine r_aload_n hC 0 dJ7_indexOf_2_13 rfl 14 rfl ?_
  refine xCall.r (r := some (.int (nI m))) (r_cVO hC ka hst.1 [] mVJ7_length q1225 (fun V9 h9 => (metJ7_length _ _ hG ka kv m B hst) V9 xIn.nil) ⟨rfl, rfl⟩ (Nat.le_of_ble_eq_true rfl) (Nat.le_of_ble_eq_true rfl) rfl (Nat.le_of_ble_eq_true rfl) dJ7_indexOf_2_14) 0 0 17 rfl rfl rfl ?_
  refine xCall.r (r := some (.int (-1))) (r_cS hC [.ref kv, .int c, .int 0, .int (nI m)] mSJ13_indexOf q1226 (fun V9 h9 => (metJ13_indexOfN _ _ hG c h0 ka kv m B hst) V9 xIn.nil) ⟨rfl, rfl⟩ (Nat.le_of_ble_eq_true rfl) (Nat.le_of_ble_eq_true rfl) rfl (Nat.le_of_ble_eq_true rfl) dJ7_indexOf_2_17) 0 0 20 rfl rfl rfl ?_
  refine r_goto hC 36 dJ7_indexOf_2_20 (by decide) ?_
  exact r_iret hC (Nat.le_of_ble_eq_true rfl) (Nat.le_of_ble_eq_true rfl) (fun V9 h => hQ _ _ ⟨rfl, h.1⟩) dJ7_indexOf_2_36
set_option maxHeartbeats 4000000 in
set_option maxRecDepth 100000 in
theorem metJ7_indexOfY (l : Launch) (G : xG) (hG : xGood G) (c : Int32) (hb : c.toInt8.toInt32 = c) (h0 : 0 ≤ c) (hc : c ≤ 255) (ka kv m : Nat) (B : Nat → Int32) (hst : xStr G ka kv m B) (hm0 : 0 < m) : xRm l G yJ7_indexOf (Cond.code yJ7_indexOf cJ7_indexOf 2 (some .int)) { frames := 3, locals := 70, cells := 0, slots := 0 } [.ref ka, .int c] [] (some (.int (ixF B c m 0))) := by
  intro V hV
  refine xMet_ofT RJ7 hG rfl (by decide) (Nat.le_of_ble_eq_true rfl) fun C hC hQ hX hl hg _ hTab => ?_
  subst hl hg
  refine rn.mono (J := xRo [] V) (fun V9 h => ⟨h, hV⟩) ?_
  show rn C (xRo [] V) 0 0 0 [(0, .ref ka), (1, .int c)] []
  refine r_aload_n hC 0 dJ7_indexOf_0 rfl 1 rfl ?_
  refine r_iload_n hC 1 dJ7_indexOf_1 rfl 2 rfl ?_
  refine r_iconst hC 0 dJ7_indexOf_2 ic_0 3 rfl ?_
  refine xCall.r (r := some (.int (ixF B c m 0))) (r_cVO hC ka hst.1 [.int c, .int 0] mVJ7_indexOf_2 q1217 (fun V9 h9 => (metJ7_indexOf_2Y _ _ hG c hb h0 hc ka kv m B hst hm0) V9 xIn.nil) ⟨rfl, rfl⟩ (Nat.le_of_ble_eq_true rfl) (Nat.le_of_ble_eq_true rfl) rfl (Nat.le_of_ble_eq_true rfl) dJ7_indexOf_3) 0 0 6 rfl rfl rfl ?_
  exact r_iret hC (Nat.le_of_ble_eq_true rfl) (Nat.le_of_ble_eq_true rfl) (fun V9 h => hQ _ _ ⟨rfl, h.1⟩) dJ7_indexOf_6
set_option maxHeartbeats 4000000 in
set_option maxRecDepth 100000 in
theorem metJ7_indexOfN (l : Launch) (G : xG) (hG : xGood G) (c : Int32) (h0 : c < 0) (ka kv m : Nat) (B : Nat → Int32) (hst : xStr G ka kv m B) : xRm l G yJ7_indexOf (Cond.code yJ7_indexOf cJ7_indexOf 2 (some .int)) { frames := 3, locals := 70, cells := 0, slots := 0 } [.ref ka, .int c] [] (some (.int (-1))) := by
  intro V hV
  refine xMet_ofT RJ7 hG rfl (by decide) (Nat.le_of_ble_eq_true rfl) fun C hC hQ hX hl hg _ hTab => ?_
  subst hl hg
  refine rn.mono (J := xRo [] V) (fun V9 h => ⟨h, hV⟩) ?_
  show rn C (xRo [] V) 0 0 0 [(0, .ref ka), (1, .int c)] []
  refine r_aload_n hC 0 dJ7_indexOf_0 rfl 1 rfl ?_
  refine r_iload_n hC 1 dJ7_indexOf_1 rfl 2 rfl ?_
  refine r_iconst hC 0 dJ7_indexOf_2 ic_0 3 rfl ?_
  refine xCall.r (r := some (.int (-1))) (r_cVO hC ka hst.1 [.int c, .int 0] mVJ7_indexOf_2 q1217 (fun V9 h9 => (metJ7_indexOf_2N _ _ hG c h0 ka kv m B hst) V9 xIn.nil) ⟨rfl, rfl⟩ (Nat.le_of_ble_eq_true rfl) (Nat.le_of_ble_eq_true rfl) rfl (Nat.le_of_ble_eq_true rfl) dJ7_indexOf_3) 0 0 6 rfl rfl rfl ?_
  exact r_iret hC (Nat.le_of_ble_eq_true rfl) (Nat.le_of_ble_eq_true rfl) (fun V9 h => hQ _ _ ⟨rfl, h.1⟩) dJ7_indexOf_6
