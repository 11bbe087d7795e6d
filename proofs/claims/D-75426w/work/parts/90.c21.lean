/-! ===== the class: Scanner ===== -/
set_option maxRecDepth 100000
/-- the byte at i is there and between lo and hi -/
def btQ (T : Nat → Int32) (en i : Nat) (lo hi : Int32) : Bool := decide (i < en) && decide (lo ≤ T i) && decide (T i ≤ hi)
set_option maxHeartbeats 4000000 in
set_option maxRecDepth 100000 in
theorem metX8_isBetween (l : Launch) (G : xG) (hG : xGood G) (sc tx sy en bg nx : Nat) (kd vl : Int32) (wd : Option Nat) (T : Nat → Int32) (hen : en ≤ 600) (i : Nat) (lo hi : Int32) (hi6 : i < 65536) : xRm l G yX8_isBetween (Cond.code yX8_isBetween cX8_isBetween 4 (some .boolean)) { frames := 0, locals := 0, cells := 0, slots := 0 } [.ref sc, .int (nI i), .int lo, .int hi] [(sc, .inr (7, [.ref tx, .int (nI en), .ref sy, .int kd, .int (nI bg), .int (nI nx), .int vl, va_rf wd])), (tx, .inl (2, 600, .inl T))] (some (.int (bI (btQ T en i lo hi)))) := by
  intro V hV
  refine xMet_ofT RX8 hG rfl (by decide) (Nat.le_of_ble_eq_true rfl) fun C hC hQ hX hl hg _ hTab => ?_
  subst hl hg
  refine rn.mono (J := xRo [(sc, .inr (7, [.ref tx, .int (nI en), .ref sy, .int kd, .int (nI bg), .int (nI nx), .int vl, va_rf wd])), (tx, .inl (2, 600, .inl T))] V) (fun V9 h => ⟨h, hV⟩) ?_
  show rn C (xRo [(sc, .inr (7, [.ref tx, .int (nI en), .ref sy, .int kd, .int (nI bg), .int (nI nx), .int vl, va_rf wd])), (tx, .inl (2, 600, .inl T))] V) 0 0 0 [(0, .ref sc), (1, .int (nI i)), (2, .int lo), (3, .int hi)] []
  refine r_iload_n hC 1 dX8_isBetween_0 rfl 1 rfl ?_
  refine r_aload_n hC 0 dX8_isBetween_1 rfl 2 rfl ?_
  refine r_get (v := .int (nI en)) hC kX8 1 rfl q1264 (fun _ h => h.get 0 rfl) rfl dX8_isBetween_2 5 rfl ?_
  refine r_icge hC 32 dX8_isBetween_5 (by decide) 8 rfl (fun c1 => ?_) (fun c1 => ?_)
  · skip
    refine r_iconst hC 0 dX8_isBetween_32 ic_0 33 rfl ?_
    exact r_zret hC (by decide) (Nat.le_of_ble_eq_true rfl) (Nat.le_of_ble_eq_true rfl) (fun V9 h => hQ _ _ ⟨by rw [btQ, show decide (i < en) = false from decide_eq_false (fun h9 => nI_ge h9 (by omega) c1)]; simp [bI], h.1⟩) dX8_isBetween_33
  · skip
    have hlt : i < en := Nat.not_le.mp fun h9 => c1 (nI_le h9 (by omega))
    refine r_aload_n hC 0 dX8_isBetween_8 rfl 9 rfl ?_
    refine r_get (v := .ref tx) hC kX8 0 rfl q1263 (fun _ h => h.get 0 rfl) rfl dX8_isBetween_9 12 rfl ?_
    refine r_iload_n hC 1 dX8_isBetween_12 rfl 13 rfl ?_
    refine r_bald hC i (xix_n i (by omega) (Nat.le_of_ble_eq_true rfl)) (fun _ h => h.get 1 rfl) (T i) (rfl) dX8_isBetween_13 14 rfl ?_
    refine r_iload_n hC 2 dX8_isBetween_14 rfl 15 rfl ?_
    refine r_iclt hC 32 dX8_isBetween_15 (by decide) 18 rfl (fun c2 => ?_) (fun c2 => ?_)
    · skip
      refine r_iconst hC 0 dX8_isBetween_32 ic_0 33 rfl ?_
      exact r_zret hC (by decide) (Nat.le_of_ble_eq_true rfl) (Nat.le_of_ble_eq_true rfl) (fun V9 h => hQ _ _ ⟨by rw [btQ, show decide (i < en) = true from decide_eq_true (Nat.not_le.mp fun h9 => c1 (nI_le h9 (by omega))), show decide (lo ≤ T i) = false from decide_eq_false (Int32.not_le.mpr c2)]; simp [bI], h.1⟩) dX8_isBetween_33
    · skip
      refine r_aload_n hC 0 dX8_isBetween_18 rfl 19 rfl ?_
      refine r_get (v := .ref tx) hC kX8 0 rfl q1263 (fun _ h => h.get 0 rfl) rfl dX8_isBetween_19 22 rfl ?_
      refine r_iload_n hC 1 dX8_isBetween_22 rfl 23 rfl ?_
      refine r_bald hC i (xix_n i (by omega) (Nat.le_of_ble_eq_true rfl)) (fun _ h => h.get 1 rfl) (T i) (rfl) dX8_isBetween_23 24 rfl ?_
      refine r_iload_n hC 3 dX8_isBetween_24 rfl 25 rfl ?_
      refine r_icgt hC 32 dX8_isBetween_25 (by decide) 28 rfl (fun c3 => ?_) (fun c3 => ?_)
      · skip
        refine r_iconst hC 0 dX8_isBetween_32 ic_0 33 rfl ?_
        exact r_zret hC (by decide) (Nat.le_of_ble_eq_true rfl) (Nat.le_of_ble_eq_true rfl) (fun V9 h => hQ _ _ ⟨by rw [btQ, show decide (i < en) = true from decide_eq_true (Nat.not_le.mp fun h9 => c1 (nI_le h9 (by omega))), show decide (lo ≤ T i) = true from decide_eq_true (Int32.not_lt.mp c2), show decide (T i ≤ hi) = false from decide_eq_false (Int32.not_le.mpr c3)]; rfl, h.1⟩) dX8_isBetween_33
      · skip
        refine r_iconst hC 1 dX8_isBetween_28 ic_1 29 rfl ?_
        refine r_goto hC 33 dX8_isBetween_29 (by decide) ?_
        exact r_zret hC (by decide) (Nat.le_of_ble_eq_true rfl) (Nat.le_of_ble_eq_true rfl) (fun V9 h => hQ _ _ ⟨by rw [btQ, show decide (i < en) = true from decide_eq_true (Nat.not_le.mp fun h9 => c1 (nI_le h9 (by omega))), show decide (lo ≤ T i) = true from decide_eq_true (Int32.not_lt.mp c2), show decide (T i ≤ hi) = true from decide_eq_true (Int32.not_lt.mp c3)]; rfl, h.1⟩) dX8_isBetween_33
