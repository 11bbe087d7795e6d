/-! ===== the class: Cell.equals ===== -/
set_option maxRecDepth 100000
set_option maxHeartbeats 4000000 in
set_option maxRecDepth 100000 in
theorem metX16_equals (l : Launch) (G : xG) (hG : xGood G) (x y : Nat) (c d c2 d2 : Int32) : xRm l G yX16_equals (Cond.code yX16_equals cX16_equals 3 (some .boolean)) { frames := 0, locals := 0, cells := 0, slots := 0 } [.ref x, .ref y] [(x, .inr (14, [.int c, .int d])), (y, .inr (14, [.int c2, .int d2]))] (some (.int (bI (decide (c2 = c) && decide (d2 = d))))) := by
  intro V hV
  refine xMet_ofT RX16 hG rfl (by decide) (Nat.le_of_ble_eq_true rfl) fun C hC hQ hX hl hg _ hTab => ?_
  subst hl hg
  refine rn.mono (J := xRo [(x, .inr (14, [.int c, .int d])), (y, .inr (14, [.int c2, .int d2]))] V) (fun V9 h => ⟨h, hV⟩) ?_
  show rn C (xRo [(x, .inr (14, [.int c, .int d])), (y, .inr (14, [.int c2, .int d2]))] V) 0 0 0 [(0, .ref x), (1, .ref y)] []
  refine r_aload_n hC 1 dX16_equals_0 rfl 1 rfl ?_
  refine r_instS hC kX16 q1938 (fun _ h => ⟨_, h.get 1 rfl⟩) dX16_equals_1 4 rfl ?_
  refine r_ifeq hC 38 dX16_equals_4 (by decide) 7 rfl (fun h => absurd h (by decide)) (fun _ => ?_)
  refine r_aload_n hC 1 dX16_equals_7 rfl 8 rfl ?_
  refine r_castS hC kX16 q1938 (fun _ h => ⟨_, h.get 1 rfl⟩) dX16_equals_8 11 rfl ?_
  refine r_astore_n hC 2 [(2, .ref y), (0, .ref x), (1, .ref y)] dX16_equals_11 rfl (Nat.le_of_ble_eq_true rfl) rfl 12 rfl ?_
  refine r_aload_n hC 0 dX16_equals_12 rfl 13 rfl ?_
  refine r_get (v := .int c2) hC kX16 0 rfl q1814 (fun _ h => h.get 1 rfl) rfl dX16_equals_13 16 rfl ?_
  refine r_aload_n hC 1 dX16_equals_16 rfl 17 rfl ?_
  refine r_get (v := .int c) hC kX16 0 rfl q1814 (fun _ h => h.get 0 rfl) rfl dX16_equals_17 20 rfl ?_
  refine r_icne hC 38 dX16_equals_20 (by decide) 23 rfl (fun c1 => ?_) (fun c1 => ?_)
  · skip
    refine r_iconst hC 0 dX16_equals_38 ic_0 39 rfl ?_
    exact r_zret hC (by decide) (Nat.le_of_ble_eq_true rfl) (Nat.le_of_ble_eq_true rfl) (fun V9 h => hQ _ _ ⟨by simp [bI, c1], h.1⟩) dX16_equals_39
  · skip
    refine r_aload_n hC 0 dX16_equals_23 rfl 24 rfl ?_
    refine r_get (v := .int d2) hC kX16 1 rfl q1816 (fun _ h => h.get 1 rfl) rfl dX16_equals_24 27 rfl ?_
    refine r_aload_n hC 1 dX16_equals_27 rfl 28 rfl ?_
    refine r_get (v := .int d) hC kX16 1 rfl q1816 (fun _ h => h.get 0 rfl) rfl dX16_equals_28 31 rfl ?_
    refine r_icne hC 38 dX16_equals_31 (by decide) 34 rfl (fun c2 => ?_) (fun c2 => ?_)
    · skip
      refine r_iconst hC 0 dX16_equals_38 ic_0 39 rfl ?_
      exact r_zret hC (by decide) (Nat.le_of_ble_eq_true rfl) (Nat.le_of_ble_eq_true rfl) (fun V9 h => hQ _ _ ⟨by simp [bI, c1, c2], h.1⟩) dX16_equals_39
    · skip
      refine r_iconst hC 1 dX16_equals_34 ic_1 35 rfl ?_
      refine r_goto hC 39 dX16_equals_35 (by decide) ?_
      exact r_zret hC (by decide) (Nat.le_of_ble_eq_true rfl) (Nat.le_of_ble_eq_true rfl) (fun V9 h => hQ _ _ ⟨by simp [bI, c1, c2], h.1⟩) dX16_equals_39
