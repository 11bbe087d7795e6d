/-! ===== the class: approaches, cells, visits ===== -/
set_option maxRecDepth 100000
set_option maxHeartbeats 4000000 in
set_option maxRecDepth 100000 in
theorem metX14_init (l : Launch) (G : xG) (hG : xGood G) (x : Nat) (c p d : Int32) : xWm l G yX14_init (Cond.code yX14_init cX14_init 4 none) { frames := 1, locals := 20, cells := 0, slots := 0 } [.ref x, .int c, .int p, .int d] [(x, .inr (12, [.int 0, .int 0, .int 0]))] (fun v w' => v = none ∧ w' = [(x, .inr (12, [.int c, .int p, .int d]))]) (fun _ _ => False) := by
  intro V hV
  refine xMet_ofT RX14 hG rfl (by decide) (Nat.le_of_ble_eq_true rfl) fun C hC hQ hX hl hg hini hTab => ?_
  subst hl hg
  replace hini := hini rfl
  obtain ⟨V0, hV0⟩ : ∃ V0, V0 = V := ⟨_, rfl⟩
  obtain ⟨F, hF⟩ : ∃ F, F = xF [(x, .inr (12, [.int 0, .int 0, .int 0]))] := ⟨_, rfl⟩
  refine rn.mono (J := xSt F V0 [(x, .inr (12, [.int 0, .int 0, .int 0]))]) (fun V9 h => by rw [h, hV0, hF]; exact hV.st) ?_
  show rn C (xSt F V0 [(x, .inr (12, [.int 0, .int 0, .int 0]))]) 0 0 0 [(0, .ref x), (1, .int c), (2, .int p), (3, .int d)] []
  refine r_aload_n hC 0 dX14_init_0 rfl 1 rfl ?_
  refine r_objInit hC q1580 (Nat.le_of_ble_eq_true rfl) (Nat.le_of_ble_eq_true rfl) (Nat.le_of_ble_eq_true rfl) dX14_init_1 4 rfl ?_
  refine r_aload_n hC 0 dX14_init_4 rfl 5 rfl ?_
  refine r_iload_n hC 1 dX14_init_5 rfl 6 rfl ?_
  refine r_putF (J := xSt F V0 [(x, .inr (12, [.int c, .int 0, .int 0]))]) hC hini kX14 0 rfl q1581 rfl rfl (fun _ h => h.get 0 rfl) (Nat.le_of_ble_eq_true rfl) (rfl) (rfl) dX14_init_6 (fun _ h => h.set 0 _ rfl) 9 rfl ?_
  refine r_aload_n hC 0 dX14_init_9 rfl 10 rfl ?_
  refine r_iload_n hC 2 dX14_init_10 rfl 11 rfl ?_
  refine r_putF (J := xSt F V0 [(x, .inr (12, [.int c, .int p, .int 0]))]) hC hini kX14 1 rfl q1583 rfl rfl (fun _ h => h.get 0 rfl) (Nat.le_of_ble_eq_true rfl) (rfl) (rfl) dX14_init_11 (fun _ h => h.set 0 _ rfl) 14 rfl ?_
  refine r_aload_n hC 0 dX14_init_14 rfl 15 rfl ?_
  refine r_iload_n hC 3 dX14_init_15 rfl 16 rfl ?_
  refine r_putF (J := xSt F V0 [(x, .inr (12, [.int c, .int p, .int d]))]) hC hini kX14 2 rfl q1585 rfl rfl (fun _ h => h.get 0 rfl) (Nat.le_of_ble_eq_true rfl) (rfl) (rfl) dX14_init_16 (fun _ h => h.set 0 _ rfl) 19 rfl ?_
  exact r_vret hC (Nat.le_of_ble_eq_true rfl) (Nat.le_of_ble_eq_true rfl) (fun V9 h => hQ _ _ ⟨[(x, .inr (12, [.int c, .int p, .int d]))], ⟨rfl, rfl⟩, by rw [← hV0, ← hF]; exact h⟩) dX14_init_19
set_option maxHeartbeats 4000000 in
set_option maxRecDepth 100000 in
theorem metX16_init (l : Launch) (G : xG) (hG : xGood G) (x : Nat) (c d : Int32) : xWm l G yX16_init (Cond.code yX16_init cX16_init 3 none) { frames := 1, locals := 20, cells := 0, slots := 0 } [.ref x, .int c, .int d] [(x, .inr (14, [.int 0, .int 0]))] (fun v w' => v = none ∧ w' = [(x, .inr (14, [.int c, .int d]))]) (fun _ _ => False) := by
  intro V hV
  refine xMet_ofT RX16 hG rfl (by decide) (Nat.le_of_ble_eq_true rfl) fun C hC hQ hX hl hg hini hTab => ?_
  subst hl hg
  replace hini := hini rfl
  obtain ⟨V0, hV0⟩ : ∃ V0, V0 = V := ⟨_, rfl⟩
  obtain ⟨F, hF⟩ : ∃ F, F = xF [(x, .inr (14, [.int 0, .int 0]))] := ⟨_, rfl⟩
  refine rn.mono (J := xSt F V0 [(x, .inr (14, [.int 0, .int 0]))]) (fun V9 h => by rw [h, hV0, hF]; exact hV.st) ?_
  show rn C (xSt F V0 [(x, .inr (14, [.int 0, .int 0]))]) 0 0 0 [(0, .ref x), (1, .int c), (2, .int d)] []
  refine r_aload_n hC 0 dX16_init_0 rfl 1 rfl ?_
  refine r_objInit hC q1813 (Nat.le_of_ble_eq_true rfl) (Nat.le_of_ble_eq_true rfl) (Nat.le_of_ble_eq_true rfl) dX16_init_1 4 rfl ?_
  refine r_aload_n hC 0 dX16_init_4 rfl 5 rfl ?_
  refine r_iload_n hC 1 dX16_init_5 rfl 6 rfl ?_
  refine r_putF (J := xSt F V0 [(x, .inr (14, [.int c, .int 0]))]) hC hini kX16 0 rfl q1814 rfl rfl (fun _ h => h.get 0 rfl) (Nat.le_of_ble_eq_true rfl) (rfl) (rfl) dX16_init_6 (fun _ h => h.set 0 _ rfl) 9 rfl ?_
  refine r_aload_n hC 0 dX16_init_9 rfl 10 rfl ?_
  refine r_iload_n hC 2 dX16_init_10 rfl 11 rfl ?_
  refine r_putF (J := xSt F V0 [(x, .inr (14, [.int c, .int d]))]) hC hini kX16 1 rfl q1816 rfl rfl (fun _ h => h.get 0 rfl) (Nat.le_of_ble_eq_true rfl) (rfl) (rfl) dX16_init_11 (fun _ h => h.set 0 _ rfl) 14 rfl ?_
  exact r_vret hC (Nat.le_of_ble_eq_true rfl) (Nat.le_of_ble_eq_true rfl) (fun V9 h => hQ _ _ ⟨[(x, .inr (14, [.int c, .int d]))], ⟨rfl, rfl⟩, by rw [← hV0, ← hF]; exact h⟩) dX16_init_14
set_option maxHeartbeats 4000000 in
set_option maxRecDepth 100000 in
theorem metX17_init (l : Launch) (G : xG) (hG : xGood G) (x : Nat) : xWm l G yX17_init (Cond.code yX17_init cX17_init 1 none) { frames := 1, locals := 20, cells := 0, slots := 0 } [.ref x] [(x, .inr (15, [.int 0]))] (fun v w' => v = none ∧ w' = [(x, .inr (15, [.int 0]))]) (fun _ _ => False) := by
  intro V hV
  refine xMet_ofT RX17 hG rfl (by decide) (Nat.le_of_ble_eq_true rfl) fun C hC hQ hX hl hg hini hTab => ?_
  subst hl hg
  replace hini := hini rfl
  obtain ⟨V0, hV0⟩ : ∃ V0, V0 = V := ⟨_, rfl⟩
  obtain ⟨F, hF⟩ : ∃ F, F = xF [(x, .inr (15, [.int 0]))] := ⟨_, rfl⟩
  refine rn.mono (J := xSt F V0 [(x, .inr (15, [.int 0]))]) (fun V9 h => by rw [h, hV0, hF]; exact hV.st) ?_
  show rn C (xSt F V0 [(x, .inr (15, [.int 0]))]) 0 0 0 [(0, .ref x)] []
  refine r_aload_n hC 0 dX17_init_0 rfl 1 rfl ?_
  refine r_objInit hC q2173 (Nat.le_of_ble_eq_true rfl) (Nat.le_of_ble_eq_true rfl) (Nat.le_of_ble_eq_true rfl) dX17_init_1 4 rfl ?_
  exact r_vret hC (Nat.le_of_ble_eq_true rfl) (Nat.le_of_ble_eq_true rfl) (fun V9 h => hQ _ _ ⟨[(x, .inr (15, [.int 0]))], ⟨rfl, rfl⟩, by rw [← hV0, ← hF]; exact h⟩) dX17_init_4
set_option maxHeartbeats 4000000 in
set_option maxRecDepth 100000 in
theorem metX16_hashCode (l : Launch) (G : xG) (hG : xGood G) (x : Nat) (c d : Int32) : xRm l G yX16_hashCode (Cond.code yX16_hashCode cX16_hashCode 1 (some .int)) { frames := 0, locals := 0, cells := 0, slots := 0 } [.ref x] [(x, .inr (14, [.int c, .int d]))] (some (.int (1000 * c + d))) := by
  intro V hV
  refine xMet_ofT RX16 hG rfl (by decide) (Nat.le_of_ble_eq_true rfl) fun C hC hQ hX hl hg _ hTab => ?_
  subst hl hg
  refine rn.mono (J := xRo [(x, .inr (14, [.int c, .int d]))] V) (fun V9 h => ⟨h, hV⟩) ?_
  show rn C (xRo [(x, .inr (14, [.int c, .int d]))] V) 0 0 0 [(0, .ref x)] []
  refine r_sipush hC 1000 dX16_hashCode_0 sp_1000 3 rfl ?_
  refine r_aload_n hC 0 dX16_hashCode_3 rfl 4 rfl ?_
  refine r_get (v := .int c) hC kX16 0 rfl q1814 (fun _ h => h.get 0 rfl) rfl dX16_hashCode_4 7 rfl ?_
  refine r_imul hC (1000 * c) dX16_hashCode_7  (rfl) 8 rfl ?_
  refine r_aload_n hC 0 dX16_hashCode_8 rfl 9 rfl ?_
  refine r_get (v := .int d) hC kX16 1 rfl q1816 (fun _ h => h.get 0 rfl) rfl dX16_hashCode_9 12 rfl ?_
  refine r_iadd hC ((1000 * c) + d) dX16_hashCode_12  (rfl) 13 rfl ?_
  exact r_iret hC (Nat.le_of_ble_eq_true rfl) (Nat.le_of_ble_eq_true rfl) (fun V9 h => hQ _ _ ⟨rfl, h.1⟩) dX16_hashCode_13
