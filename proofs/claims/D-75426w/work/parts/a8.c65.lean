/-! ===== the JDK: maps: nodes are made, linked, replaced ===== -/
set_option maxRecDepth 100000
set_option maxHeartbeats 4000000 in
set_option maxRecDepth 100000 in
theorem metJ24_init_J25N (l : Launch) (G : xG) (hG : xGood G) (q : Nat) (hz : Int32) (k9 v9 : Nat) : xWm l G yJ24_init (Cond.code yJ24_init cJ24_init 5 none) { frames := 1, locals := 20, cells := 0, slots := 0 } [.ref q, .int hz, .ref k9, .ref v9, .null] [(q, .inr (26, [.int 0, .null, .null, .null, .null, .null]))] (fun v w' => v = none ∧ w' = [(q, .inr (26, [.int hz, .ref k9, .ref v9, .null, .null, .null]))]) (fun _ _ => False) := by
  intro V hV
  refine xMet_ofT RJ24 hG rfl (by decide) (Nat.le_of_ble_eq_true rfl) fun C hC hQ hX hl hg hini hTab => ?_
  subst hl hg
  replace hini := hini rfl
  obtain ⟨V0, hV0⟩ : ∃ V0, V0 = V := ⟨_, rfl⟩
  obtain ⟨F, hF⟩ : ∃ F, F = xF [(q, .inr (26, [.int 0, .null, .null, .null, .null, .null]))] := ⟨_, rfl⟩
  refine rn.mono (J := xSt F V0 [(q, .inr (26, [.int 0, .null, .null, .null, .null, .null]))]) (fun V9 h => by rw [h, hV0, hF]; exact hV.st) ?_
  show rn C (xSt F V0 [(q, .inr (26, [.int 0, .null, .null, .null, .null, .null]))]) 0 0 0 [(0, .ref q), (1, .int hz), (2, .ref k9), (3, .ref v9), (4, .null)] []
  refine r_aload_n hC 0 dJ24_init_0 rfl 1 rfl ?_
  refine r_objInit hC q2224 (Nat.le_of_ble_eq_true rfl) (Nat.le_of_ble_eq_true rfl) (Nat.le_of_ble_eq_true rfl) dJ24_init_1 4 rfl ?_
  refine r_aload_n hC 0 dJ24_init_4 rfl 5 rfl ?_
  refine r_iload_n hC 1 dJ24_init_5 rfl 6 rfl ?_
  refine r_putF (J := xSt F V0 [(q, .inr (26, [.int hz, .null, .null, .null, .null, .null]))]) hC hini kJ25 0 rfl q2229 rfl rfl (fun _ h => h.get 0 rfl) (Nat.le_of_ble_eq_true rfl) (rfl) (rfl) dJ24_init_6 (fun _ h => h.set 0 _ rfl) 9 rfl ?_
  refine r_aload_n hC 0 dJ24_init_9 rfl 10 rfl ?_
  refine r_aload_n hC 2 dJ24_init_10 rfl 11 rfl ?_
  refine r_putF (J := xSt F V0 [(q, .inr (26, [.int hz, .ref k9, .null, .null, .null, .null]))]) hC hini kJ25 1 rfl q2235 rfl rfl (fun _ h => h.get 0 rfl) (Nat.le_of_ble_eq_true rfl) (rfl) (rfl) dJ24_init_11 (fun _ h => h.set 0 _ rfl) 14 rfl ?_
  refine r_aload_n hC 0 dJ24_init_14 rfl 15 rfl ?_
  refine r_aload_n hC 3 dJ24_init_15 rfl 16 rfl ?_
  refine r_put (J := xSt F V0 [(q, .inr (26, [.int hz, .ref k9, .ref v9, .null, .null, .null]))]) hC kJ25 2 rfl q2241 rfl (fun _ h => h.get 0 rfl) (Nat.le_of_ble_eq_true rfl) (rfl) (rfl) dJ24_init_16 (fun _ h => h.set 0 _ rfl) 19 rfl ?_
  refine r_aload_n hC 0 dJ24_init_19 rfl 20 rfl ?_
  refine r_aloadN hC 4 dJ24_init_20 rfl 22 rfl ?_
  refine r_put (J := xSt F V0 [(q, .inr (26, [.int hz, .ref k9, .ref v9, .null, .null, .null]))]) hC kJ25 3 rfl q2246 rfl (fun _ h => h.get 0 rfl) (Nat.le_of_ble_eq_true rfl) (rfl) (rfl) dJ24_init_22 (fun _ h => h.set 0 _ rfl) 25 rfl ?_
  exact r_vret hC (Nat.le_of_ble_eq_true rfl) (Nat.le_of_ble_eq_true rfl) (fun V9 h => hQ _ _ ⟨[(q, .inr (26, [.int hz, .ref k9, .ref v9, .null, .null, .null]))], ⟨rfl, rfl⟩, by rw [← hV0, ← hF]; exact h⟩) dJ24_init_25
set_option maxHeartbeats 4000000 in
set_option maxRecDepth 100000 in
theorem metJ24_init_J25S (l : Launch) (G : xG) (hG : xGood G) (q : Nat) (hz : Int32) (k9 v9 : Nat) (n9 : Nat) : xWm l G yJ24_init (Cond.code yJ24_init cJ24_init 5 none) { frames := 1, locals := 20, cells := 0, slots := 0 } [.ref q, .int hz, .ref k9, .ref v9, .ref n9] [(q, .inr (26, [.int 0, .null, .null, .null, .null, .null]))] (fun v w' => v = none ∧ w' = [(q, .inr (26, [.int hz, .ref k9, .ref v9, .ref n9, .null, .null]))]) (fun _ _ => False) := by
  intro V hV
  refine xMet_ofT RJ24 hG rfl (by decide) (Nat.le_of_ble_eq_true rfl) fun C hC hQ hX hl hg hini hTab => ?_
  subst hl hg
  replace hini := hini rfl
  obtain ⟨V0, hV0⟩ : ∃ V0, V0 = V := ⟨_, rfl⟩
  obtain ⟨F, hF⟩ : ∃ F, F = xF [(q, .inr (26, [.int 0, .null, .null, .null, .null, .null]))] := ⟨_, rfl⟩
  refine rn.mono (J := xSt F V0 [(q, .inr (26, [.int 0, .null, .null, .null, .null, .null]))]) (fun V9 h => by rw [h, hV0, hF]; exact hV.st) ?_
  show rn C (xSt F V0 [(q, .inr (26, [.int 0, .null, .null, .null, .null, .null]))]) 0 0 0 [(0, .ref q), (1, .int hz), (2, .ref k9), (3, .ref v9), (4, .ref n9)] []
  refine r_aload_n hC 0 dJ24_init_0 rfl 1 rfl ?_
  refine r_objInit hC q2224 (Nat.le_of_ble_eq_true rfl) (Nat.le_of_ble_eq_true rfl) (Nat.le_of_ble_eq_true rfl) dJ24_init_1 4 rfl ?_
  refine r_aload_n hC 0 dJ24_init_4 rfl 5 rfl ?_
  refine r_iload_n hC 1 dJ24_init_5 rfl 6 rfl ?_
  refine r_putF (J := xSt F V0 [(q, .inr (26, [.int hz, .null, .null, .null, .null, .null]))]) hC hini kJ25 0 rfl q2229 rfl rfl (fun _ h => h.get 0 rfl) (Nat.le_of_ble_eq_true rfl) (rfl) (rfl) dJ24_init_6 (fun _ h => h.set 0 _ rfl) 9 rfl ?_
  refine r_aload_n hC 0 dJ24_init_9 rfl 10 rfl ?_
  refine r_aload_n hC 2 dJ24_init_10 rfl 11 rfl ?_
  refine r_putF (J := xSt F V0 [(q, .inr (26, [.int hz, .ref k9, .null, .null, .null, .null]))]) hC hini kJ25 1 rfl q2235 rfl rfl (fun _ h => h.get 0 rfl) (Nat.le_of_ble_eq_true rfl) (rfl) (rfl) dJ24_init_11 (fun _ h => h.set 0 _ rfl) 14 rfl ?_
  refine r_aload_n hC 0 dJ24_init_14 rfl 15 rfl ?_
  refine r_aload_n hC 3 dJ24_init_15 rfl 16 rfl ?_
  refine r_put (J := xSt F V0 [(q, .inr (26, [.int hz, .ref k9, .ref v9, .null, .null, .null]))]) hC kJ25 2 rfl q2241 rfl (fun _ h => h.get 0 rfl) (Nat.le_of_ble_eq_true rfl) (rfl) (rfl) dJ24_init_16 (fun _ h => h.set 0 _ rfl) 19 rfl ?_
  refine r_aload_n hC 0 dJ24_init_19 rfl 20 rfl ?_
  refine r_aload hC 4 dJ24_init_20 rfl 22 rfl ?_
  refine r_put (J := xSt F V0 [(q, .inr (26, [.int hz, .ref k9, .ref v9, .ref n9, .null, .null]))]) hC kJ25 3 rfl q2246 rfl (fun _ h => h.get 0 rfl) (Nat.le_of_ble_eq_true rfl) (rfl) (rfl) dJ24_init_22 (fun _ h => h.set 0 _ rfl) 25 rfl ?_
  exact r_vret hC (Nat.le_of_ble_eq_true rfl) (Nat.le_of_ble_eq_true rfl) (fun V9 h => hQ _ _ ⟨[(q, .inr (26, [.int hz, .ref k9, .ref v9, .ref n9, .null, .null]))], ⟨rfl, rfl⟩, by rw [← hV0, ← hF]; exact h⟩) dJ24_init_25
set_option maxHeartbeats 4000000 in
set_option maxRecDepth 100000 in
theorem metJ24_init_J26N (l : Launch) (G : xG) (hG : xGood G) (q : Nat) (hz : Int32) (k9 v9 : Nat) : xWm l G yJ24_init (Cond.code yJ24_init cJ24_init 5 none) { frames := 1, locals := 20, cells := 0, slots := 0 } [.ref q, .int hz, .ref k9, .ref v9, .null] [(q, .inr (27, [.int 0, .null, .null, .null, .null, .null, .null, .null, .null, .null, .int 0]))] (fun v w' => v = none ∧ w' = [(q, .inr (27, [.int hz, .ref k9, .ref v9, .null, .null, .null, .null, .null, .null, .null, .int 0]))]) (fun _ _ => False) := by
  intro V hV
  refine xMet_ofT RJ24 hG rfl (by decide) (Nat.le_of_ble_eq_true rfl) fun C hC hQ hX hl hg hini hTab => ?_
  subst hl hg
  replace hini := hini rfl
  obtain ⟨V0, hV0⟩ : ∃ V0, V0 = V := ⟨_, rfl⟩
  obtain ⟨F, hF⟩ : ∃ F, F = xF [(q, .inr (27, [.int 0, .null, .null, .null, .null, .null, .null, .null, .null, .null, .int 0]))] := ⟨_, rfl⟩
  refine rn.mono (J := xSt F V0 [(q, .inr (27, [.int 0, .null, .null, .null, .null, .null, .null, .null, .null, .null, .int 0]))]) (fun V9 h => by rw [h, hV0, hF]; exact hV.st) ?_
  show rn C (xSt F V0 [(q, .inr (27, [.int 0, .null, .null, .null, .null, .null, .null, .null, .null, .null, .int 0]))]) 0 0 0 [(0, .ref q), (1, .int hz), (2, .ref k9), (3, .ref v9), (4, .null)] []
  refine r_aload_n hC 0 dJ24_init_0 rfl 1 rfl ?_
  refine r_objInit hC q2224 (Nat.le_of_ble_eq_true rfl) (Nat.le_of_ble_eq_true rfl) (Nat.le_of_ble_eq_true rfl) dJ24_init_1 4 rfl ?_
  refine r_aload_n hC 0 dJ24_init_4 rfl 5 rfl ?_
  refine r_iload_n hC 1 dJ24_init_5 rfl 6 rfl ?_
  refine r_putF (J := xSt F V0 [(q, .inr (27, [.int hz, .null, .null, .null, .null, .null, .null, .null, .null, .null, .int 0]))]) hC hini kJ26 0 rfl q2229 rfl rfl (fun _ h => h.get 0 rfl) (Nat.le_of_ble_eq_true rfl) (rfl) (rfl) dJ24_init_6 (fun _ h => h.set 0 _ rfl) 9 rfl ?_
  refine r_aload_n hC 0 dJ24_init_9 rfl 10 rfl ?_
  refine r_aload_n hC 2 dJ24_init_10 rfl 11 rfl ?_
  refine r_putF (J := xSt F V0 [(q, .inr (27, [.int hz, .ref k9, .null, .null, .null, .null, .null, .null, .null, .null, .int 0]))]) hC hini kJ26 1 rfl q2235 rfl rfl (fun _ h => h.get 0 rfl) (Nat.le_of_ble_eq_true rfl) (rfl) (rfl) dJ24_init_11 (fun _ h => h.set 0 _ rfl) 14 rfl ?_
  refine r_aload_n hC 0 dJ24_init_14 rfl 15 rfl ?_
  refine r_aload_n hC 3 dJ24_init_15 rfl 16 rfl ?_
  refine r_put (J := xSt F V0 [(q, .inr (27, [.int hz, .ref k9, .ref v9, .null, .null, .null, .null, .null, .null, .null, .int 0]))]) hC kJ26 2 rfl q2241 rfl (fun _ h => h.get 0 rfl) (Nat.le_of_ble_eq_true rfl) (rfl) (rfl) dJ24_init_16 (fun _ h => h.set 0 _ rfl) 19 rfl ?_
  refine r_aload_n hC 0 dJ24_init_19 rfl 20 rfl ?_
  refine r_aloadN hC 4 dJ24_init_20 rfl 22 rfl ?_
  refine r_put (J := xSt F V0 [(q, .inr (27, [.int hz, .ref k9, .ref v9, .null, .null, .null, .null, .null, .null, .null, .int 0]))]) hC kJ26 3 rfl q2246 rfl (fun _ h => h.get 0 rfl) (Nat.le_of_ble_eq_true rfl) (rfl) (rfl) dJ24_init_22 (fun _ h => h.set 0 _ rfl) 25 rfl ?_
  exact r_vret hC (Nat.le_of_ble_eq_true rfl) (Nat.le_of_ble_eq_true rfl) (fun V9 h => hQ _ _ ⟨[(q, .inr (27, [.int hz, .ref k9, .ref v9, .null, .null, .null, .null, .null, .null, .null, .int 0]))], ⟨rfl, rfl⟩, by rw [← hV0, ← hF]; exact h⟩) dJ24_init_25
set_option maxHeartbeats 4000000 in
set_option maxRecDepth 100000 in
theorem metJ24_init_J26S (l : Launch) (G : xG) (hG : xGood G) (q : Nat) (hz : Int32) (k9 v9 : Nat) (n9 : Nat) : xWm l G yJ24_init (Cond.code yJ24_init cJ24_init 5 none) { frames := 1, locals := 20, cells := 0, slots := 0 } [.ref q, .int hz, .ref k9, .ref v9, .ref n9] [(q, .inr (27, [.int 0, .null, .null, .null, .null, .null, .null, .null, .null, .null, .int 0]))] (fun v w' => v = none ∧ w' = [(q, .inr (27, [.int hz, .ref k9, .ref v9, .ref n9, .null, .null, .null, .null, .null, .null, .int 0]))]) (fun _ _ => False) := by
  intro V hV
  refine xMet_ofT RJ24 hG rfl (by decide) (Nat.le_of_ble_eq_true rfl) fun C hC hQ hX hl hg hini hTab => ?_
  subst hl hg
  replace hini := hini rfl
  obtain ⟨V0, hV0⟩ : ∃ V0, V0 = V := ⟨_, rfl⟩
  obtain ⟨F, hF⟩ : ∃ F, F = xF [(q, .inr (27, [.int 0, .null, .null, .null, .null, .null, .null, .null, .null, .null, .int 0]))] := ⟨_, rfl⟩
  refine rn.mono (J := xSt F V0 [(q, .inr (27, [.int 0, .null, .null, .null, .null, .null, .null, .null, .null, .null, .int 0]))]) (fun V9 h => by rw [h, hV0, hF]; exact hV.st) ?_
  show rn C (xSt F V0 [(q, .inr (27, [.int 0, .null, .null, .null, .null, .null, .null, .null, .null, .null, .int 0]))]) 0 0 0 [(0, .ref q), (1, .int hz), (2, .ref k9), (3, .ref v9), (4, .ref n9)] []
  refine r_aload_n hC 0 dJ24_init_0 rfl 1 rfl ?_
  refine r_objInit hC q2224 (Nat.le_of_ble_eq_true rfl) (Nat.le_of_ble_eq_true rfl) (Nat.le_of_ble_eq_true rfl) dJ24_init_1 4 rfl ?_
  refine r_aload_n hC 0 dJ24_init_4 rfl 5 rfl ?_
  refine r_iload_n hC 1 dJ24_init_5 rfl 6 rfl ?_
  refine r_putF (J := xSt F V0 [(q, .inr (27, [.int hz, .null, .null, .null, .null, .null, .null, .null, .null, .null, .int 0]))]) hC hini kJ26 0 rfl q2229 rfl rfl (fun _ h => h.get 0 rfl) (Nat.le_of_ble_eq_true rfl) (rfl) (rfl) dJ24_init_6 (fun _ h => h.set 0 _ rfl) 9 rfl ?_
  refine r_aload_n hC 0 dJ24_init_9 rfl 10 rfl ?_
  refine r_aload_n hC 2 dJ24_init_10 rfl 11 rfl ?_
  refine r_putF (J := xSt F V0 [(q, .inr (27, [.int hz, .ref k9, .null, .null, .null, .null, .null, .null, .null, .null, .int 0]))]) hC hini kJ26 1 rfl q2235 rfl rfl (fun _ h => h.get 0 rfl) (Nat.le_of_ble_eq_true rfl) (rfl) (rfl) dJ24_init_11 (fun _ h => h.set 0 _ rfl) 14 rfl ?_
  refine r_aload_n hC 0 dJ24_init_14 rfl 15 rfl ?_
  refine r_aload_n hC 3 dJ24_init_15 rfl 16 rfl ?_
  refine r_put (J := xSt F V0 [(q, .inr (27, [.int hz, .ref k9, .ref v9, .null, .null, .null, .null, .null, .null, .null, .int 0]))]) hC kJ26 2 rfl q2241 rfl (fun _ h => h.get 0 rfl) (Nat.le_of_ble_eq_true rfl) (rfl) (rfl) dJ24_init_16 (fun _ h => h.set 0 _ rfl) 19 rfl ?_
  refine r_aload_n hC 0 dJ24_init_19 rfl 20 rfl ?_
  refine r_aload hC 4 dJ24_init_20 rfl 22 rfl ?_
  refine r_put (J := xSt F V0 [(q, .inr (27, [.int hz, .ref k9, .ref v9, .ref n9, .null, .null, .null, .null, .null, .null, .int 0]))]) hC kJ26 3 rfl q2246 rfl (fun _ h => h.get 0 rfl) (Nat.le_of_ble_eq_true rfl) (rfl) (rfl) dJ24_init_22 (fun _ h => h.set 0 _ rfl) 25 rfl ?_
  exact r_vret hC (Nat.le_of_ble_eq_true rfl) (Nat.le_of_ble_eq_true rfl) (fun V9 h => hQ _ _ ⟨[(q, .inr (27, [.int hz, .ref k9, .ref v9, .ref n9, .null, .null, .null, .null, .null, .null, .int 0]))], ⟨rfl, rfl⟩, by rw [← hV0, ← hF]; exact h⟩) dJ24_init_25
set_option maxHeartbeats 4000000 in
set_option maxRecDepth 100000 in
theorem metJ25_init_J25N (l : Launch) (G : xG) (hG : xGood G) (q : Nat) (hz : Int32) (k9 v9 : Nat) : xWm l G yJ25_init (Cond.code yJ25_init cJ25_init 5 none) { frames := 2, locals := 44, cells := 0, slots := 0 } [.ref q, .int hz, .ref k9, .ref v9, .null] [(q, .inr (26, [.int 0, .null, .null, .null, .null, .null]))] (fun v w' => v = none ∧ w' = [(q, .inr (26, [.int hz, .ref k9, .ref v9, .null, .null, .null]))]) (fun _ _ => False) := by
  intro V hV
  refine xMet_ofT RJ25 hG rfl (by decide) (Nat.le_of_ble_eq_true rfl) fun C hC hQ hX hl hg hini hTab => ?_
  subst hl hg
  replace hini := hini rfl
  obtain ⟨V0, hV0⟩ : ∃ V0, V0 = V := ⟨_, rfl⟩
  obtain ⟨F, hF⟩ : ∃ F, F = xF [(q, .inr (26, [.int 0, .null, .null, .null, .null, .null]))] := ⟨_, rfl⟩
  refine rn.mono (J := xSt F V0 [(q, .inr (26, [.int 0, .null, .null, .null, .null, .null]))]) (fun V9 h => by rw [h, hV0, hF]; exact hV.st) ?_
  show rn C (xSt F V0 [(q, .inr (26, [.int 0, .null, .null, .null, .null, .null]))]) 0 0 0 [(0, .ref q), (1, .int hz), (2, .ref k9), (3, .ref v9), (4, .null)] []
  refine r_aload_n hC 0 dJ25_init_0 rfl 1 rfl ?_
  refine r_iload_n hC 1 dJ25_init_1 rfl 2 rfl ?_
  refine r_aload_n hC 2 dJ25_init_2 rfl 3 rfl ?_
  refine r_aload_n hC 3 dJ25_init_3 rfl 4 rfl ?_
  refine r_aloadN hC 4 dJ25_init_4 rfl 6 rfl ?_
  refine xCall.w (wr := []) (r_cI hC q [.int hz, .ref k9, .ref v9, .null] mIJ24_init q2221 (fun V9 h9 => (metJ24_init_J25N _ _ hG q hz k9 v9) V9 (h9.in.sub [0] rfl rfl)) ⟨rfl, rfl⟩ (Nat.le_of_ble_eq_true rfl) (Nat.le_of_ble_eq_true rfl) rfl (Nat.le_of_ble_eq_true rfl) dJ25_init_6) [0] [] rfl rfl rfl (by decide) 0 0 9 rfl rfl rfl (fun v1 w2 h3 => ?_) (fun _ _ h => h.elim)
  obtain ⟨rfl, rfl⟩ := h3
  show rn C (xSt F V0 [(q, .inr (26, [.int hz, .ref k9, .ref v9, .null, .null, .null]))]) 0 0 9 [(0, .ref q), (1, .int hz), (2, .ref k9), (3, .ref v9), (4, .null)] []
  exact r_vret hC (Nat.le_of_ble_eq_true rfl) (Nat.le_of_ble_eq_true rfl) (fun V9 h => hQ _ _ ⟨[(q, .inr (26, [.int hz, .ref k9, .ref v9, .null, .null, .null]))], ⟨rfl, rfl⟩, by rw [← hV0, ← hF]; exact h⟩) dJ25_init_9
set_option maxHeartbeats 4000000 in
set_option maxRecDepth 100000 in
theorem metJ25_init_J25S (l : Launch) (G : xG) (hG : xGood G) (q : Nat) (hz : Int32) (k9 v9 : Nat) (n9 : Nat) : xWm l G yJ25_init (Cond.code yJ25_init cJ25_init 5 none) { frames := 2, locals := 44, cells := 0, slots := 0 } [.ref q, .int hz, .ref k9, .ref v9, .ref n9] [(q, .inr (26, [.int 0, .null, .null, .null, .null, .null]))] (fun v w' => v = none ∧ w' = [(q, .inr (26, [.int hz, .ref k9, .ref v9, .ref n9, .null, .null]))]) (fun _ _ => False) := by
  intro V hV
  refine xMet_ofT RJ25 hG rfl (by decide) (Nat.le_of_ble_eq_true rfl) fun C hC hQ hX hl hg hini hTab => ?_
  subst hl hg
  replace hini := hini rfl
  obtain ⟨V0, hV0⟩ : ∃ V0, V0 = V := ⟨_, rfl⟩
  obtain ⟨F, hF⟩ : ∃ F, F = xF [(q, .inr (26, [.int 0, .null, .null, .null, .null, .null]))] := ⟨_, rfl⟩
  refine rn.mono (J := xSt F V0 [(q, .inr (26, [.int 0, .null, .null, .null, .null, .null]))]) (fun V9 h => by rw [h, hV0, hF]; exact hV.st) ?_
  show rn C (xSt F V0 [(q, .inr (26, [.int 0, .null, .null, .null, .null, .null]))]) 0 0 0 [(0, .ref q), (1, .int hz), (2, .ref k9), (3, .ref v9), (4, .ref n9)] []
  refine r_aload_n hC 0 dJ25_init_0 rfl 1 rfl ?_
  refine r_iload_n hC 1 dJ25_init_1 rfl 2 rfl ?_
  refine r_aload_n hC 2 dJ25_init_2 rfl 3 rfl ?_
  refine r_aload_n hC 3 dJ25_init_3 rfl 4 rfl ?_
  refine r_aload hC 4 dJ25_init_4 rfl 6 rfl ?_
  refine xCall.w (wr := []) (r_cI hC q [.int hz, .ref k9, .ref v9, .ref n9] mIJ24_init q2221 (fun V9 h9 => (metJ24_init_J25S _ _ hG q hz k9 v9 n9) V9 (h9.in.sub [0] rfl rfl)) ⟨rfl, rfl⟩ (Nat.le_of_ble_eq_true rfl) (Nat.le_of_ble_eq_true rfl) rfl (Nat.le_of_ble_eq_true rfl) dJ25_init_6) [0] [] rfl rfl rfl (by decide) 0 0 9 rfl rfl rfl (fun v1 w2 h3 => ?_) (fun _ _ h => h.elim)
  obtain ⟨rfl, rfl⟩ := h3
  show rn C (xSt F V0 [(q, .inr (26, [.int hz, .ref k9, .ref v9, .ref n9, .null, .null]))]) 0 0 9 [(0, .ref q), (1, .int hz), (2, .ref k9), (3, .ref v9), (4, .ref n9)] []
  exact r_vret hC (Nat.le_of_ble_eq_true rfl) (Nat.le_of_ble_eq_true rfl) (fun V9 h => hQ _ _ ⟨[(q, .inr (26, [.int hz, .ref k9, .ref v9, .ref n9, .null, .null]))], ⟨rfl, rfl⟩, by rw [← hV0, ← hF]; exact h⟩) dJ25_init_9
set_option maxHeartbeats 4000000 in
set_option maxRecDepth 100000 in
theorem metJ25_init_J26N (l : Launch) (G : xG) (hG : xGood G) (q : Nat) (hz : Int32) (k9 v9 : Nat) : xWm l G yJ25_init (Cond.code yJ25_init cJ25_init 5 none) { frames := 2, locals := 44, cells := 0, slots := 0 } [.ref q, .int hz, .ref k9, .ref v9, .null] [(q, .inr (27, [.int 0, .null, .null, .null, .null, .null, .null, .null, .null, .null, .int 0]))] (fun v w' => v = none ∧ w' = [(q, .inr (27, [.int hz, .ref k9, .ref v9, .null, .null, .null, .null, .null, .null, .null, .int 0]))]) (fun _ _ => False) := by
  intro V hV
  refine xMet_ofT RJ25 hG rfl (by decide) (Nat.le_of_ble_eq_true rfl) fun C hC hQ hX hl hg hini hTab => ?_
  subst hl hg
  replace hini := hini rfl
  obtain ⟨V0, hV0⟩ : ∃ V0, V0 = V := ⟨_, rfl⟩
  obtain ⟨F, hF⟩ : ∃ F, F = xF [(q, .inr (27, [.int 0, .null, .null, .null, .null, .null, .null, .null, .null, .null, .int 0]))] := ⟨_, rfl⟩
  refine rn.mono (J := xSt F V0 [(q, .inr (27, [.int 0, .null, .null, .null, .null, .null, .null, .null, .null, .null, .int 0]))]) (fun V9 h => by rw [h, hV0, hF]; exact hV.st) ?_
  show rn C (xSt F V0 [(q, .inr (27, [.int 0, .null, .null, .null, .null, .null, .null, .null, .null, .null, .int 0]))]) 0 0 0 [(0, .ref q), (1, .int hz), (2, .ref k9), (3, .ref v9), (4, .null)] []
  refine r_aload_n hC 0 dJ25_init_0 rfl 1 rfl ?_
  refine r_iload_n hC 1 dJ25_init_1 rfl 2 rfl ?_
  refine r_aload_n hC 2 dJ25_init_2 rfl 3 rfl ?_
  refine r_aload_n hC 3 dJ25_init_3 rfl 4 rfl ?_
  refine r_aloadN hC 4 dJ25_init_4 rfl 6 rfl ?_
  refine xCall.w (wr := []) (r_cI hC q [.int hz, .ref k9, .ref v9, .null] mIJ24_init q2221 (fun V9 h9 => (metJ24_init_J26N _ _ hG q hz k9 v9) V9 (h9.in.sub [0] rfl rfl)) ⟨rfl, rfl⟩ (Nat.le_of_ble_eq_true rfl) (Nat.le_of_ble_eq_true rfl) rfl (Nat.le_of_ble_eq_true rfl) dJ25_init_6) [0] [] rfl rfl rfl (by decide) 0 0 9 rfl rfl rfl (fun v1 w2 h3 => ?_) (fun _ _ h => h.elim)
  obtain ⟨rfl, rfl⟩ := h3
  show rn C (xSt F V0 [(q, .inr (27, [.int hz, .ref k9, .ref v9, .null, .null, .null, .null, .null, .null, .null, .int 0]))]) 0 0 9 [(0, .ref q), (1, .int hz), (2, .ref k9), (3, .ref v9), (4, .null)] []
  exact r_vret hC (Nat.le_of_ble_eq_true rfl) (Nat.le_of_ble_eq_true rfl) (fun V9 h => hQ _ _ ⟨[(q, .inr (27, [.int hz, .ref k9, .ref v9, .null, .null, .null, .null, .null, .null, .null, .int 0]))], ⟨rfl, rfl⟩, by rw [← hV0, ← hF]; exact h⟩) dJ25_init_9
set_option maxHeartbeats 4000000 in
set_option maxRecDepth 100000 in
theorem metJ25_init_J26S (l : Launch) (G : xG) (hG : xGood G) (q : Nat) (hz : Int32) (k9 v9 : Nat) (n9 : Nat) : xWm l G yJ25_init (Cond.code yJ25_init cJ25_init 5 none) { frames := 2, locals := 44, cells := 0, slots := 0 } [.ref q, .int hz, .ref k9, .ref v9, .ref n9] [(q, .inr (27, [.int 0, .null, .null, .null, .null, .null, .null, .null, .null, .null, .int 0]))] (fun v w' => v = none ∧ w' = [(q, .inr (27, [.int hz, .ref k9, .ref v9, .ref n9, .null, .null, .null, .null, .null, .null, .int 0]))]) (fun _ _ => False) := by
  intro V hV
  refine xMet_ofT RJ25 hG rfl (by decide) (Nat.le_of_ble_eq_true rfl) fun C hC hQ hX hl hg hini hTab => ?_
  subst hl hg
  replace hini := hini rfl
  obtain ⟨V0, hV0⟩ : ∃ V0, V0 = V := ⟨_, rfl⟩
  obtain ⟨F, hF⟩ : ∃ F, F = xF [(q, .inr (27, [.int 0, .null, .null, .null, .null, .null, .null, .null, .null, .null, .int 0]))] := ⟨_, rfl⟩
  refine rn.mono (J := xSt F V0 [(q, .inr (27, [.int 0, .null, .null, .null, .null, .null, .null, .null, .null, .null, .int 0]))]) (fun V9 h => by rw [h, hV0, hF]; exact hV.st) ?_
  show rn C (xSt F V0 [(q, .inr (27, [.int 0, .null, .null, .null, .null, .null, .null, .null, .null, .null, .int 0]))]) 0 0 0 [(0, .ref q), (1, .int hz), (2, .ref k9), (3, .ref v9), (4, .ref n9)] []
  refine r_aload_n hC 0 dJ25_init_0 rfl 1 rfl ?_
  refine r_iload_n hC 1 dJ25_init_1 rfl 2 rfl ?_
  refine r_aload_n hC 2 dJ25_init_2 rfl 3 rfl ?_
  refine r_aload_n hC 3 dJ25_init_3 rfl 4 rfl ?_
  refine r_aload hC 4 dJ25_init_4 rfl 6 rfl ?_
  refine xCall.w (wr := []) (r_cI hC q [.int hz, .ref k9, .ref v9, .ref n9] mIJ24_init q2221 (fun V9 h9 => (metJ24_init_J26S _ _ hG q hz k9 v9 n9) V9 (h9.in.sub [0] rfl rfl)) ⟨rfl, rfl⟩ (Nat.le_of_ble_eq_true rfl) (Nat.le_of_ble_eq_true rfl) rfl (Nat.le_of_ble_eq_true rfl) dJ25_init_6) [0] [] rfl rfl rfl (by decide) 0 0 9 rfl rfl rfl (fun v1 w2 h3 => ?_) (fun _ _ h => h.elim)
  obtain ⟨rfl, rfl⟩ := h3
  show rn C (xSt F V0 [(q, .inr (27, [.int hz, .ref k9, .ref v9, .ref n9, .null, .null, .null, .null, .null, .null, .int 0]))]) 0 0 9 [(0, .ref q), (1, .int hz), (2, .ref k9), (3, .ref v9), (4, .ref n9)] []
  exact r_vret hC (Nat.le_of_ble_eq_true rfl) (Nat.le_of_ble_eq_true rfl) (fun V9 h => hQ _ _ ⟨[(q, .inr (27, [.int hz, .ref k9, .ref v9, .ref n9, .null, .null, .null, .null, .null, .null, .int 0]))], ⟨rfl, rfl⟩, by rw [← hV0, ← hF]; exact h⟩) dJ25_init_9
set_option maxHeartbeats 4000000 in
set_option maxRecDepth 100000 in
theorem metJ26_init_J26N (l : Launch) (G : xG) (hG : xGood G) (q : Nat) (hz : Int32) (k9 v9 : Nat) : xWm l G yJ26_init (Cond.code yJ26_init cJ26_init 5 none) { frames := 3, locals := 68, cells := 0, slots := 0 } [.ref q, .int hz, .ref k9, .ref v9, .null] [(q, .inr (27, [.int 0, .null, .null, .null, .null, .null, .null, .null, .null, .null, .int 0]))] (fun v w' => v = none ∧ w' = [(q, .inr (27, [.int hz, .ref k9, .ref v9, .null, .null, .null, .null, .null, .null, .null, .int 0]))]) (fun _ _ => False) := by
  intro V hV
  refine xMet_ofT RJ26 hG rfl (by decide) (Nat.le_of_ble_eq_true rfl) fun C hC hQ hX hl hg hini hTab => ?_
  subst hl hg
  replace hini := hini rfl
  obtain ⟨V0, hV0⟩ : ∃ V0, V0 = V := ⟨_, rfl⟩
  obtain ⟨F, hF⟩ : ∃ F, F = xF [(q, .inr (27, [.int 0, .null, .null, .null, .null, .null, .null, .null, .null, .null, .int 0]))] := ⟨_, rfl⟩
  refine rn.mono (J := xSt F V0 [(q, .inr (27, [.int 0, .null, .null, .null, .null, .null, .null, .null, .null, .null, .int 0]))]) (fun V9 h => by rw [h, hV0, hF]; exact hV.st) ?_
  show rn C (xSt F V0 [(q, .inr (27, [.int 0, .null, .null, .null, .null, .null, .null, .null, .null, .null, .int 0]))]) 0 0 0 [(0, .ref q), (1, .int hz), (2, .ref k9), (3, .ref v9), (4, .null)] []
  refine r_aload_n hC 0 dJ26_init_0 rfl 1 rfl ?_
  refine r_iload_n hC 1 dJ26_init_1 rfl 2 rfl ?_
  refine r_aload_n hC 2 dJ26_init_2 rfl 3 rfl ?_
  refine r_aload_n hC 3 dJ26_init_3 rfl 4 rfl ?_
  refine r_aloadN hC 4 dJ26_init_4 rfl 6 rfl ?_
  refine xCall.w (wr := []) (r_cI hC q [.int hz, .ref k9, .ref v9, .null] mIJ25_init q2314 (fun V9 h9 => (metJ25_init_J26N _ _ hG q hz k9 v9) V9 (h9.in.sub [0] rfl rfl)) ⟨rfl, rfl⟩ (Nat.le_of_ble_eq_true rfl) (Nat.le_of_ble_eq_true rfl) rfl (Nat.le_of_ble_eq_true rfl) dJ26_init_6) [0] [] rfl rfl rfl (by decide) 0 0 9 rfl rfl rfl (fun v1 w2 h3 => ?_) (fun _ _ h => h.elim)
  obtain ⟨rfl, rfl⟩ := h3
  show rn C (xSt F V0 [(q, .inr (27, [.int hz, .ref k9, .ref v9, .null, .null, .null, .null, .null, .null, .null, .int 0]))]) 0 0 9 [(0, .ref q), (1, .int hz), (2, .ref k9), (3, .ref v9), (4, .null)] []
  exact r_vret hC (Nat.le_of_ble_eq_true rfl) (Nat.le_of_ble_eq_true rfl) (fun V9 h => hQ _ _ ⟨[(q, .inr (27, [.int hz, .ref k9, .ref v9, .null, .null, .null, .null, .null, .null, .null, .int 0]))], ⟨rfl, rfl⟩, by rw [← hV0, ← hF]; exact h⟩) dJ26_init_9
set_option maxHeartbeats 4000000 in
set_option maxRecDepth 100000 in
theorem metJ26_init_J26S (l : Launch) (G : xG) (hG : xGood G) (q : Nat) (hz : Int32) (k9 v9 : Nat) (n9 : Nat) : xWm l G yJ26_init (Cond.code yJ26_init cJ26_init 5 none) { frames := 3, locals := 68, cells := 0, slots := 0 } [.ref q, .int hz, .ref k9, .ref v9, .ref n9] [(q, .inr (27, [.int 0, .null, .null, .null, .null, .null, .null, .null, .null, .null, .int 0]))] (fun v w' => v = none ∧ w' = [(q, .inr (27, [.int hz, .ref k9, .ref v9, .ref n9, .null, .null, .null, .null, .null, .null, .int 0]))]) (fun _ _ => False) := by
  intro V hV
  refine xMet_ofT RJ26 hG rfl (by decide) (Nat.le_of_ble_eq_true rfl) fun C hC hQ hX hl hg hini hTab => ?_
  subst hl hg
  replace hini := hini rfl
  obtain ⟨V0, hV0⟩ : ∃ V0, V0 = V := ⟨_, rfl⟩
  obtain ⟨F, hF⟩ : ∃ F, F = xF [(q, .inr (27, [.int 0, .null, .null, .null, .null, .null, .null, .null, .null, .null, .int 0]))] := ⟨_, rfl⟩
  refine rn.mono (J := xSt F V0 [(q, .inr (27, [.int 0, .null, .null, .null, .null, .null, .null, .null, .null, .null, .int 0]))]) (fun V9 h => by rw [h, hV0, hF]; exact hV.st) ?_
  show rn C (xSt F V0 [(q, .inr (27, [.int 0, .null, .null, .null, .null, .null, .null, .null, .null, .null, .int 0]))]) 0 0 0 [(0, .ref q), (1, .int hz), (2, .ref k9), (3, .ref v9), (4, .ref n9)] []
  refine r_aload_n hC 0 dJ26_init_0 rfl 1 rfl ?_
  refine r_iload_n hC 1 dJ26_init_1 rfl 2 rfl ?_
  refine r_aload_n hC 2 dJ26_init_2 rfl 3 rfl ?_
  refine r_aload_n hC 3 dJ26_init_3 rfl 4 rfl ?_
  refine r_aload hC 4 dJ26_init_4 rfl 6 rfl ?_
  refine xCall.w (wr := []) (r_cI hC q [.int hz, .ref k9, .ref v9, .ref n9] mIJ25_init q2314 (fun V9 h9 => (metJ25_init_J26S _ _ hG q hz k9 v9 n9) V9 (h9.in.sub [0] rfl rfl)) ⟨rfl, rfl⟩ (Nat.le_of_ble_eq_true rfl) (Nat.le_of_ble_eq_true rfl) rfl (Nat.le_of_ble_eq_true rfl) dJ26_init_6) [0] [] rfl rfl rfl (by decide) 0 0 9 rfl rfl rfl (fun v1 w2 h3 => ?_) (fun _ _ h => h.elim)
  obtain ⟨rfl, rfl⟩ := h3
  show rn C (xSt F V0 [(q, .inr (27, [.int hz, .ref k9, .ref v9, .ref n9, .null, .null, .null, .null, .null, .null, .int 0]))]) 0 0 9 [(0, .ref q), (1, .int hz), (2, .ref k9), (3, .ref v9), (4, .ref n9)] []
  exact r_vret hC (Nat.le_of_ble_eq_true rfl) (Nat.le_of_ble_eq_true rfl) (fun V9 h => hQ _ _ ⟨[(q, .inr (27, [.int hz, .ref k9, .ref v9, .ref n9, .null, .null, .null, .null, .null, .null, .int 0]))], ⟨rfl, rfl⟩, by rw [← hV0, ← hF]; exact h⟩) dJ26_init_9
set_option maxHeartbeats 4000000 in
set_option maxRecDepth 100000 in
theorem metJ21_linkNodeAtEndA (l : Launch) (G : xG) (hG : xGood G) (L : List Nat) (kd : Nat → Bool) (hs : Nat → Int32) (ky vl : Nat → Nat) (nx bf af pa lf rt pv : Nat → Option Nat) (rd : Nat → Int32) (M : Nat) (tbo es : Option Nat) (sz th : Nat) (mc : Int32) (hd tl : Option Nat) (q : Nat) (hqL : q ∈ L) (htl : tl = none) : xWm l G yJ21_linkNodeAtEnd (Cond.code yJ21_linkNodeAtEnd cJ21_linkNodeAtEnd 3 none) { frames := 0, locals := 0, cells := 0, slots := 0 } [.ref M, .ref q] ([(M, .inr (25, [va_rf tbo, va_rf es, .int (nI sz), .int mc, .int (nI th), .float 1061158912, .null, .null, va_rf hd, va_rf tl, .int 0, .int 0]))] ++ stW L (ndX kd hs ky vl nx bf af pa lf rt pv rd)) (fun v w' => v = none ∧ w' = ([(M, .inr (25, [va_rf tbo, va_rf es, .int (nI sz), .int mc, .int (nI th), .float 1061158912, .null, .null, .ref q, .ref q, .int 0, .int 0]))] ++ stW L (ndX kd hs ky vl nx bf af pa lf rt pv rd))) (fun _ _ => False) := by
  intro V hV
  refine xMet_ofT RJ21 hG rfl (by decide) (Nat.le_of_ble_eq_true rfl) fun C hC hQ hX hl hg _ hTab => ?_
  subst hl hg
  obtain ⟨V0, hV0⟩ : ∃ V0, V0 = V := ⟨_, rfl⟩
  obtain ⟨F, hF⟩ : ∃ F, F = xF ([(M, .inr (25, [va_rf tbo, va_rf es, .int (nI sz), .int mc, .int (nI th), .float 1061158912, .null, .null, va_rf hd, va_rf tl, .int 0, .int 0]))] ++ stW L (ndX kd hs ky vl nx bf af pa lf rt pv rd)) := ⟨_, rfl⟩
  refine rn.mono (J := xSt F V0 ([(M, .inr (25, [va_rf tbo, va_rf es, .int (nI sz), .int mc, .int (nI th), .float 1061158912, .null, .null, va_rf hd, va_rf tl, .int 0, .int 0]))] ++ stW L (ndX kd hs ky vl nx bf af pa lf rt pv rd))) (fun V9 h => by rw [h, hV0, hF]; exact hV.st) ?_
  show rn C (xSt F V0 ([(M, .inr (25, [va_rf tbo, va_rf es, .int (nI sz), .int mc, .int (nI th), .float 1061158912, .null, .null, va_rf hd, va_rf tl, .int 0, .int 0]))] ++ stW L (ndX kd hs ky vl nx bf af pa lf rt pv rd))) 0 0 0 [(0, .ref M), (1, .ref q)] []
  refine r_aload_n hC 0 dJ21_linkNodeAtEnd_0 rfl 1 rfl ?_
  refine r_get (v := .int 0) hC kJ21 11 rfl q1769 (fun _ h => h.get 0 rfl) rfl dJ21_linkNodeAtEnd_1 4 rfl ?_
  refine r_iconst hC 1 dJ21_linkNodeAtEnd_4 ic_1 5 rfl ?_
  refine r_icne hC 43 dJ21_linkNodeAtEnd_5 (by decide) 8 rfl (fun _ => ?_) (fun h => absurd h (by decide))
  refine r_aload_n hC 0 dJ21_linkNodeAtEnd_43 rfl 44 rfl ?_
  refine r_get (v := .null) hC kJ21 9 rfl q1767 (fun _ h => h.get 0 rfl) (congrArg (fun o9 => some (va_rf o9)) htl) dJ21_linkNodeAtEnd_44 47 rfl ?_
  refine r_astore_nN hC 2 [(2, .null), (0, .ref M), (1, .ref q)] dJ21_linkNodeAtEnd_47 rfl (Nat.le_of_ble_eq_true rfl) rfl 48 rfl ?_
  refine r_aload_n hC 1 dJ21_linkNodeAtEnd_48 rfl 49 rfl ?_
  refine r_aload_n hC 2 dJ21_linkNodeAtEnd_49 rfl 50 rfl ?_
  refine r_put (J := xSt F V0 ([(M, .inr (25, [va_rf tbo, va_rf es, .int (nI sz), .int mc, .int (nI th), .float 1061158912, .null, .null, va_rf hd, .ref q, .int 0, .int 0]))] ++ stW L (ndX kd hs ky vl nx bf af pa lf rt pv rd))) hC kJ21 9 rfl q1767 rfl (fun _ h => h.get 0 rfl) (Nat.le_of_ble_eq_true rfl) (rfl) (rfl) dJ21_linkNodeAtEnd_50 (fun _ h => h.set 0 _ rfl) 53 rfl ?_
  refine r_aload_nN hC 0 dJ21_linkNodeAtEnd_53 rfl 54 rfl ?_
  refine r_ifnonnullN hC dJ21_linkNodeAtEnd_54 57 rfl ?_
  refine r_aload_n hC 1 dJ21_linkNodeAtEnd_57 rfl 58 rfl ?_
  refine r_aload_n hC 2 dJ21_linkNodeAtEnd_58 rfl 59 rfl ?_
  refine r_put (J := xSt F V0 ([(M, .inr (25, [va_rf tbo, va_rf es, .int (nI sz), .int mc, .int (nI th), .float 1061158912, .null, .null, .ref q, .ref q, .int 0, .int 0]))] ++ stW L (ndX kd hs ky vl nx bf af pa lf rt pv rd))) hC kJ21 8 rfl q1764 rfl (fun _ h => h.get 0 rfl) (Nat.le_of_ble_eq_true rfl) (rfl) (rfl) dJ21_linkNodeAtEnd_59 (fun _ h => h.set 0 _ rfl) 62 rfl ?_
  refine r_goto hC 75 dJ21_linkNodeAtEnd_62 (by decide) ?_
  exact r_vret hC (Nat.le_of_ble_eq_true rfl) (Nat.le_of_ble_eq_true rfl) (fun V9 h => hQ _ _ ⟨_, ⟨rfl, rfl⟩, by rw [← hV0, ← hF]; exact h⟩) dJ21_linkNodeAtEnd_75
set_option maxHeartbeats 4000000 in
set_option maxRecDepth 100000 in
theorem metJ21_linkNodeAtEndB (l : Launch) (G : xG) (hG : xGood G) (L : List Nat) (kd : Nat → Bool) (hs : Nat → Int32) (ky vl : Nat → Nat) (nx bf af pa lf rt pv : Nat → Option Nat) (rd : Nat → Int32) (M : Nat) (tbo es : Option Nat) (sz th : Nat) (mc : Int32) (hd tl : Option Nat) (q : Nat) (hqL : q ∈ L) (t : Nat) (htl : tl = some t) (htL : t ∈ L) : xWm l G yJ21_linkNodeAtEnd (Cond.code yJ21_linkNodeAtEnd cJ21_linkNodeAtEnd 3 none) { frames := 0, locals := 0, cells := 0, slots := 0 } [.ref M, .ref q] ([(M, .inr (25, [va_rf tbo, va_rf es, .int (nI sz), .int mc, .int (nI th), .float 1061158912, .null, .null, va_rf hd, va_rf tl, .int 0, .int 0]))] ++ stW L (ndX kd hs ky vl nx bf af pa lf rt pv rd)) (fun v w' => v = none ∧ w' = ([(M, .inr (25, [va_rf tbo, va_rf es, .int (nI sz), .int mc, .int (nI th), .float 1061158912, .null, .null, va_rf hd, .ref q, .int 0, .int 0]))] ++ stW L (ndX kd hs ky vl nx (va_up bf q (some t)) (va_up af t (some q)) pa lf rt pv rd))) (fun _ _ => False) := by
  intro V hV
  refine xMet_ofT RJ21 hG rfl (by decide) (Nat.le_of_ble_eq_true rfl) fun C hC hQ hX hl hg _ hTab => ?_
  subst hl hg
  obtain ⟨V0, hV0⟩ : ∃ V0, V0 = V := ⟨_, rfl⟩
  obtain ⟨F, hF⟩ : ∃ F, F = xF ([(M, .inr (25, [va_rf tbo, va_rf es, .int (nI sz), .int mc, .int (nI th), .float 1061158912, .null, .null, va_rf hd, va_rf tl, .int 0, .int 0]))] ++ stW L (ndX kd hs ky vl nx bf af pa lf rt pv rd)) := ⟨_, rfl⟩
  refine rn.mono (J := xSt F V0 ([(M, .inr (25, [va_rf tbo, va_rf es, .int (nI sz), .int mc, .int (nI th), .float 1061158912, .null, .null, va_rf hd, va_rf tl, .int 0, .int 0]))] ++ stW L (ndX kd hs ky vl nx bf af pa lf rt pv rd))) (fun V9 h => by rw [h, hV0, hF]; exact hV.st) ?_
  show rn C (xSt F V0 ([(M, .inr (25, [va_rf tbo, va_rf es, .int (nI sz), .int mc, .int (nI th), .float 1061158912, .null, .null, va_rf hd, va_rf tl, .int 0, .int 0]))] ++ stW L (ndX kd hs ky vl nx bf af pa lf rt pv rd))) 0 0 0 [(0, .ref M), (1, .ref q)] []
  refine r_aload_n hC 0 dJ21_linkNodeAtEnd_0 rfl 1 rfl ?_
  refine r_get (v := .int 0) hC kJ21 11 rfl q1769 (fun _ h => h.get 0 rfl) rfl dJ21_linkNodeAtEnd_1 4 rfl ?_
  refine r_iconst hC 1 dJ21_linkNodeAtEnd_4 ic_1 5 rfl ?_
  refine r_icne hC 43 dJ21_linkNodeAtEnd_5 (by decide) 8 rfl (fun _ => ?_) (fun h => absurd h (by decide))
  refine r_aload_n hC 0 dJ21_linkNodeAtEnd_43 rfl 44 rfl ?_
  refine r_get (v := .ref t) hC kJ21 9 rfl q1767 (fun _ h => h.get 0 rfl) (congrArg (fun o9 => some (va_rf o9)) htl) dJ21_linkNodeAtEnd_44 47 rfl ?_
  refine r_astore_n hC 2 [(2, .ref t), (0, .ref M), (1, .ref q)] dJ21_linkNodeAtEnd_47 rfl (Nat.le_of_ble_eq_true rfl) rfl 48 rfl ?_
  refine r_aload_n hC 1 dJ21_linkNodeAtEnd_48 rfl 49 rfl ?_
  refine r_aload_n hC 2 dJ21_linkNodeAtEnd_49 rfl 50 rfl ?_
  refine r_put (J := xSt F V0 ([(M, .inr (25, [va_rf tbo, va_rf es, .int (nI sz), .int mc, .int (nI th), .float 1061158912, .null, .null, va_rf hd, .ref q, .int 0, .int 0]))] ++ stW L (ndX kd hs ky vl nx bf af pa lf rt pv rd))) hC kJ21 9 rfl q1767 rfl (fun _ h => h.get 0 rfl) (Nat.le_of_ble_eq_true rfl) (rfl) (rfl) dJ21_linkNodeAtEnd_50 (fun _ h => h.set 0 _ rfl) 53 rfl ?_
  refine r_aload_n hC 0 dJ21_linkNodeAtEnd_53 rfl 54 rfl ?_
  refine r_ifnonnull hC 65 dJ21_linkNodeAtEnd_54 (by decide) ?_
  refine r_aload_n hC 2 dJ21_linkNodeAtEnd_65 rfl 66 rfl ?_
  refine r_aload_n hC 0 dJ21_linkNodeAtEnd_66 rfl 67 rfl ?_
  refine r_putX (J := xSt F V0 ([(M, .inr (25, [va_rf tbo, va_rf es, .int (nI sz), .int mc, .int (nI th), .float 1061158912, .null, .null, va_rf hd, .ref q, .int 0, .int 0]))] ++ stW L (ndX kd hs ky vl nx (va_up bf q (some t)) af pa lf rt pv rd))) hC 4 rfl rfl q2225 q2225 (Or.inl rfl) (Or.inl rfl) rfl rfl (fun _ h => stW_get h hqL rfl) rfl rfl rfl rfl dJ21_linkNodeAtEnd_67 (fun hk9 _ h => stW_set h hqL (ndP_bf hk9)) (fun hk9 _ h => stW_set h hqL (ndX_bf hk9)) 70 rfl ?_
  refine r_aload_n hC 0 dJ21_linkNodeAtEnd_70 rfl 71 rfl ?_
  refine r_aload_n hC 2 dJ21_linkNodeAtEnd_71 rfl 72 rfl ?_
  refine r_putX (J := xSt F V0 ([(M, .inr (25, [va_rf tbo, va_rf es, .int (nI sz), .int mc, .int (nI th), .float 1061158912, .null, .null, va_rf hd, .ref q, .int 0, .int 0]))] ++ stW L (ndX kd hs ky vl nx (va_up bf q (some t)) (va_up af t (some q)) pa lf rt pv rd))) hC 5 rfl rfl q2227 q2227 (Or.inl rfl) (Or.inl rfl) rfl rfl (fun _ h => stW_get h htL rfl) rfl rfl rfl rfl dJ21_linkNodeAtEnd_72 (fun hk9 _ h => stW_set h htL (ndP_af hk9)) (fun hk9 _ h => stW_set h htL (ndX_af hk9)) 75 rfl ?_
  exact r_vret hC (Nat.le_of_ble_eq_true rfl) (Nat.le_of_ble_eq_true rfl) (fun V9 h => hQ _ _ ⟨_, ⟨rfl, rfl⟩, by rw [← hV0, ← hF]; exact h⟩) dJ21_linkNodeAtEnd_75
set_option maxHeartbeats 4000000 in
set_option maxRecDepth 100000 in
theorem metJ21_newNodeN (l : Launch) (G : xG) (hG : xGood G) (L : List Nat) (kd : Nat → Bool) (hs : Nat → Int32) (ky vl : Nat → Nat) (nx bf af pa lf rt pv : Nat → Option Nat) (rd : Nat → Int32) (M : Nat) (tbo es : Option Nat) (sz th : Nat) (mc : Int32) (hd tl : Option Nat) (hz : Int32) (k9 v9 : Nat) (htlL : ∀ t, tl = some t → t ∈ L) : xWm l G yJ21_newNode (Cond.code yJ21_newNode cJ21_newNode 6 (some (.object "java/util/HashMap$Node"))) { frames := 3, locals := 68, cells := 1, slots := 6 } [.ref M, .int hz, .ref k9, .ref v9, .null] ([(M, .inr (25, [va_rf tbo, va_rf es, .int (nI sz), .int mc, .int (nI th), .float 1061158912, .null, .null, va_rf hd, va_rf tl, .int 0, .int 0]))] ++ stW L (ndX kd hs ky vl nx bf af pa lf rt pv rd)) (fun v w' => ∃ q : Nat, v = some (.ref q) ∧ q ∉ L ∧ w' = ([(M, .inr (25, [va_rf tbo, va_rf es, .int (nI sz), .int mc, .int (nI th), .float 1061158912, .null, .null, va_rf (hdn hd q tl), .ref q, .int 0, .int 0]))] ++ stW (L ++ [q]) (ndX (va_up kd q false) (va_up hs q hz) (va_up ky q k9) (va_up vl q v9) (va_up nx q none) (va_up bf q tl) (afn af q tl) pa lf rt pv rd))) (fun _ _ => False) := by
  intro V hV
  refine xMet_ofT RJ21 hG rfl (by decide) (Nat.le_of_ble_eq_true rfl) fun C hC hQ hX hl hg _ hTab => ?_
  subst hl hg
  obtain ⟨V0, hV0⟩ : ∃ V0, V0 = V := ⟨_, rfl⟩
  obtain ⟨F, hF⟩ : ∃ F, F = xF ([(M, .inr (25, [va_rf tbo, va_rf es, .int (nI sz), .int mc, .int (nI th), .float 1061158912, .null, .null, va_rf hd, va_rf tl, .int 0, .int 0]))] ++ stW L (ndX kd hs ky vl nx bf af pa lf rt pv rd)) := ⟨_, rfl⟩
  refine rn.mono (J := xSt F V0 ([(M, .inr (25, [va_rf tbo, va_rf es, .int (nI sz), .int mc, .int (nI th), .float 1061158912, .null, .null, va_rf hd, va_rf tl, .int 0, .int 0]))] ++ stW L (ndX kd hs ky vl nx bf af pa lf rt pv rd))) (fun V9 h => by rw [h, hV0, hF]; exact hV.st) ?_
  show rn C (xSt F V0 ([(M, .inr (25, [va_rf tbo, va_rf es, .int (nI sz), .int mc, .int (nI th), .float 1061158912, .null, .null, va_rf hd, va_rf tl, .int 0, .int 0]))] ++ stW L (ndX kd hs ky vl nx bf af pa lf rt pv rd))) 0 0 0 [(0, .ref M), (1, .int hz), (2, .ref k9), (3, .ref v9), (4, .null)] []
  refine r_new (J := fun q1 => xSt F V0 ([(M, .inr (25, [va_rf tbo, va_rf es, .int (nI sz), .int mc, .int (nI th), .float 1061158912, .null, .null, va_rf hd, va_rf tl, .int 0, .int 0])), (q1, .inr (26, [.int 0, .null, .null, .null, .null, .null]))] ++ stW L (ndX kd hs ky vl nx bf af pa lf rt pv rd))) hC [.int 0, .null, .null, .null, .null, .null] kJ25 q2167 q2217 q144 dfJ25 (Nat.le_of_ble_eq_true rfl) (Nat.le_of_ble_eq_true rfl) dJ21_newNode_0 (fun _ h => h.pushT _) 3 rfl (fun q1 => ?_)
  show rn C (xSt F V0 ([(M, .inr (25, [va_rf tbo, va_rf es, .int (nI sz), .int mc, .int (nI th), .float 1061158912, .null, .null, va_rf hd, va_rf tl, .int 0, .int 0])), (q1, .inr (26, [.int 0, .null, .null, .null, .null, .null]))] ++ stW L (ndX kd hs ky vl nx bf af pa lf rt pv rd))) 1 6 3 [(0, .ref M), (1, .int hz), (2, .ref k9), (3, .ref v9), (4, .null)] [.ref q1]
  refine r_dup hC dJ21_newNode_3 rfl 4 rfl ?_
  refine r_iload_n hC 1 dJ21_newNode_4 rfl 5 rfl ?_
  refine r_aload_n hC 2 dJ21_newNode_5 rfl 6 rfl ?_
  refine r_aload_n hC 3 dJ21_newNode_6 rfl 7 rfl ?_
  refine r_aloadN hC 4 dJ21_newNode_7 rfl 9 rfl ?_
  refine xCall.t (wr := [(M, .inr (25, [va_rf tbo, va_rf es, .int (nI sz), .int mc, .int (nI th), .float 1061158912, .null, .null, va_rf hd, va_rf tl, .int 0, .int 0]))]) (r_cI hC q1 [.int hz, .ref k9, .ref v9, .null] mIJ25_init q2218 (fun V9 h9 => (metJ25_init_J25N _ _ hG q1 hz k9 v9) V9 (h9.in.sub [1] rfl rfl)) ⟨rfl, rfl⟩ (Nat.le_of_ble_eq_true rfl) (Nat.le_of_ble_eq_true rfl) rfl (Nat.le_of_ble_eq_true rfl) dJ21_newNode_9) [1] [0] 2 rfl rfl rfl rfl 1 6 12 rfl rfl rfl (fun v2 w3 h4 => ?_) (fun _ _ h => h.elim)
  obtain ⟨rfl, rfl⟩ := h4
  show rn C (xSt F V0 ([(M, .inr (25, [va_rf tbo, va_rf es, .int (nI sz), .int mc, .int (nI th), .float 1061158912, .null, .null, va_rf hd, va_rf tl, .int 0, .int 0])), (q1, .inr (26, [.int hz, .ref k9, .ref v9, .null, .null, .null]))] ++ stW L (ndX kd hs ky vl nx bf af pa lf rt pv rd))) 1 6 12 [(0, .ref M), (1, .int hz), (2, .ref k9), (3, .ref v9), (4, .null)] [.ref q1]
  refine r_astore hC 5 [(5, .ref q1), (0, .ref M), (1, .int hz), (2, .ref k9), (3, .ref v9), (4, .null)] dJ21_newNode_12 (Nat.le_of_ble_eq_true rfl) rfl 14 rfl ?_
  refine rn.fact (P := q1 ∉ L) (fun _ h => stW_nin h (List.mem_of_getElem? (i := 1) rfl)) (fun hqn => ?_)
  refine rn.mono (J := xSt F V0 ([(M, .inr (25, [va_rf tbo, va_rf es, .int (nI sz), .int mc, .int (nI th), .float 1061158912, .null, .null, va_rf hd, va_rf tl, .int 0, .int 0]))] ++ stW (L ++ [q1]) (ndX (va_up kd q1 false) (va_up hs q1 hz) (va_up ky q1 k9) (va_up vl q1 v9) (va_up nx q1 none) (va_up bf q1 none) (va_up af q1 none) pa lf rt pv rd))) (fun _ h => stW_addP (ws := [(M, .inr (25, [va_rf tbo, va_rf es, .int (nI sz), .int mc, .int (nI th), .float 1061158912, .null, .null, va_rf hd, va_rf tl, .int 0, .int 0]))]) h) ?_
  show rn C (xSt F V0 ([(M, .inr (25, [va_rf tbo, va_rf es, .int (nI sz), .int mc, .int (nI th), .float 1061158912, .null, .null, va_rf hd, va_rf tl, .int 0, .int 0]))] ++ stW (L ++ [q1]) (ndX (va_up kd q1 false) (va_up hs q1 hz) (va_up ky q1 k9) (va_up vl q1 v9) (va_up nx q1 none) (va_up bf q1 none) (va_up af q1 none) pa lf rt pv rd))) 1 6 14 [(5, .ref q1), (0, .ref M), (1, .int hz), (2, .ref k9), (3, .ref v9), (4, .null)] []
  refine r_aload_n hC 1 dJ21_newNode_14 rfl 15 rfl ?_
  refine r_aload hC 0 dJ21_newNode_15 rfl 17 rfl ?_
  rcases opt_c (tl) with hl8 | ⟨x9, hl8⟩
  · skip
    refine xCall.ct (wcx := [(M, .inr (25, [va_rf tbo, va_rf es, .int (nI sz), .int mc, .int (nI th), .float 1061158912, .null, .null, va_rf hd, va_rf tl, .int 0, .int 0]))]) (wr := []) (r_cV hC kJ21 M [.ref q1] mVJ21_linkNodeAtEnd q2294 (fun _ h => ⟨_, h.get 0 rfl⟩) (fun V9 h9 => (metJ21_linkNodeAtEndA _ _ hG (L ++ [q1]) (va_up kd q1 false) (va_up hs q1 hz) (va_up ky q1 k9) (va_up vl q1 v9) (va_up nx q1 none) (va_up bf q1 none) (va_up af q1 none) pa lf rt pv rd M tbo es sz th mc hd tl q1 (List.mem_append_right _ List.mem_cons_self) hl8) V9 (h9.in.cut (wcx := [(M, .inr (25, [va_rf tbo, va_rf es, .int (nI sz), .int mc, .int (nI th), .float 1061158912, .null, .null, va_rf hd, va_rf tl, .int 0, .int 0]))]) (wr := []) [0] [] 1 rfl rfl rfl rfl)) ⟨rfl, rfl⟩ (Nat.le_of_ble_eq_true rfl) (Nat.le_of_ble_eq_true rfl) rfl (Nat.le_of_ble_eq_true rfl) dJ21_newNode_17) [0] [] 1 rfl rfl rfl rfl 1 6 20 rfl rfl rfl (fun v10 w11 h12 => ?_) (fun _ _ h => h.elim)
    obtain ⟨rfl, rfl⟩ := h12
    refine rn.mono (J := xSt F V0 ([(M, .inr (25, [va_rf tbo, va_rf es, .int (nI sz), .int mc, .int (nI th), .float 1061158912, .null, .null, .ref q1, .ref q1, .int 0, .int 0]))] ++ stW (L ++ [q1]) (ndX (va_up kd q1 false) (va_up hs q1 hz) (va_up ky q1 k9) (va_up vl q1 v9) (va_up nx q1 none) (va_up bf q1 none) (va_up af q1 none) pa lf rt pv rd))) (fun _ h => by rw [← List.append_assoc] at h; exact h) ?_
    show rn C (xSt F V0 ([(M, .inr (25, [va_rf tbo, va_rf es, .int (nI sz), .int mc, .int (nI th), .float 1061158912, .null, .null, .ref q1, .ref q1, .int 0, .int 0]))] ++ stW (L ++ [q1]) (ndX (va_up kd q1 false) (va_up hs q1 hz) (va_up ky q1 k9) (va_up vl q1 v9) (va_up nx q1 none) (va_up bf q1 none) (va_up af q1 none) pa lf rt pv rd))) 1 6 20 [(5, .ref q1), (0, .ref M), (1, .int hz), (2, .ref k9), (3, .ref v9), (4, .null)] []
    refine r_aload hC 0 dJ21_newNode_20 rfl 22 rfl ?_
    exact r_aret hC (v := (some q1)) (Or.inl ⟨_, rfl⟩) (Nat.le_of_ble_eq_true rfl) (Nat.le_of_ble_eq_true rfl) (fun V9 h => hQ _ _ ⟨_, ⟨q1, rfl, hqn, rfl⟩, by rw [← hV0, ← hF]; simp only [hl8, afn, hdn]; exact h⟩) dJ21_newNode_22
  · skip
    refine xCall.ct (wcx := [(M, .inr (25, [va_rf tbo, va_rf es, .int (nI sz), .int mc, .int (nI th), .float 1061158912, .null, .null, va_rf hd, va_rf tl, .int 0, .int 0]))]) (wr := []) (r_cV hC kJ21 M [.ref q1] mVJ21_linkNodeAtEnd q2294 (fun _ h => ⟨_, h.get 0 rfl⟩) (fun V9 h9 => (metJ21_linkNodeAtEndB _ _ hG (L ++ [q1]) (va_up kd q1 false) (va_up hs q1 hz) (va_up ky q1 k9) (va_up vl q1 v9) (va_up nx q1 none) (va_up bf q1 none) (va_up af q1 none) pa lf rt pv rd M tbo es sz th mc hd tl q1 (List.mem_append_right _ List.mem_cons_self) x9 hl8 (List.mem_append_left _ (htlL x9 hl8))) V9 (h9.in.cut (wcx := [(M, .inr (25, [va_rf tbo, va_rf es, .int (nI sz), .int mc, .int (nI th), .float 1061158912, .null, .null, va_rf hd, va_rf tl, .int 0, .int 0]))]) (wr := []) [0] [] 1 rfl rfl rfl rfl)) ⟨rfl, rfl⟩ (Nat.le_of_ble_eq_true rfl) (Nat.le_of_ble_eq_true rfl) rfl (Nat.le_of_ble_eq_true rfl) dJ21_newNode_17) [0] [] 1 rfl rfl rfl rfl 1 6 20 rfl rfl rfl (fun v13 w14 h15 => ?_) (fun _ _ h => h.elim)
    obtain ⟨rfl, rfl⟩ := h15
    refine rn.mono (J := xSt F V0 ([(M, .inr (25, [va_rf tbo, va_rf es, .int (nI sz), .int mc, .int (nI th), .float 1061158912, .null, .null, va_rf hd, .ref q1, .int 0, .int 0]))] ++ stW (L ++ [q1]) (ndX (va_up kd q1 false) (va_up hs q1 hz) (va_up ky q1 k9) (va_up vl q1 v9) (va_up nx q1 none) (va_up (va_up bf q1 none) q1 (some x9)) (va_up (va_up af q1 none) x9 (some q1)) pa lf rt pv rd))) (fun _ h => by rw [← List.append_assoc] at h; exact h) ?_
    show rn C (xSt F V0 ([(M, .inr (25, [va_rf tbo, va_rf es, .int (nI sz), .int mc, .int (nI th), .float 1061158912, .null, .null, va_rf hd, .ref q1, .int 0, .int 0]))] ++ stW (L ++ [q1]) (ndX (va_up kd q1 false) (va_up hs q1 hz) (va_up ky q1 k9) (va_up vl q1 v9) (va_up nx q1 none) (va_up (va_up bf q1 none) q1 (some x9)) (va_up (va_up af q1 none) x9 (some q1)) pa lf rt pv rd))) 1 6 20 [(5, .ref q1), (0, .ref M), (1, .int hz), (2, .ref k9), (3, .ref v9), (4, .null)] []
    refine r_aload hC 0 dJ21_newNode_20 rfl 22 rfl ?_
    exact r_aret hC (v := (some q1)) (Or.inl ⟨_, rfl⟩) (Nat.le_of_ble_eq_true rfl) (Nat.le_of_ble_eq_true rfl) (fun V9 h => hQ _ _ ⟨_, ⟨q1, rfl, hqn, rfl⟩, by rw [← hV0, ← hF]; simp only [hl8, afn, hdn]; rw [up_up] at h; exact h⟩) dJ21_newNode_22
set_option maxHeartbeats 4000000 in
set_option maxRecDepth 100000 in
theorem metJ21_newTreeNodeN (l : Launch) (G : xG) (hG : xGood G) (L : List Nat) (kd : Nat → Bool) (hs : Nat → Int32) (ky vl : Nat → Nat) (nx bf af pa lf rt pv : Nat → Option Nat) (rd : Nat → Int32) (M : Nat) (tbo es : Option Nat) (sz th : Nat) (mc : Int32) (hd tl : Option Nat) (hz : Int32) (k9 v9 : Nat) (htlL : ∀ t, tl = some t → t ∈ L) : xWm l G yJ21_newTreeNode (Cond.code yJ21_newTreeNode cJ21_newTreeNode 6 (some (.object "java/util/HashMap$TreeNode"))) { frames := 4, locals := 92, cells := 1, slots := 11 } [.ref M, .int hz, .ref k9, .ref v9, .null] ([(M, .inr (25, [va_rf tbo, va_rf es, .int (nI sz), .int mc, .int (nI th), .float 1061158912, .null, .null, va_rf hd, va_rf tl, .int 0, .int 0]))] ++ stW L (ndX kd hs ky vl nx bf af pa lf rt pv rd)) (fun v w' => ∃ q : Nat, v = some (.ref q) ∧ q ∉ L ∧ w' = ([(M, .inr (25, [va_rf tbo, va_rf es, .int (nI sz), .int mc, .int (nI th), .float 1061158912, .null, .null, va_rf (hdn hd q tl), .ref q, .int 0, .int 0]))] ++ stW (L ++ [q]) (ndX (va_up kd q true) (va_up hs q hz) (va_up ky q k9) (va_up vl q v9) (va_up nx q none) (va_up bf q tl) (afn af q tl) (va_up pa q none) (va_up lf q none) (va_up rt q none) (va_up pv q none) (va_up rd q 0)))) (fun _ _ => False) := by
  intro V hV
  refine xMet_ofT RJ21 hG rfl (by decide) (Nat.le_of_ble_eq_true rfl) fun C hC hQ hX hl hg _ hTab => ?_
  subst hl hg
  obtain ⟨V0, hV0⟩ : ∃ V0, V0 = V := ⟨_, rfl⟩
  obtain ⟨F, hF⟩ : ∃ F, F = xF ([(M, .inr (25, [va_rf tbo, va_rf es, .int (nI sz), .int mc, .int (nI th), .float 1061158912, .null, .null, va_rf hd, va_rf tl, .int 0, .int 0]))] ++ stW L (ndX kd hs ky vl nx bf af pa lf rt pv rd)) := ⟨_, rfl⟩
  refine rn.mono (J := xSt F V0 ([(M, .inr (25, [va_rf tbo, va_rf es, .int (nI sz), .int mc, .int (nI th), .float 1061158912, .null, .null, va_rf hd, va_rf tl, .int 0, .int 0]))] ++ stW L (ndX kd hs ky vl nx bf af pa lf rt pv rd))) (fun V9 h => by rw [h, hV0, hF]; exact hV.st) ?_
  show rn C (xSt F V0 ([(M, .inr (25, [va_rf tbo, va_rf es, .int (nI sz), .int mc, .int (nI th), .float 1061158912, .null, .null, va_rf hd, va_rf tl, .int 0, .int 0]))] ++ stW L (ndX kd hs ky vl nx bf af pa lf rt pv rd))) 0 0 0 [(0, .ref M), (1, .int hz), (2, .ref k9), (3, .ref v9), (4, .null)] []
  refine r_new (J := fun q1 => xSt F V0 ([(M, .inr (25, [va_rf tbo, va_rf es, .int (nI sz), .int mc, .int (nI th), .float 1061158912, .null, .null, va_rf hd, va_rf tl, .int 0, .int 0])), (q1, .inr (27, [.int 0, .null, .null, .null, .null, .null, .null, .null, .null, .null, .int 0]))] ++ stW L (ndX kd hs ky vl nx bf af pa lf rt pv rd))) hC [.int 0, .null, .null, .null, .null, .null, .null, .null, .null, .null, .int 0] kJ26 q2309 q2310 q145 dfJ26 (Nat.le_of_ble_eq_true rfl) (Nat.le_of_ble_eq_true rfl) dJ21_newTreeNode_0 (fun _ h => h.pushT _) 3 rfl (fun q1 => ?_)
  show rn C (xSt F V0 ([(M, .inr (25, [va_rf tbo, va_rf es, .int (nI sz), .int mc, .int (nI th), .float 1061158912, .null, .null, va_rf hd, va_rf tl, .int 0, .int 0])), (q1, .inr (27, [.int 0, .null, .null, .null, .null, .null, .null, .null, .null, .null, .int 0]))] ++ stW L (ndX kd hs ky vl nx bf af pa lf rt pv rd))) 1 11 3 [(0, .ref M), (1, .int hz), (2, .ref k9), (3, .ref v9), (4, .null)] [.ref q1]
  refine r_dup hC dJ21_newTreeNode_3 rfl 4 rfl ?_
  refine r_iload_n hC 1 dJ21_newTreeNode_4 rfl 5 rfl ?_
  refine r_aload_n hC 2 dJ21_newTreeNode_5 rfl 6 rfl ?_
  refine r_aload_n hC 3 dJ21_newTreeNode_6 rfl 7 rfl ?_
  refine r_aloadN hC 4 dJ21_newTreeNode_7 rfl 9 rfl ?_
  refine xCall.t (wr := [(M, .inr (25, [va_rf tbo, va_rf es, .int (nI sz), .int mc, .int (nI th), .float 1061158912, .null, .null, va_rf hd, va_rf tl, .int 0, .int 0]))]) (r_cI hC q1 [.int hz, .ref k9, .ref v9, .null] mIJ26_init q2311 (fun V9 h9 => (metJ26_init_J26N _ _ hG q1 hz k9 v9) V9 (h9.in.sub [1] rfl rfl)) ⟨rfl, rfl⟩ (Nat.le_of_ble_eq_true rfl) (Nat.le_of_ble_eq_true rfl) rfl (Nat.le_of_ble_eq_true rfl) dJ21_newTreeNode_9) [1] [0] 2 rfl rfl rfl rfl 1 11 12 rfl rfl rfl (fun v2 w3 h4 => ?_) (fun _ _ h => h.elim)
  obtain ⟨rfl, rfl⟩ := h4
  show rn C (xSt F V0 ([(M, .inr (25, [va_rf tbo, va_rf es, .int (nI sz), .int mc, .int (nI th), .float 1061158912, .null, .null, va_rf hd, va_rf tl, .int 0, .int 0])), (q1, .inr (27, [.int hz, .ref k9, .ref v9, .null, .null, .null, .null, .null, .null, .null, .int 0]))] ++ stW L (ndX kd hs ky vl nx bf af pa lf rt pv rd))) 1 11 12 [(0, .ref M), (1, .int hz), (2, .ref k9), (3, .ref v9), (4, .null)] [.ref q1]
  refine r_astore hC 5 [(5, .ref q1), (0, .ref M), (1, .int hz), (2, .ref k9), (3, .ref v9), (4, .null)] dJ21_newTreeNode_12 (Nat.le_of_ble_eq_true rfl) rfl 14 rfl ?_
  refine rn.fact (P := q1 ∉ L) (fun _ h => stW_nin h (List.mem_of_getElem? (i := 1) rfl)) (fun hqn => ?_)
  refine rn.mono (J := xSt F V0 ([(M, .inr (25, [va_rf tbo, va_rf es, .int (nI sz), .int mc, .int (nI th), .float 1061158912, .null, .null, va_rf hd, va_rf tl, .int 0, .int 0]))] ++ stW (L ++ [q1]) (ndX (va_up kd q1 true) (va_up hs q1 hz) (va_up ky q1 k9) (va_up vl q1 v9) (va_up nx q1 none) (va_up bf q1 none) (va_up af q1 none) (va_up pa q1 none) (va_up lf q1 none) (va_up rt q1 none) (va_up pv q1 none) (va_up rd q1 0)))) (fun _ h => stW_addT (ws := [(M, .inr (25, [va_rf tbo, va_rf es, .int (nI sz), .int mc, .int (nI th), .float 1061158912, .null, .null, va_rf hd, va_rf tl, .int 0, .int 0]))]) h) ?_
  show rn C (xSt F V0 ([(M, .inr (25, [va_rf tbo, va_rf es, .int (nI sz), .int mc, .int (nI th), .float 1061158912, .null, .null, va_rf hd, va_rf tl, .int 0, .int 0]))] ++ stW (L ++ [q1]) (ndX (va_up kd q1 true) (va_up hs q1 hz) (va_up ky q1 k9) (va_up vl q1 v9) (va_up nx q1 none) (va_up bf q1 none) (va_up af q1 none) (va_up pa q1 none) (va_up lf q1 none) (va_up rt q1 none) (va_up pv q1 none) (va_up rd q1 0)))) 1 11 14 [(5, .ref q1), (0, .ref M), (1, .int hz), (2, .ref k9), (3, .ref v9), (4, .null)] []
  refine r_aload_n hC 1 dJ21_newTreeNode_14 rfl 15 rfl ?_
  refine r_aload hC 0 dJ21_newTreeNode_15 rfl 17 rfl ?_
  rcases opt_c (tl) with hl8 | ⟨x9, hl8⟩
  · skip
    refine xCall.ct (wcx := [(M, .inr (25, [va_rf tbo, va_rf es, .int (nI sz), .int mc, .int (nI th), .float 1061158912, .null, .null, va_rf hd, va_rf tl, .int 0, .int 0]))]) (wr := []) (r_cV hC kJ21 M [.ref q1] mVJ21_linkNodeAtEnd q2294 (fun _ h => ⟨_, h.get 0 rfl⟩) (fun V9 h9 => (metJ21_linkNodeAtEndA _ _ hG (L ++ [q1]) (va_up kd q1 true) (va_up hs q1 hz) (va_up ky q1 k9) (va_up vl q1 v9) (va_up nx q1 none) (va_up bf q1 none) (va_up af q1 none) (va_up pa q1 none) (va_up lf q1 none) (va_up rt q1 none) (va_up pv q1 none) (va_up rd q1 0) M tbo es sz th mc hd tl q1 (List.mem_append_right _ List.mem_cons_self) hl8) V9 (h9.in.cut (wcx := [(M, .inr (25, [va_rf tbo, va_rf es, .int (nI sz), .int mc, .int (nI th), .float 1061158912, .null, .null, va_rf hd, va_rf tl, .int 0, .int 0]))]) (wr := []) [0] [] 1 rfl rfl rfl rfl)) ⟨rfl, rfl⟩ (Nat.le_of_ble_eq_true rfl) (Nat.le_of_ble_eq_true rfl) rfl (Nat.le_of_ble_eq_true rfl) dJ21_newTreeNode_17) [0] [] 1 rfl rfl rfl rfl 1 11 20 rfl rfl rfl (fun v10 w11 h12 => ?_) (fun _ _ h => h.elim)
    obtain ⟨rfl, rfl⟩ := h12
    refine rn.mono (J := xSt F V0 ([(M, .inr (25, [va_rf tbo, va_rf es, .int (nI sz), .int mc, .int (nI th), .float 1061158912, .null, .null, .ref q1, .ref q1, .int 0, .int 0]))] ++ stW (L ++ [q1]) (ndX (va_up kd q1 true) (va_up hs q1 hz) (va_up ky q1 k9) (va_up vl q1 v9) (va_up nx q1 none) (va_up bf q1 none) (va_up af q1 none) (va_up pa q1 none) (va_up lf q1 none) (va_up rt q1 none) (va_up pv q1 none) (va_up rd q1 0)))) (fun _ h => by rw [← List.append_assoc] at h; exact h) ?_
    show rn C (xSt F V0 ([(M, .inr (25, [va_rf tbo, va_rf es, .int (nI sz), .int mc, .int (nI th), .float 1061158912, .null, .null, .ref q1, .ref q1, .int 0, .int 0]))] ++ stW (L ++ [q1]) (ndX (va_up kd q1 true) (va_up hs q1 hz) (va_up ky q1 k9) (va_up vl q1 v9) (va_up nx q1 none) (va_up bf q1 none) (va_up af q1 none) (va_up pa q1 none) (va_up lf q1 none) (va_up rt q1 none) (va_up pv q1 none) (va_up rd q1 0)))) 1 11 20 [(5, .ref q1), (0, .ref M), (1, .int hz), (2, .ref k9), (3, .ref v9), (4, .null)] []
    refine r_aload hC 0 dJ21_newTreeNode_20 rfl 22 rfl ?_
    exact r_aret hC (v := (some q1)) (Or.inl ⟨_, rfl⟩) (Nat.le_of_ble_eq_true rfl) (Nat.le_of_ble_eq_true rfl) (fun V9 h => hQ _ _ ⟨_, ⟨q1, rfl, hqn, rfl⟩, by rw [← hV0, ← hF]; simp only [hl8, afn, hdn]; exact h⟩) dJ21_newTreeNode_22
  · skip
    refine xCall.ct (wcx := [(M, .inr (25, [va_rf tbo, va_rf es, .int (nI sz), .int mc, .int (nI th), .float 1061158912, .null, .null, va_rf hd, va_rf tl, .int 0, .int 0]))]) (wr := []) (r_cV hC kJ21 M [.ref q1] mVJ21_linkNodeAtEnd q2294 (fun _ h => ⟨_, h.get 0 rfl⟩) (fun V9 h9 => (metJ21_linkNodeAtEndB _ _ hG (L ++ [q1]) (va_up kd q1 true) (va_up hs q1 hz) (va_up ky q1 k9) (va_up vl q1 v9) (va_up nx q1 none) (va_up bf q1 none) (va_up af q1 none) (va_up pa q1 none) (va_up lf q1 none) (va_up rt q1 none) (va_up pv q1 none) (va_up rd q1 0) M tbo es sz th mc hd tl q1 (List.mem_append_right _ List.mem_cons_self) x9 hl8 (List.mem_append_left _ (htlL x9 hl8))) V9 (h9.in.cut (wcx := [(M, .inr (25, [va_rf tbo, va_rf es, .int (nI sz), .int mc, .int (nI th), .float 1061158912, .null, .null, va_rf hd, va_rf tl, .int 0, .int 0]))]) (wr := []) [0] [] 1 rfl rfl rfl rfl)) ⟨rfl, rfl⟩ (Nat.le_of_ble_eq_true rfl) (Nat.le_of_ble_eq_true rfl) rfl (Nat.le_of_ble_eq_true rfl) dJ21_newTreeNode_17) [0] [] 1 rfl rfl rfl rfl 1 11 20 rfl rfl rfl (fun v13 w14 h15 => ?_) (fun _ _ h => h.elim)
    obtain ⟨rfl, rfl⟩ := h15
    refine rn.mono (J := xSt F V0 ([(M, .inr (25, [va_rf tbo, va_rf es, .int (nI sz), .int mc, .int (nI th), .float 1061158912, .null, .null, va_rf hd, .ref q1, .int 0, .int 0]))] ++ stW (L ++ [q1]) (ndX (va_up kd q1 true) (va_up hs q1 hz) (va_up ky q1 k9) (va_up vl q1 v9) (va_up nx q1 none) (va_up (va_up bf q1 none) q1 (some x9)) (va_up (va_up af q1 none) x9 (some q1)) (va_up pa q1 none) (va_up lf q1 none) (va_up rt q1 none) (va_up pv q1 none) (va_up rd q1 0)))) (fun _ h => by rw [← List.append_assoc] at h; exact h) ?_
    show rn C (xSt F V0 ([(M, .inr (25, [va_rf tbo, va_rf es, .int (nI sz), .int mc, .int (nI th), .float 1061158912, .null, .null, va_rf hd, .ref q1, .int 0, .int 0]))] ++ stW (L ++ [q1]) (ndX (va_up kd q1 true) (va_up hs q1 hz) (va_up ky q1 k9) (va_up vl q1 v9) (va_up nx q1 none) (va_up (va_up bf q1 none) q1 (some x9)) (va_up (va_up af q1 none) x9 (some q1)) (va_up pa q1 none) (va_up lf q1 none) (va_up rt q1 none) (va_up pv q1 none) (va_up rd q1 0)))) 1 11 20 [(5, .ref q1), (0, .ref M), (1, .int hz), (2, .ref k9), (3, .ref v9), (4, .null)] []
    refine r_aload hC 0 dJ21_newTreeNode_20 rfl 22 rfl ?_
    exact r_aret hC (v := (some q1)) (Or.inl ⟨_, rfl⟩) (Nat.le_of_ble_eq_true rfl) (Nat.le_of_ble_eq_true rfl) (fun V9 h => hQ _ _ ⟨_, ⟨q1, rfl, hqn, rfl⟩, by rw [← hV0, ← hF]; simp only [hl8, afn, hdn]; rw [up_up] at h; exact h⟩) dJ21_newTreeNode_22
set_option maxHeartbeats 4000000 in
set_option maxRecDepth 100000 in
theorem metJ21_newTreeNodeS (l : Launch) (G : xG) (hG : xGood G) (L : List Nat) (kd : Nat → Bool) (hs : Nat → Int32) (ky vl : Nat → Nat) (nx bf af pa lf rt pv : Nat → Option Nat) (rd : Nat → Int32) (M : Nat) (tbo es : Option Nat) (sz th : Nat) (mc : Int32) (hd tl : Option Nat) (hz : Int32) (k9 v9 : Nat) (n9 : Nat) (htlL : ∀ t, tl = some t → t ∈ L) : xWm l G yJ21_newTreeNode (Cond.code yJ21_newTreeNode cJ21_newTreeNode 6 (some (.object "java/util/HashMap$TreeNode"))) { frames := 4, locals := 92, cells := 1, slots := 11 } [.ref M, .int hz, .ref k9, .ref v9, .ref n9] ([(M, .inr (25, [va_rf tbo, va_rf es, .int (nI sz), .int mc, .int (nI th), .float 1061158912, .null, .null, va_rf hd, va_rf tl, .int 0, .int 0]))] ++ stW L (ndX kd hs ky vl nx bf af pa lf rt pv rd)) (fun v w' => ∃ q : Nat, v = some (.ref q) ∧ q ∉ L ∧ w' = ([(M, .inr (25, [va_rf tbo, va_rf es, .int (nI sz), .int mc, .int (nI th), .float 1061158912, .null, .null, va_rf (hdn hd q tl), .ref q, .int 0, .int 0]))] ++ stW (L ++ [q]) (ndX (va_up kd q true) (va_up hs q hz) (va_up ky q k9) (va_up vl q v9) (va_up nx q (some n9)) (va_up bf q tl) (afn af q tl) (va_up pa q none) (va_up lf q none) (va_up rt q none) (va_up pv q none) (va_up rd q 0)))) (fun _ _ => False) := by
  intro V hV
  refine xMet_ofT RJ21 hG rfl (by decide) (Nat.le_of_ble_eq_true rfl) fun C hC hQ hX hl hg _ hTab => ?_
  subst hl hg
  obtain ⟨V0, hV0⟩ : ∃ V0, V0 = V := ⟨_, rfl⟩
  obtain ⟨F, hF⟩ : ∃ F, F = xF ([(M, .inr (25, [va_rf tbo, va_rf es, .int (nI sz), .int mc, .int (nI th), .float 1061158912, .null, .null, va_rf hd, va_rf tl, .int 0, .int 0]))] ++ stW L (ndX kd hs ky vl nx bf af pa lf rt pv rd)) := ⟨_, rfl⟩
  refine rn.mono (J := xSt F V0 ([(M, .inr (25, [va_rf tbo, va_rf es, .int (nI sz), .int mc, .int (nI th), .float 1061158912, .null, .null, va_rf hd, va_rf tl, .int 0, .int 0]))] ++ stW L (ndX kd hs ky vl nx bf af pa lf rt pv rd))) (fun V9 h => by rw [h, hV0, hF]; exact hV.st) ?_
  show rn C (xSt F V0 ([(M, .inr (25, [va_rf tbo, va_rf es, .int (nI sz), .int mc, .int (nI th), .float 1061158912, .null, .null, va_rf hd, va_rf tl, .int 0, .int 0]))] ++ stW L (ndX kd hs ky vl nx bf af pa lf rt pv rd))) 0 0 0 [(0, .ref M), (1, .int hz), (2, .ref k9), (3, .ref v9), (4, .ref n9)] []
  refine r_new (J := fun q1 => xSt F V0 ([(M, .inr (25, [va_rf tbo, va_rf es, .int (nI sz), .int mc, .int (nI th), .float 1061158912, .null, .null, va_rf hd, va_rf tl, .int 0, .int 0])), (q1, .inr (27, [.int 0, .null, .null, .null, .null, .null, .null, .null, .null, .null, .int 0]))] ++ stW L (ndX kd hs ky vl nx bf af pa lf rt pv rd))) hC [.int 0, .null, .null, .null, .null, .null, .null, .null, .null, .null, .int 0] kJ26 q2309 q2310 q145 dfJ26 (Nat.le_of_ble_eq_true rfl) (Nat.le_of_ble_eq_true rfl) dJ21_newTreeNode_0 (fun _ h => h.pushT _) 3 rfl (fun q1 => ?_)
  show rn C (xSt F V0 ([(M, .inr (25, [va_rf tbo, va_rf es, .int (nI sz), .int mc, .int (nI th), .float 1061158912, .null, .null, va_rf hd, va_rf tl, .int 0, .int 0])), (q1, .inr (27, [.int 0, .null, .null, .null, .null, .null, .null, .null, .null, .null, .int 0]))] ++ stW L (ndX kd hs ky vl nx bf af pa lf rt pv rd))) 1 11 3 [(0, .ref M), (1, .int hz), (2, .ref k9), (3, .ref v9), (4, .ref n9)] [.ref q1]
  refine r_dup hC dJ21_newTreeNode_3 rfl 4 rfl ?_
  refine r_iload_n hC 1 dJ21_newTreeNode_4 rfl 5 rfl ?_
  refine r_aload_n hC 2 dJ21_newTreeNode_5 rfl 6 rfl ?_
  refine r_aload_n hC 3 dJ21_newTreeNode_6 rfl 7 rfl ?_
  refine r_aload hC 4 dJ21_newTreeNode_7 rfl 9 rfl ?_
  refine xCall.t (wr := [(M, .inr (25, [va_rf tbo, va_rf es, .int (nI sz), .int mc, .int (nI th), .float 1061158912, .null, .null, va_rf hd, va_rf tl, .int 0, .int 0]))]) (r_cI hC q1 [.int hz, .ref k9, .ref v9, .ref n9] mIJ26_init q2311 (fun V9 h9 => (metJ26_init_J26S _ _ hG q1 hz k9 v9 n9) V9 (h9.in.sub [1] rfl rfl)) ⟨rfl, rfl⟩ (Nat.le_of_ble_eq_true rfl) (Nat.le_of_ble_eq_true rfl) rfl (Nat.le_of_ble_eq_true rfl) dJ21_newTreeNode_9) [1] [0] 2 rfl rfl rfl rfl 1 11 12 rfl rfl rfl (fun v2 w3 h4 => ?_) (fun _ _ h => h.elim)
  obtain ⟨rfl, rfl⟩ := h4
  show rn C (xSt F V0 ([(M, .inr (25, [va_rf tbo, va_rf es, .int (nI sz), .int mc, .int (nI th), .float 1061158912, .null, .null, va_rf hd, va_rf tl, .int 0, .int 0])), (q1, .inr (27, [.int hz, .ref k9, .ref v9, .ref n9, .null, .null, .null, .null, .null, .null, .int 0]))] ++ stW L (ndX kd hs ky vl nx bf af pa lf rt pv rd))) 1 11 12 [(0, .ref M), (1, .int hz), (2, .ref k9), (3, .ref v9), (4, .ref n9)] [.ref q1]
  refine r_astore hC 5 [(5, .ref q1), (0, .ref M), (1, .int hz), (2, .ref k9), (3, .ref v9), (4, .ref n9)] dJ21_newTreeNode_12 (Nat.le_of_ble_eq_true rfl) rfl 14 rfl ?_
  refine rn.fact (P := q1 ∉ L) (fun _ h => stW_nin h (List.mem_of_getElem? (i := 1) rfl)) (fun hqn => ?_)
  refine rn.mono (J := xSt F V0 ([(M, .inr (25, [va_rf tbo, va_rf es, .int (nI sz), .int mc, .int (nI th), .float 1061158912, .null, .null, va_rf hd, va_rf tl, .int 0, .int 0]))] ++ stW (L ++ [q1]) (ndX (va_up kd q1 true) (va_up hs q1 hz) (va_up ky q1 k9) (va_up vl q1 v9) (va_up nx q1 (some n9)) (va_up bf q1 none) (va_up af q1 none) (va_up pa q1 none) (va_up lf q1 none) (va_up rt q1 none) (va_up pv q1 none) (va_up rd q1 0)))) (fun _ h => stW_addT (ws := [(M, .inr (25, [va_rf tbo, va_rf es, .int (nI sz), .int mc, .int (nI th), .float 1061158912, .null, .null, va_rf hd, va_rf tl, .int 0, .int 0]))]) h) ?_
  show rn C (xSt F V0 ([(M, .inr (25, [va_rf tbo, va_rf es, .int (nI sz), .int mc, .int (nI th), .float 1061158912, .null, .null, va_rf hd, va_rf tl, .int 0, .int 0]))] ++ stW (L ++ [q1]) (ndX (va_up kd q1 true) (va_up hs q1 hz) (va_up ky q1 k9) (va_up vl q1 v9) (va_up nx q1 (some n9)) (va_up bf q1 none) (va_up af q1 none) (va_up pa q1 none) (va_up lf q1 none) (va_up rt q1 none) (va_up pv q1 none) (va_up rd q1 0)))) 1 11 14 [(5, .ref q1), (0, .ref M), (1, .int hz), (2, .ref k9), (3, .ref v9), (4, .ref n9)] []
  refine r_aload_n hC 1 dJ21_newTreeNode_14 rfl 15 rfl ?_
  refine r_aload hC 0 dJ21_newTreeNode_15 rfl 17 rfl ?_
  rcases opt_c (tl) with hl8 | ⟨x9, hl8⟩
  · skip
    refine xCall.ct (wcx := [(M, .inr (25, [va_rf tbo, va_rf es, .int (nI sz), .int mc, .int (nI th), .float 1061158912, .null, .null, va_rf hd, va_rf tl, .int 0, .int 0]))]) (wr := []) (r_cV hC kJ21 M [.ref q1] mVJ21_linkNodeAtEnd q2294 (fun _ h => ⟨_, h.get 0 rfl⟩) (fun V9 h9 => (metJ21_linkNodeAtEndA _ _ hG (L ++ [q1]) (va_up kd q1 true) (va_up hs q1 hz) (va_up ky q1 k9) (va_up vl q1 v9) (va_up nx q1 (some n9)) (va_up bf q1 none) (va_up af q1 none) (va_up pa q1 none) (va_up lf q1 none) (va_up rt q1 none) (va_up pv q1 none) (va_up rd q1 0) M tbo es sz th mc hd tl q1 (List.mem_append_right _ List.mem_cons_self) hl8) V9 (h9.in.cut (wcx := [(M, .inr (25, [va_rf tbo, va_rf es, .int (nI sz), .int mc, .int (nI th), .float 1061158912, .null, .null, va_rf hd, va_rf tl, .int 0, .int 0]))]) (wr := []) [0] [] 1 rfl rfl rfl rfl)) ⟨rfl, rfl⟩ (Nat.le_of_ble_eq_true rfl) (Nat.le_of_ble_eq_true rfl) rfl (Nat.le_of_ble_eq_true rfl) dJ21_newTreeNode_17) [0] [] 1 rfl rfl rfl rfl 1 11 20 rfl rfl rfl (fun v10 w11 h12 => ?_) (fun _ _ h => h.elim)
    obtain ⟨rfl, rfl⟩ := h12
    refine rn.mono (J := xSt F V0 ([(M, .inr (25, [va_rf tbo, va_rf es, .int (nI sz), .int mc, .int (nI th), .float 1061158912, .null, .null, .ref q1, .ref q1, .int 0, .int 0]))] ++ stW (L ++ [q1]) (ndX (va_up kd q1 true) (va_up hs q1 hz) (va_up ky q1 k9) (va_up vl q1 v9) (va_up nx q1 (some n9)) (va_up bf q1 none) (va_up af q1 none) (va_up pa q1 none) (va_up lf q1 none) (va_up rt q1 none) (va_up pv q1 none) (va_up rd q1 0)))) (fun _ h => by rw [← List.append_assoc] at h; exact h) ?_
    show rn C (xSt F V0 ([(M, .inr (25, [va_rf tbo, va_rf es, .int (nI sz), .int mc, .int (nI th), .float 1061158912, .null, .null, .ref q1, .ref q1, .int 0, .int 0]))] ++ stW (L ++ [q1]) (ndX (va_up kd q1 true) (va_up hs q1 hz) (va_up ky q1 k9) (va_up vl q1 v9) (va_up nx q1 (some n9)) (va_up bf q1 none) (va_up af q1 none) (va_up pa q1 none) (va_up lf q1 none) (va_up rt q1 none) (va_up pv q1 none) (va_up rd q1 0)))) 1 11 20 [(5, .ref q1), (0, .ref M), (1, .int hz), (2, .ref k9), (3, .ref v9), (4, .ref n9)] []
    refine r_aload hC 0 dJ21_newTreeNode_20 rfl 22 rfl ?_
    exact r_aret hC (v := (some q1)) (Or.inl ⟨_, rfl⟩) (Nat.le_of_ble_eq_true rfl) (Nat.le_of_ble_eq_true rfl) (fun V9 h => hQ _ _ ⟨_, ⟨q1, rfl, hqn, rfl⟩, by rw [← hV0, ← hF]; simp only [hl8, afn, hdn]; exact h⟩) dJ21_newTreeNode_22
  · skip
    refine xCall.ct (wcx := [(M, .inr (25, [va_rf tbo, va_rf es, .int (nI sz), .int mc, .int (nI th), .float 1061158912, .null, .null, va_rf hd, va_rf tl, .int 0, .int 0]))]) (wr := []) (r_cV hC kJ21 M [.ref q1] mVJ21_linkNodeAtEnd q2294 (fun _ h => ⟨_, h.get 0 rfl⟩) (fun V9 h9 => (metJ21_linkNodeAtEndB _ _ hG (L ++ [q1]) (va_up kd q1 true) (va_up hs q1 hz) (va_up ky q1 k9) (va_up vl q1 v9) (va_up nx q1 (some n9)) (va_up bf q1 none) (va_up af q1 none) (va_up pa q1 none) (va_up lf q1 none) (va_up rt q1 none) (va_up pv q1 none) (va_up rd q1 0) M tbo es sz th mc hd tl q1 (List.mem_append_right _ List.mem_cons_self) x9 hl8 (List.mem_append_left _ (htlL x9 hl8))) V9 (h9.in.cut (wcx := [(M, .inr (25, [va_rf tbo, va_rf es, .int (nI sz), .int mc, .int (nI th), .float 1061158912, .null, .null, va_rf hd, va_rf tl, .int 0, .int 0]))]) (wr := []) [0] [] 1 rfl rfl rfl rfl)) ⟨rfl, rfl⟩ (Nat.le_of_ble_eq_true rfl) (Nat.le_of_ble_eq_true rfl) rfl (Nat.le_of_ble_eq_true rfl) dJ21_newTreeNode_17) [0] [] 1 rfl rfl rfl rfl 1 11 20 rfl rfl rfl (fun v13 w14 h15 => ?_) (fun _ _ h => h.elim)
    obtain ⟨rfl, rfl⟩ := h15
    refine rn.mono (J := xSt F V0 ([(M, .inr (25, [va_rf tbo, va_rf es, .int (nI sz), .int mc, .int (nI th), .float 1061158912, .null, .null, va_rf hd, .ref q1, .int 0, .int 0]))] ++ stW (L ++ [q1]) (ndX (va_up kd q1 true) (va_up hs q1 hz) (va_up ky q1 k9) (va_up vl q1 v9) (va_up nx q1 (some n9)) (va_up (va_up bf q1 none) q1 (some x9)) (va_up (va_up af q1 none) x9 (some q1)) (va_up pa q1 none) (va_up lf q1 none) (va_up rt q1 none) (va_up pv q1 none) (va_up rd q1 0)))) (fun _ h => by rw [← List.append_assoc] at h; exact h) ?_
    show rn C (xSt F V0 ([(M, .inr (25, [va_rf tbo, va_rf es, .int (nI sz), .int mc, .int (nI th), .float 1061158912, .null, .null, va_rf hd, .ref q1, .int 0, .int 0]))] ++ stW (L ++ [q1]) (ndX (va_up kd q1 true) (va_up hs q1 hz) (va_up ky q1 k9) (va_up vl q1 v9) (va_up nx q1 (some n9)) (va_up (va_up bf q1 none) q1 (some x9)) (va_up (va_up af q1 none) x9 (some q1)) (va_up pa q1 none) (va_up lf q1 none) (va_up rt q1 none) (va_up pv q1 none) (va_up rd q1 0)))) 1 11 20 [(5, .ref q1), (0, .ref M), (1, .int hz), (2, .ref k9), (3, .ref v9), (4, .ref n9)] []
    refine r_aload hC 0 dJ21_newTreeNode_20 rfl 22 rfl ?_
    exact r_aret hC (v := (some q1)) (Or.inl ⟨_, rfl⟩) (Nat.le_of_ble_eq_true rfl) (Nat.le_of_ble_eq_true rfl) (fun V9 h => hQ _ _ ⟨_, ⟨q1, rfl, hqn, rfl⟩, by rw [← hV0, ← hF]; simp only [hl8, afn, hdn]; rw [up_up] at h; exact h⟩) dJ21_newTreeNode_22
set_option maxHeartbeats 4000000 in
set_option maxRecDepth 100000 in
theorem metJ21_transferLinks (l : Launch) (G : xG) (hG : xGood G) (L : List Nat) (kd : Nat → Bool) (hs : Nat → Int32) (ky vl : Nat → Nat) (nx bf af pa lf rt pv : Nat → Option Nat) (rd : Nat → Int32) (M : Nat) (tbo es : Option Nat) (sz th : Nat) (mc : Int32) (hd tl : Option Nat) (s q : Nat) (hsL : s ∈ L) (hqL : q ∈ L) (hbL : ∀ b, bf s = some b → b ∈ L) (haL : ∀ b, af s = some b → b ∈ L) : xWm l G yJ21_transferLinks (Cond.code yJ21_transferLinks cJ21_transferLinks 5 none) { frames := 0, locals := 0, cells := 0, slots := 0 } [.ref M, .ref s, .ref q] ([(M, .inr (25, [va_rf tbo, va_rf es, .int (nI sz), .int mc, .int (nI th), .float 1061158912, .null, .null, va_rf hd, va_rf tl, .int 0, .int 0]))] ++ stW L (ndX kd hs ky vl nx bf af pa lf rt pv rd)) (fun v w' => v = none ∧ w' = ([(M, .inr (25, [va_rf tbo, va_rf es, .int (nI sz), .int mc, .int (nI th), .float 1061158912, .null, .null, va_rf (hdn hd q (bf s)), va_rf (hdn tl q (af s)), .int 0, .int 0]))] ++ stW L (ndX kd hs ky vl nx (lkr bf q (bf s) (af s)) (lkr af q (af s) (bf s)) pa lf rt pv rd))) (fun _ _ => False) := by
  intro V hV
  refine xMet_ofT RJ21 hG rfl (by decide) (Nat.le_of_ble_eq_true rfl) fun C hC hQ hX hl hg _ hTab => ?_
  subst hl hg
  obtain ⟨V0, hV0⟩ : ∃ V0, V0 = V := ⟨_, rfl⟩
  obtain ⟨F, hF⟩ : ∃ F, F = xF ([(M, .inr (25, [va_rf tbo, va_rf es, .int (nI sz), .int mc, .int (nI th), .float 1061158912, .null, .null, va_rf hd, va_rf tl, .int 0, .int 0]))] ++ stW L (ndX kd hs ky vl nx bf af pa lf rt pv rd)) := ⟨_, rfl⟩
  refine rn.mono (J := xSt F V0 ([(M, .inr (25, [va_rf tbo, va_rf es, .int (nI sz), .int mc, .int (nI th), .float 1061158912, .null, .null, va_rf hd, va_rf tl, .int 0, .int 0]))] ++ stW L (ndX kd hs ky vl nx bf af pa lf rt pv rd))) (fun V9 h => by rw [h, hV0, hF]; exact hV.st) ?_
  show rn C (xSt F V0 ([(M, .inr (25, [va_rf tbo, va_rf es, .int (nI sz), .int mc, .int (nI th), .float 1061158912, .null, .null, va_rf hd, va_rf tl, .int 0, .int 0]))] ++ stW L (ndX kd hs ky vl nx bf af pa lf rt pv rd))) 0 0 0 [(0, .ref M), (1, .ref s), (2, .ref q)] []
  refine r_aload_n hC 2 dJ21_transferLinks_0 rfl 1 rfl ?_
  refine r_aload_n hC 1 dJ21_transferLinks_1 rfl 2 rfl ?_
  rcases opt_c (bf s) with hl1 | ⟨x2, hl1⟩
  · skip
    refine r_getX (v := .null) hC 4 rfl rfl q2225 q2225 (Or.inl rfl) (Or.inl rfl) (fun _ h => stW_get h hsL rfl) (congrArg (fun o9 => some (va_rf o9)) (hl1)) (congrArg (fun o9 => some (va_rf o9)) (hl1)) dJ21_transferLinks_2 5 rfl ?_
    refine r_dup_x1 hC dJ21_transferLinks_5 rfl rfl 6 rfl ?_
    refine r_putX (J := xSt F V0 ([(M, .inr (25, [va_rf tbo, va_rf es, .int (nI sz), .int mc, .int (nI th), .float 1061158912, .null, .null, va_rf hd, va_rf tl, .int 0, .int 0]))] ++ stW L (ndX kd hs ky vl nx (va_up bf q none) af pa lf rt pv rd))) hC 4 rfl rfl q2225 q2225 (Or.inl rfl) (Or.inl rfl) rfl rfl (fun _ h => stW_get h hqL rfl) rfl rfl rfl rfl dJ21_transferLinks_6 (fun hk9 _ h => stW_set h hqL (ndP_bf hk9)) (fun hk9 _ h => stW_set h hqL (ndX_bf hk9)) 9 rfl ?_
    refine r_astore_nN hC 3 [(3, .null), (0, .ref M), (1, .ref s), (2, .ref q)] dJ21_transferLinks_9 rfl (Nat.le_of_ble_eq_true rfl) rfl 10 rfl ?_
    refine r_aload_n hC 3 dJ21_transferLinks_10 rfl 11 rfl ?_
    refine r_aload_n hC 2 dJ21_transferLinks_11 rfl 12 rfl ?_
    rcases opt_c (af s) with hl3 | ⟨x4, hl3⟩
    · skip
      refine r_getX (v := .null) hC 5 rfl rfl q2227 q2227 (Or.inl rfl) (Or.inl rfl) (fun _ h => stW_get h hsL rfl) (congrArg (fun o9 => some (va_rf o9)) (hl3)) (congrArg (fun o9 => some (va_rf o9)) (hl3)) dJ21_transferLinks_12 15 rfl ?_
      refine r_dup_x1 hC dJ21_transferLinks_15 rfl rfl 16 rfl ?_
      refine r_putX (J := xSt F V0 ([(M, .inr (25, [va_rf tbo, va_rf es, .int (nI sz), .int mc, .int (nI th), .float 1061158912, .null, .null, va_rf hd, va_rf tl, .int 0, .int 0]))] ++ stW L (ndX kd hs ky vl nx (va_up bf q none) (va_up af q none) pa lf rt pv rd))) hC 5 rfl rfl q2227 q2227 (Or.inl rfl) (Or.inl rfl) rfl rfl (fun _ h => stW_get h hqL rfl) rfl rfl rfl rfl dJ21_transferLinks_16 (fun hk9 _ h => stW_set h hqL (ndP_af hk9)) (fun hk9 _ h => stW_set h hqL (ndX_af hk9)) 19 rfl ?_
      refine r_astoreN hC 4 [(4, .null), (3, .null), (0, .ref M), (1, .ref s), (2, .ref q)] dJ21_transferLinks_19 (Nat.le_of_ble_eq_true rfl) rfl 21 rfl ?_
      refine r_aload_nN hC 1 dJ21_transferLinks_21 rfl 22 rfl ?_
      refine r_ifnonnullN hC dJ21_transferLinks_22 25 rfl ?_
      refine r_aload_n hC 2 dJ21_transferLinks_25 rfl 26 rfl ?_
      refine r_aload_n hC 4 dJ21_transferLinks_26 rfl 27 rfl ?_
      refine r_put (J := xSt F V0 ([(M, .inr (25, [va_rf tbo, va_rf es, .int (nI sz), .int mc, .int (nI th), .float 1061158912, .null, .null, .ref q, va_rf tl, .int 0, .int 0]))] ++ stW L (ndX kd hs ky vl nx (va_up bf q none) (va_up af q none) pa lf rt pv rd))) hC kJ21 8 rfl q1764 rfl (fun _ h => h.get 0 rfl) (Nat.le_of_ble_eq_true rfl) (rfl) (rfl) dJ21_transferLinks_27 (fun _ h => h.set 0 _ rfl) 30 rfl ?_
      refine r_goto hC 38 dJ21_transferLinks_30 (by decide) ?_
      refine r_aloadN hC 0 dJ21_transferLinks_38 rfl 40 rfl ?_
      refine r_ifnonnullN hC dJ21_transferLinks_40 43 rfl ?_
      refine r_aload_n hC 2 dJ21_transferLinks_43 rfl 44 rfl ?_
      refine r_aload_n hC 4 dJ21_transferLinks_44 rfl 45 rfl ?_
      refine r_put (J := xSt F V0 ([(M, .inr (25, [va_rf tbo, va_rf es, .int (nI sz), .int mc, .int (nI th), .float 1061158912, .null, .null, .ref q, .ref q, .int 0, .int 0]))] ++ stW L (ndX kd hs ky vl nx (va_up bf q none) (va_up af q none) pa lf rt pv rd))) hC kJ21 9 rfl q1767 rfl (fun _ h => h.get 0 rfl) (Nat.le_of_ble_eq_true rfl) (rfl) (rfl) dJ21_transferLinks_45 (fun _ h => h.set 0 _ rfl) 48 rfl ?_
      refine r_goto hC 57 dJ21_transferLinks_48 (by decide) ?_
      exact r_vret hC (Nat.le_of_ble_eq_true rfl) (Nat.le_of_ble_eq_true rfl) (fun V9 h => hQ _ _ ⟨_, ⟨rfl, rfl⟩, by rw [← hV0, ← hF]; simp only [lkr, hdn, hl1, hl3]; exact h⟩) dJ21_transferLinks_57
    · skip
      refine r_getX (v := .ref x4) hC 5 rfl rfl q2227 q2227 (Or.inl rfl) (Or.inl rfl) (fun _ h => stW_get h hsL rfl) (congrArg (fun o9 => some (va_rf o9)) (hl3)) (congrArg (fun o9 => some (va_rf o9)) (hl3)) dJ21_transferLinks_12 15 rfl ?_
      refine r_dup_x1 hC dJ21_transferLinks_15 rfl rfl 16 rfl ?_
      refine r_putX (J := xSt F V0 ([(M, .inr (25, [va_rf tbo, va_rf es, .int (nI sz), .int mc, .int (nI th), .float 1061158912, .null, .null, va_rf hd, va_rf tl, .int 0, .int 0]))] ++ stW L (ndX kd hs ky vl nx (va_up bf q none) (va_up af q (some x4)) pa lf rt pv rd))) hC 5 rfl rfl q2227 q2227 (Or.inl rfl) (Or.inl rfl) rfl rfl (fun _ h => stW_get h hqL rfl) rfl rfl rfl rfl dJ21_transferLinks_16 (fun hk9 _ h => stW_set h hqL (ndP_af hk9)) (fun hk9 _ h => stW_set h hqL (ndX_af hk9)) 19 rfl ?_
      refine r_astore hC 4 [(4, .ref x4), (3, .null), (0, .ref M), (1, .ref s), (2, .ref q)] dJ21_transferLinks_19 (Nat.le_of_ble_eq_true rfl) rfl 21 rfl ?_
      refine r_aload_nN hC 1 dJ21_transferLinks_21 rfl 22 rfl ?_
      refine r_ifnonnullN hC dJ21_transferLinks_22 25 rfl ?_
      refine r_aload_n hC 2 dJ21_transferLinks_25 rfl 26 rfl ?_
      refine r_aload_n hC 4 dJ21_transferLinks_26 rfl 27 rfl ?_
      refine r_put (J := xSt F V0 ([(M, .inr (25, [va_rf tbo, va_rf es, .int (nI sz), .int mc, .int (nI th), .float 1061158912, .null, .null, .ref q, va_rf tl, .int 0, .int 0]))] ++ stW L (ndX kd hs ky vl nx (va_up bf q none) (va_up af q (some x4)) pa lf rt pv rd))) hC kJ21 8 rfl q1764 rfl (fun _ h => h.get 0 rfl) (Nat.le_of_ble_eq_true rfl) (rfl) (rfl) dJ21_transferLinks_27 (fun _ h => h.set 0 _ rfl) 30 rfl ?_
      refine r_goto hC 38 dJ21_transferLinks_30 (by decide) ?_
      refine r_aload hC 0 dJ21_transferLinks_38 rfl 40 rfl ?_
      refine r_ifnonnull hC 51 dJ21_transferLinks_40 (by decide) ?_
      refine r_aload hC 0 dJ21_transferLinks_51 rfl 53 rfl ?_
      refine r_aload_n hC 4 dJ21_transferLinks_53 rfl 54 rfl ?_
      refine r_putX (J := xSt F V0 ([(M, .inr (25, [va_rf tbo, va_rf es, .int (nI sz), .int mc, .int (nI th), .float 1061158912, .null, .null, .ref q, va_rf tl, .int 0, .int 0]))] ++ stW L (ndX kd hs ky vl nx (va_up (va_up bf q none) x4 (some q)) (va_up af q (some x4)) pa lf rt pv rd))) hC 4 rfl rfl q2225 q2225 (Or.inl rfl) (Or.inl rfl) rfl rfl (fun _ h => stW_get h (haL x4 hl3) rfl) rfl rfl rfl rfl dJ21_transferLinks_54 (fun hk9 _ h => stW_set h (haL x4 hl3) (ndP_bf hk9)) (fun hk9 _ h => stW_set h (haL x4 hl3) (ndX_bf hk9)) 57 rfl ?_
      exact r_vret hC (Nat.le_of_ble_eq_true rfl) (Nat.le_of_ble_eq_true rfl) (fun V9 h => hQ _ _ ⟨_, ⟨rfl, rfl⟩, by rw [← hV0, ← hF]; simp only [lkr, hdn, hl1, hl3]; exact h⟩) dJ21_transferLinks_57
  · skip
    refine r_getX (v := .ref x2) hC 4 rfl rfl q2225 q2225 (Or.inl rfl) (Or.inl rfl) (fun _ h => stW_get h hsL rfl) (congrArg (fun o9 => some (va_rf o9)) (hl1)) (congrArg (fun o9 => some (va_rf o9)) (hl1)) dJ21_transferLinks_2 5 rfl ?_
    refine r_dup_x1 hC dJ21_transferLinks_5 rfl rfl 6 rfl ?_
    refine r_putX (J := xSt F V0 ([(M, .inr (25, [va_rf tbo, va_rf es, .int (nI sz), .int mc, .int (nI th), .float 1061158912, .null, .null, va_rf hd, va_rf tl, .int 0, .int 0]))] ++ stW L (ndX kd hs ky vl nx (va_up bf q (some x2)) af pa lf rt pv rd))) hC 4 rfl rfl q2225 q2225 (Or.inl rfl) (Or.inl rfl) rfl rfl (fun _ h => stW_get h hqL rfl) rfl rfl rfl rfl dJ21_transferLinks_6 (fun hk9 _ h => stW_set h hqL (ndP_bf hk9)) (fun hk9 _ h => stW_set h hqL (ndX_bf hk9)) 9 rfl ?_
    refine r_astore_n hC 3 [(3, .ref x2), (0, .ref M), (1, .ref s), (2, .ref q)] dJ21_transferLinks_9 rfl (Nat.le_of_ble_eq_true rfl) rfl 10 rfl ?_
    refine r_aload_n hC 3 dJ21_transferLinks_10 rfl 11 rfl ?_
    refine r_aload_n hC 2 dJ21_transferLinks_11 rfl 12 rfl ?_
    rcases opt_c (af s) with hl5 | ⟨x6, hl5⟩
    · skip
      refine r_getX (v := .null) hC 5 rfl rfl q2227 q2227 (Or.inl rfl) (Or.inl rfl) (fun _ h => stW_get h hsL rfl) (congrArg (fun o9 => some (va_rf o9)) (hl5)) (congrArg (fun o9 => some (va_rf o9)) (hl5)) dJ21_transferLinks_12 15 rfl ?_
      refine r_dup_x1 hC dJ21_transferLinks_15 rfl rfl 16 rfl ?_
      refine r_putX (J := xSt F V0 ([(M, .inr (25, [va_rf tbo, va_rf es, .int (nI sz), .int mc, .int (nI th), .float 1061158912, .null, .null, va_rf hd, va_rf tl, .int 0, .int 0]))] ++ stW L (ndX kd hs ky vl nx (va_up bf q (some x2)) (va_up af q none) pa lf rt pv rd))) hC 5 rfl rfl q2227 q2227 (Or.inl rfl) (Or.inl rfl) rfl rfl (fun _ h => stW_get h hqL rfl) rfl rfl rfl rfl dJ21_transferLinks_16 (fun hk9 _ h => stW_set h hqL (ndP_af hk9)) (fun hk9 _ h => stW_set h hqL (ndX_af hk9)) 19 rfl ?_
      refine r_astoreN hC 4 [(4, .null), (3, .ref x2), (0, .ref M), (1, .ref s), (2, .ref q)] dJ21_transferLinks_19 (Nat.le_of_ble_eq_true rfl) rfl 21 rfl ?_
      refine r_aload_n hC 1 dJ21_transferLinks_21 rfl 22 rfl ?_
      refine r_ifnonnull hC 33 dJ21_transferLinks_22 (by decide) ?_
      refine r_aload_n hC 1 dJ21_transferLinks_33 rfl 34 rfl ?_
      refine r_aload_n hC 4 dJ21_transferLinks_34 rfl 35 rfl ?_
      refine r_putX (J := xSt F V0 ([(M, .inr (25, [va_rf tbo, va_rf es, .int (nI sz), .int mc, .int (nI th), .float 1061158912, .null, .null, va_rf hd, va_rf tl, .int 0, .int 0]))] ++ stW L (ndX kd hs ky vl nx (va_up bf q (some x2)) (va_up (va_up af q none) x2 (some q)) pa lf rt pv rd))) hC 5 rfl rfl q2227 q2227 (Or.inl rfl) (Or.inl rfl) rfl rfl (fun _ h => stW_get h (hbL x2 hl1) rfl) rfl rfl rfl rfl dJ21_transferLinks_35 (fun hk9 _ h => stW_set h (hbL x2 hl1) (ndP_af hk9)) (fun hk9 _ h => stW_set h (hbL x2 hl1) (ndX_af hk9)) 38 rfl ?_
      refine r_aloadN hC 0 dJ21_transferLinks_38 rfl 40 rfl ?_
      refine r_ifnonnullN hC dJ21_transferLinks_40 43 rfl ?_
      refine r_aload_n hC 2 dJ21_transferLinks_43 rfl 44 rfl ?_
      refine r_aload_n hC 4 dJ21_transferLinks_44 rfl 45 rfl ?_
      refine r_put (J := xSt F V0 ([(M, .inr (25, [va_rf tbo, va_rf es, .int (nI sz), .int mc, .int (nI th), .float 1061158912, .null, .null, va_rf hd, .ref q, .int 0, .int 0]))] ++ stW L (ndX kd hs ky vl nx (va_up bf q (some x2)) (va_up (va_up af q none) x2 (some q)) pa lf rt pv rd))) hC kJ21 9 rfl q1767 rfl (fun _ h => h.get 0 rfl) (Nat.le_of_ble_eq_true rfl) (rfl) (rfl) dJ21_transferLinks_45 (fun _ h => h.set 0 _ rfl) 48 rfl ?_
      refine r_goto hC 57 dJ21_transferLinks_48 (by decide) ?_
      exact r_vret hC (Nat.le_of_ble_eq_true rfl) (Nat.le_of_ble_eq_true rfl) (fun V9 h => hQ _ _ ⟨_, ⟨rfl, rfl⟩, by rw [← hV0, ← hF]; simp only [lkr, hdn, hl1, hl5]; exact h⟩) dJ21_transferLinks_57
    · skip
      refine r_getX (v := .ref x6) hC 5 rfl rfl q2227 q2227 (Or.inl rfl) (Or.inl rfl) (fun _ h => stW_get h hsL rfl) (congrArg (fun o9 => some (va_rf o9)) (hl5)) (congrArg (fun o9 => some (va_rf o9)) (hl5)) dJ21_transferLinks_12 15 rfl ?_
      refine r_dup_x1 hC dJ21_transferLinks_15 rfl rfl 16 rfl ?_
      refine r_putX (J := xSt F V0 ([(M, .inr (25, [va_rf tbo, va_rf es, .int (nI sz), .int mc, .int (nI th), .float 1061158912, .null, .null, va_rf hd, va_rf tl, .int 0, .int 0]))] ++ stW L (ndX kd hs ky vl nx (va_up bf q (some x2)) (va_up af q (some x6)) pa lf rt pv rd))) hC 5 rfl rfl q2227 q2227 (Or.inl rfl) (Or.inl rfl) rfl rfl (fun _ h => stW_get h hqL rfl) rfl rfl rfl rfl dJ21_transferLinks_16 (fun hk9 _ h => stW_set h hqL (ndP_af hk9)) (fun hk9 _ h => stW_set h hqL (ndX_af hk9)) 19 rfl ?_
      refine r_astore hC 4 [(4, .ref x6), (3, .ref x2), (0, .ref M), (1, .ref s), (2, .ref q)] dJ21_transferLinks_19 (Nat.le_of_ble_eq_true rfl) rfl 21 rfl ?_
      refine r_aload_n hC 1 dJ21_transferLinks_21 rfl 22 rfl ?_
      refine r_ifnonnull hC 33 dJ21_transferLinks_22 (by decide) ?_
      refine r_aload_n hC 1 dJ21_transferLinks_33 rfl 34 rfl ?_
      refine r_aload_n hC 4 dJ21_transferLinks_34 rfl 35 rfl ?_
      refine r_putX (J := xSt F V0 ([(M, .inr (25, [va_rf tbo, va_rf es, .int (nI sz), .int mc, .int (nI th), .float 1061158912, .null, .null, va_rf hd, va_rf tl, .int 0, .int 0]))] ++ stW L (ndX kd hs ky vl nx (va_up bf q (some x2)) (va_up (va_up af q (some x6)) x2 (some q)) pa lf rt pv rd))) hC 5 rfl rfl q2227 q2227 (Or.inl rfl) (Or.inl rfl) rfl rfl (fun _ h => stW_get h (hbL x2 hl1) rfl) rfl rfl rfl rfl dJ21_transferLinks_35 (fun hk9 _ h => stW_set h (hbL x2 hl1) (ndP_af hk9)) (fun hk9 _ h => stW_set h (hbL x2 hl1) (ndX_af hk9)) 38 rfl ?_
      refine r_aload hC 0 dJ21_transferLinks_38 rfl 40 rfl ?_
      refine r_ifnonnull hC 51 dJ21_transferLinks_40 (by decide) ?_
      refine r_aload hC 0 dJ21_transferLinks_51 rfl 53 rfl ?_
      refine r_aload_n hC 4 dJ21_transferLinks_53 rfl 54 rfl ?_
      refine r_putX (J := xSt F V0 ([(M, .inr (25, [va_rf tbo, va_rf es, .int (nI sz), .int mc, .int (nI th), .float 1061158912, .null, .null, va_rf hd, va_rf tl, .int 0, .int 0]))] ++ stW L (ndX kd hs ky vl nx (va_up (va_up bf q (some x2)) x6 (some q)) (va_up (va_up af q (some x6)) x2 (some q)) pa lf rt pv rd))) hC 4 rfl rfl q2225 q2225 (Or.inl rfl) (Or.inl rfl) rfl rfl (fun _ h => stW_get h (haL x6 hl5) rfl) rfl rfl rfl rfl dJ21_transferLinks_54 (fun hk9 _ h => stW_set h (haL x6 hl5) (ndP_bf hk9)) (fun hk9 _ h => stW_set h (haL x6 hl5) (ndX_bf hk9)) 57 rfl ?_
      exact r_vret hC (Nat.le_of_ble_eq_true rfl) (Nat.le_of_ble_eq_true rfl) (fun V9 h => hQ _ _ ⟨_, ⟨rfl, rfl⟩, by rw [← hV0, ← hF]; simp only [lkr, hdn, hl1, hl5]; exact h⟩) dJ21_transferLinks_57
set_option maxHeartbeats 4000000 in
set_option maxRecDepth 100000 in
theorem metJ21_replacementNode (l : Launch) (G : xG) (hG : xGood G) (L : List Nat) (kd : Nat → Bool) (hs : Nat → Int32) (ky vl : Nat → Nat) (nx bf af pa lf rt pv : Nat → Option Nat) (rd : Nat → Int32) (M : Nat) (tbo es : Option Nat) (sz th : Nat) (mc : Int32) (hd tl : Option Nat) (s : Nat) (hsL : s ∈ L) (hsk : kd s = true) (hbL : ∀ b, bf s = some b → b ∈ L) (haL : ∀ b, af s = some b → b ∈ L) : xWm l G yJ21_replacementNode (Cond.code yJ21_replacementNode cJ21_replacementNode 5 (some (.object "java/util/HashMap$Node"))) { frames := 3, locals := 68, cells := 1, slots := 6 } [.ref M, .ref s, .null] ([(M, .inr (25, [va_rf tbo, va_rf es, .int (nI sz), .int mc, .int (nI th), .float 1061158912, .null, .null, va_rf hd, va_rf tl, .int 0, .int 0]))] ++ stW L (ndX kd hs ky vl nx bf af pa lf rt pv rd)) (fun v w' => ∃ q : Nat, v = some (.ref q) ∧ q ∉ L ∧ w' = ([(M, .inr (25, [va_rf tbo, va_rf es, .int (nI sz), .int mc, .int (nI th), .float 1061158912, .null, .null, va_rf (hdn hd q (bf s)), va_rf (hdn tl q (af s)), .int 0, .int 0]))] ++ stW (L ++ [q]) (ndX (va_up kd q false) (va_up hs q (hs s)) (va_up ky q (ky s)) (va_up vl q (vl s)) (va_up nx q none) (lkr bf q (bf s) (af s)) (lkr af q (af s) (bf s)) pa lf rt pv rd))) (fun _ _ => False) := by
  intro V hV
  refine xMet_ofT RJ21 hG rfl (by decide) (Nat.le_of_ble_eq_true rfl) fun C hC hQ hX hl hg _ hTab => ?_
  subst hl hg
  obtain ⟨V0, hV0⟩ : ∃ V0, V0 = V := ⟨_, rfl⟩
  obtain ⟨F, hF⟩ : ∃ F, F = xF ([(M, .inr (25, [va_rf tbo, va_rf es, .int (nI sz), .int mc, .int (nI th), .float 1061158912, .null, .null, va_rf hd, va_rf tl, .int 0, .int 0]))] ++ stW L (ndX kd hs ky vl nx bf af pa lf rt pv rd)) := ⟨_, rfl⟩
  refine rn.mono (J := xSt F V0 ([(M, .inr (25, [va_rf tbo, va_rf es, .int (nI sz), .int mc, .int (nI th), .float 1061158912, .null, .null, va_rf hd, va_rf tl, .int 0, .int 0]))] ++ stW L (ndX kd hs ky vl nx bf af pa lf rt pv rd))) (fun V9 h => by rw [h, hV0, hF]; exact hV.st) ?_
  show rn C (xSt F V0 ([(M, .inr (25, [va_rf tbo, va_rf es, .int (nI sz), .int mc, .int (nI th), .float 1061158912, .null, .null, va_rf hd, va_rf tl, .int 0, .int 0]))] ++ stW L (ndX kd hs ky vl nx bf af pa lf rt pv rd))) 0 0 0 [(0, .ref M), (1, .ref s), (2, .null)] []
  refine r_aload_n hC 1 dJ21_replacementNode_0 rfl 1 rfl ?_
  refine r_castY hC hG kJ26 q2167 q3384 (fun _ h => ⟨_, stW_get h hsL (ndX_t hsk)⟩) dJ21_replacementNode_1 4 rfl ?_
  refine r_astore_n hC 3 [(3, .ref s), (0, .ref M), (1, .ref s), (2, .null)] dJ21_replacementNode_4 rfl (Nat.le_of_ble_eq_true rfl) rfl 5 rfl ?_
  refine r_new (J := fun q1 => xSt F V0 ([(M, .inr (25, [va_rf tbo, va_rf es, .int (nI sz), .int mc, .int (nI th), .float 1061158912, .null, .null, va_rf hd, va_rf tl, .int 0, .int 0])), (q1, .inr (26, [.int 0, .null, .null, .null, .null, .null]))] ++ stW L (ndX kd hs ky vl nx bf af pa lf rt pv rd))) hC [.int 0, .null, .null, .null, .null, .null] kJ25 q2167 q2217 q144 dfJ25 (Nat.le_of_ble_eq_true rfl) (Nat.le_of_ble_eq_true rfl) dJ21_replacementNode_5 (fun _ h => h.pushT _) 8 rfl (fun q1 => ?_)
  show rn C (xSt F V0 ([(M, .inr (25, [va_rf tbo, va_rf es, .int (nI sz), .int mc, .int (nI th), .float 1061158912, .null, .null, va_rf hd, va_rf tl, .int 0, .int 0])), (q1, .inr (26, [.int 0, .null, .null, .null, .null, .null]))] ++ stW L (ndX kd hs ky vl nx bf af pa lf rt pv rd))) 1 6 8 [(3, .ref s), (0, .ref M), (1, .ref s), (2, .null)] [.ref q1]
  refine r_dup hC dJ21_replacementNode_8 rfl 9 rfl ?_
  refine r_aload_n hC 0 dJ21_replacementNode_9 rfl 10 rfl ?_
  refine r_getI (v := .int (hs s)) hC kJ26 0 rfl q2232 (Or.inr q2233) (fun _ h => stW_get h hsL (ndX_t hsk)) rfl dJ21_replacementNode_10 13 rfl ?_
  refine r_aload_n hC 0 dJ21_replacementNode_13 rfl 14 rfl ?_
  refine r_getI (v := .ref (ky s)) hC kJ26 1 rfl q2238 (Or.inr q2239) (fun _ h => stW_get h hsL (ndX_t hsk)) rfl dJ21_replacementNode_14 17 rfl ?_
  refine r_aload_n hC 0 dJ21_replacementNode_17 rfl 18 rfl ?_
  refine r_getI (v := .ref (vl s)) hC kJ26 2 rfl q2242 (Or.inr q2243) (fun _ h => stW_get h hsL (ndX_t hsk)) rfl dJ21_replacementNode_18 21 rfl ?_
  refine r_aload_nN hC 3 dJ21_replacementNode_21 rfl 22 rfl ?_
  refine xCall.t (wr := [(M, .inr (25, [va_rf tbo, va_rf es, .int (nI sz), .int mc, .int (nI th), .float 1061158912, .null, .null, va_rf hd, va_rf tl, .int 0, .int 0]))]) (r_cI hC q1 [.int (hs s), .ref (ky s), .ref (vl s), .null] mIJ25_init q2218 (fun V9 h9 => (metJ25_init_J25N _ _ hG q1 (hs s) (ky s) (vl s)) V9 (h9.in.sub [1] rfl rfl)) ⟨rfl, rfl⟩ (Nat.le_of_ble_eq_true rfl) (Nat.le_of_ble_eq_true rfl) rfl (Nat.le_of_ble_eq_true rfl) dJ21_replacementNode_22) [1] [0] 2 rfl rfl rfl rfl 1 6 25 rfl rfl rfl (fun v2 w3 h4 => ?_) (fun _ _ h => h.elim)
  obtain ⟨rfl, rfl⟩ := h4
  show rn C (xSt F V0 ([(M, .inr (25, [va_rf tbo, va_rf es, .int (nI sz), .int mc, .int (nI th), .float 1061158912, .null, .null, va_rf hd, va_rf tl, .int 0, .int 0])), (q1, .inr (26, [.int (hs s), .ref (ky s), .ref (vl s), .null, .null, .null]))] ++ stW L (ndX kd hs ky vl nx bf af pa lf rt pv rd))) 1 6 25 [(3, .ref s), (0, .ref M), (1, .ref s), (2, .null)] [.ref q1]
  refine r_astore hC 4 [(4, .ref q1), (3, .ref s), (0, .ref M), (1, .ref s), (2, .null)] dJ21_replacementNode_25 (Nat.le_of_ble_eq_true rfl) rfl 27 rfl ?_
  refine rn.fact (P := q1 ∉ L) (fun _ h => stW_nin h (List.mem_of_getElem? (i := 1) rfl)) (fun hqn => ?_)
  refine rn.mono (J := xSt F V0 ([(M, .inr (25, [va_rf tbo, va_rf es, .int (nI sz), .int mc, .int (nI th), .float 1061158912, .null, .null, va_rf hd, va_rf tl, .int 0, .int 0]))] ++ stW (L ++ [q1]) (ndX (va_up kd q1 false) (va_up hs q1 (hs s)) (va_up ky q1 (ky s)) (va_up vl q1 (vl s)) (va_up nx q1 none) (va_up bf q1 none) (va_up af q1 none) pa lf rt pv rd))) (fun _ h => stW_addP (ws := [(M, .inr (25, [va_rf tbo, va_rf es, .int (nI sz), .int mc, .int (nI th), .float 1061158912, .null, .null, va_rf hd, va_rf tl, .int 0, .int 0]))]) h) ?_
  have hsq : s ≠ q1 := fun e => hqn (by rw [← e]; exact hsL)
  show rn C (xSt F V0 ([(M, .inr (25, [va_rf tbo, va_rf es, .int (nI sz), .int mc, .int (nI th), .float 1061158912, .null, .null, va_rf hd, va_rf tl, .int 0, .int 0]))] ++ stW (L ++ [q1]) (ndX (va_up kd q1 false) (va_up hs q1 (hs s)) (va_up ky q1 (ky s)) (va_up vl q1 (vl s)) (va_up nx q1 none) (va_up bf q1 none) (va_up af q1 none) pa lf rt pv rd))) 1 6 27 [(4, .ref q1), (3, .ref s), (0, .ref M), (1, .ref s), (2, .null)] []
  refine r_aload_n hC 2 dJ21_replacementNode_27 rfl 28 rfl ?_
  refine r_aload_n hC 1 dJ21_replacementNode_28 rfl 29 rfl ?_
  refine r_aload hC 0 dJ21_replacementNode_29 rfl 31 rfl ?_
  refine xCall.ct (wcx := [(M, .inr (25, [va_rf tbo, va_rf es, .int (nI sz), .int mc, .int (nI th), .float 1061158912, .null, .null, va_rf hd, va_rf tl, .int 0, .int 0]))]) (wr := []) (r_cV hC kJ21 M [.ref s, .ref q1] mVJ21_transferLinks q2265 (fun _ h => ⟨_, h.get 0 rfl⟩) (fun V9 h9 => (metJ21_transferLinks _ _ hG (L ++ [q1]) (va_up kd q1 false) (va_up hs q1 (hs s)) (va_up ky q1 (ky s)) (va_up vl q1 (vl s)) (va_up nx q1 none) (va_up bf q1 none) (va_up af q1 none) pa lf rt pv rd M tbo es sz th mc hd tl s q1 (List.mem_append_left _ hsL) (List.mem_append_right _ List.mem_cons_self) (fun b e => List.mem_append_left _ (hbL b ((up_ne hsq).symm.trans e))) (fun b e => List.mem_append_left _ (haL b ((up_ne hsq).symm.trans e)))) V9 (h9.in.cut (wcx := [(M, .inr (25, [va_rf tbo, va_rf es, .int (nI sz), .int mc, .int (nI th), .float 1061158912, .null, .null, va_rf hd, va_rf tl, .int 0, .int 0]))]) (wr := []) [0] [] 1 rfl rfl rfl rfl)) ⟨rfl, rfl⟩ (Nat.le_of_ble_eq_true rfl) (Nat.le_of_ble_eq_true rfl) rfl (Nat.le_of_ble_eq_true rfl) dJ21_replacementNode_31) [0] [] 1 rfl rfl rfl rfl 1 6 34 rfl rfl rfl (fun v8 w9 h10 => ?_) (fun _ _ h => h.elim)
  obtain ⟨rfl, rfl⟩ := h10
  refine rn.mono (J := xSt F V0 ([(M, .inr (25, [va_rf tbo, va_rf es, .int (nI sz), .int mc, .int (nI th), .float 1061158912, .null, .null, va_rf (hdn hd q1 ((va_up bf q1 none) s)), va_rf (hdn tl q1 ((va_up af q1 none) s)), .int 0, .int 0]))] ++ stW (L ++ [q1]) (ndX (va_up kd q1 false) (va_up hs q1 (hs s)) (va_up ky q1 (ky s)) (va_up vl q1 (vl s)) (va_up nx q1 none) (lkr (va_up bf q1 none) q1 ((va_up bf q1 none) s) ((va_up af q1 none) s)) (lkr (va_up af q1 none) q1 ((va_up af q1 none) s) ((va_up bf q1 none) s)) pa lf rt pv rd))) (fun _ h => by rw [← List.append_assoc] at h; exact h) ?_
  show rn C (xSt F V0 ([(M, .inr (25, [va_rf tbo, va_rf es, .int (nI sz), .int mc, .int (nI th), .float 1061158912, .null, .null, va_rf (hdn hd q1 ((va_up bf q1 none) s)), va_rf (hdn tl q1 ((va_up af q1 none) s)), .int 0, .int 0]))] ++ stW (L ++ [q1]) (ndX (va_up kd q1 false) (va_up hs q1 (hs s)) (va_up ky q1 (ky s)) (va_up vl q1 (vl s)) (va_up nx q1 none) (lkr (va_up bf q1 none) q1 ((va_up bf q1 none) s) ((va_up af q1 none) s)) (lkr (va_up af q1 none) q1 ((va_up af q1 none) s) ((va_up bf q1 none) s)) pa lf rt pv rd))) 1 6 34 [(4, .ref q1), (3, .ref s), (0, .ref M), (1, .ref s), (2, .null)] []
  refine r_aload hC 0 dJ21_replacementNode_34 rfl 36 rfl ?_
  exact r_aret hC (v := (some q1)) (Or.inl ⟨_, rfl⟩) (Nat.le_of_ble_eq_true rfl) (Nat.le_of_ble_eq_true rfl) (fun V9 h => hQ _ _ ⟨_, ⟨q1, rfl, hqn, rfl⟩, by rw [← hV0, ← hF]; rw [lkr_up, lkr_up, up_ne hsq, up_ne hsq] at h; exact h⟩) dJ21_replacementNode_36
set_option maxHeartbeats 4000000 in
set_option maxRecDepth 100000 in
theorem metJ21_replacementTreeNode (l : Launch) (G : xG) (hG : xGood G) (L : List Nat) (kd : Nat → Bool) (hs : Nat → Int32) (ky vl : Nat → Nat) (nx bf af pa lf rt pv : Nat → Option Nat) (rd : Nat → Int32) (M : Nat) (tbo es : Option Nat) (sz th : Nat) (mc : Int32) (hd tl : Option Nat) (s : Nat) (hsL : s ∈ L) (hsk : kd s = false) (hbL : ∀ b, bf s = some b → b ∈ L) (haL : ∀ b, af s = some b → b ∈ L) : xWm l G yJ21_replacementTreeNode (Cond.code yJ21_replacementTreeNode cJ21_replacementTreeNode 5 (some (.object "java/util/HashMap$TreeNode"))) { frames := 4, locals := 92, cells := 1, slots := 11 } [.ref M, .ref s, .null] ([(M, .inr (25, [va_rf tbo, va_rf es, .int (nI sz), .int mc, .int (nI th), .float 1061158912, .null, .null, va_rf hd, va_rf tl, .int 0, .int 0]))] ++ stW L (ndX kd hs ky vl nx bf af pa lf rt pv rd)) (fun v w' => ∃ q : Nat, v = some (.ref q) ∧ q ∉ L ∧ w' = ([(M, .inr (25, [va_rf tbo, va_rf es, .int (nI sz), .int mc, .int (nI th), .float 1061158912, .null, .null, va_rf (hdn hd q (bf s)), va_rf (hdn tl q (af s)), .int 0, .int 0]))] ++ stW (L ++ [q]) (ndX (va_up kd q true) (va_up hs q (hs s)) (va_up ky q (ky s)) (va_up vl q (vl s)) (va_up nx q none) (lkr bf q (bf s) (af s)) (lkr af q (af s) (bf s)) (va_up pa q none) (va_up lf q none) (va_up rt q none) (va_up pv q none) (va_up rd q 0)))) (fun _ _ => False) := by
  intro V hV
  refine xMet_ofT RJ21 hG rfl (by decide) (Nat.le_of_ble_eq_true rfl) fun C hC hQ hX hl hg _ hTab => ?_
  subst hl hg
  obtain ⟨V0, hV0⟩ : ∃ V0, V0 = V := ⟨_, rfl⟩
  obtain ⟨F, hF⟩ : ∃ F, F = xF ([(M, .inr (25, [va_rf tbo, va_rf es, .int (nI sz), .int mc, .int (nI th), .float 1061158912, .null, .null, va_rf hd, va_rf tl, .int 0, .int 0]))] ++ stW L (ndX kd hs ky vl nx bf af pa lf rt pv rd)) := ⟨_, rfl⟩
  refine rn.mono (J := xSt F V0 ([(M, .inr (25, [va_rf tbo, va_rf es, .int (nI sz), .int mc, .int (nI th), .float 1061158912, .null, .null, va_rf hd, va_rf tl, .int 0, .int 0]))] ++ stW L (ndX kd hs ky vl nx bf af pa lf rt pv rd))) (fun V9 h => by rw [h, hV0, hF]; exact hV.st) ?_
  show rn C (xSt F V0 ([(M, .inr (25, [va_rf tbo, va_rf es, .int (nI sz), .int mc, .int (nI th), .float 1061158912, .null, .null, va_rf hd, va_rf tl, .int 0, .int 0]))] ++ stW L (ndX kd hs ky vl nx bf af pa lf rt pv rd))) 0 0 0 [(0, .ref M), (1, .ref s), (2, .null)] []
  refine r_aload_n hC 1 dJ21_replacementTreeNode_0 rfl 1 rfl ?_
  refine r_castS hC kJ25 q2167 (fun _ h => ⟨_, stW_get h hsL (ndX_p hsk)⟩) dJ21_replacementTreeNode_1 4 rfl ?_
  refine r_astore_n hC 3 [(3, .ref s), (0, .ref M), (1, .ref s), (2, .null)] dJ21_replacementTreeNode_4 rfl (Nat.le_of_ble_eq_true rfl) rfl 5 rfl ?_
  refine r_new (J := fun q1 => xSt F V0 ([(M, .inr (25, [va_rf tbo, va_rf es, .int (nI sz), .int mc, .int (nI th), .float 1061158912, .null, .null, va_rf hd, va_rf tl, .int 0, .int 0])), (q1, .inr (27, [.int 0, .null, .null, .null, .null, .null, .null, .null, .null, .null, .int 0]))] ++ stW L (ndX kd hs ky vl nx bf af pa lf rt pv rd))) hC [.int 0, .null, .null, .null, .null, .null, .null, .null, .null, .null, .int 0] kJ26 q2309 q2310 q145 dfJ26 (Nat.le_of_ble_eq_true rfl) (Nat.le_of_ble_eq_true rfl) dJ21_replacementTreeNode_5 (fun _ h => h.pushT _) 8 rfl (fun q1 => ?_)
  show rn C (xSt F V0 ([(M, .inr (25, [va_rf tbo, va_rf es, .int (nI sz), .int mc, .int (nI th), .float 1061158912, .null, .null, va_rf hd, va_rf tl, .int 0, .int 0])), (q1, .inr (27, [.int 0, .null, .null, .null, .null, .null, .null, .null, .null, .null, .int 0]))] ++ stW L (ndX kd hs ky vl nx bf af pa lf rt pv rd))) 1 11 8 [(3, .ref s), (0, .ref M), (1, .ref s), (2, .null)] [.ref q1]
  refine r_dup hC dJ21_replacementTreeNode_8 rfl 9 rfl ?_
  refine r_aload_n hC 0 dJ21_replacementTreeNode_9 rfl 10 rfl ?_
  refine r_getI (v := .int (hs s)) hC kJ25 0 rfl q2232 (Or.inr q2233) (fun _ h => stW_get h hsL (ndX_p hsk)) rfl dJ21_replacementTreeNode_10 13 rfl ?_
  refine r_aload_n hC 0 dJ21_replacementTreeNode_13 rfl 14 rfl ?_
  refine r_getI (v := .ref (ky s)) hC kJ25 1 rfl q2238 (Or.inr q2239) (fun _ h => stW_get h hsL (ndX_p hsk)) rfl dJ21_replacementTreeNode_14 17 rfl ?_
  refine r_aload_n hC 0 dJ21_replacementTreeNode_17 rfl 18 rfl ?_
  refine r_getI (v := .ref (vl s)) hC kJ25 2 rfl q2242 (Or.inr q2243) (fun _ h => stW_get h hsL (ndX_p hsk)) rfl dJ21_replacementTreeNode_18 21 rfl ?_
  refine r_aload_nN hC 3 dJ21_replacementTreeNode_21 rfl 22 rfl ?_
  refine xCall.t (wr := [(M, .inr (25, [va_rf tbo, va_rf es, .int (nI sz), .int mc, .int (nI th), .float 1061158912, .null, .null, va_rf hd, va_rf tl, .int 0, .int 0]))]) (r_cI hC q1 [.int (hs s), .ref (ky s), .ref (vl s), .null] mIJ26_init q2311 (fun V9 h9 => (metJ26_init_J26N _ _ hG q1 (hs s) (ky s) (vl s)) V9 (h9.in.sub [1] rfl rfl)) ⟨rfl, rfl⟩ (Nat.le_of_ble_eq_true rfl) (Nat.le_of_ble_eq_true rfl) rfl (Nat.le_of_ble_eq_true rfl) dJ21_replacementTreeNode_22) [1] [0] 2 rfl rfl rfl rfl 1 11 25 rfl rfl rfl (fun v2 w3 h4 => ?_) (fun _ _ h => h.elim)
  obtain ⟨rfl, rfl⟩ := h4
  show rn C (xSt F V0 ([(M, .inr (25, [va_rf tbo, va_rf es, .int (nI sz), .int mc, .int (nI th), .float 1061158912, .null, .null, va_rf hd, va_rf tl, .int 0, .int 0])), (q1, .inr (27, [.int (hs s), .ref (ky s), .ref (vl s), .null, .null, .null, .null, .null, .null, .null, .int 0]))] ++ stW L (ndX kd hs ky vl nx bf af pa lf rt pv rd))) 1 11 25 [(3, .ref s), (0, .ref M), (1, .ref s), (2, .null)] [.ref q1]
  refine r_astore hC 4 [(4, .ref q1), (3, .ref s), (0, .ref M), (1, .ref s), (2, .null)] dJ21_replacementTreeNode_25 (Nat.le_of_ble_eq_true rfl) rfl 27 rfl ?_
  refine rn.fact (P := q1 ∉ L) (fun _ h => stW_nin h (List.mem_of_getElem? (i := 1) rfl)) (fun hqn => ?_)
  refine rn.mono (J := xSt F V0 ([(M, .inr (25, [va_rf tbo, va_rf es, .int (nI sz), .int mc, .int (nI th), .float 1061158912, .null, .null, va_rf hd, va_rf tl, .int 0, .int 0]))] ++ stW (L ++ [q1]) (ndX (va_up kd q1 true) (va_up hs q1 (hs s)) (va_up ky q1 (ky s)) (va_up vl q1 (vl s)) (va_up nx q1 none) (va_up bf q1 none) (va_up af q1 none) (va_up pa q1 none) (va_up lf q1 none) (va_up rt q1 none) (va_up pv q1 none) (va_up rd q1 0)))) (fun _ h => stW_addT (ws := [(M, .inr (25, [va_rf tbo, va_rf es, .int (nI sz), .int mc, .int (nI th), .float 1061158912, .null, .null, va_rf hd, va_rf tl, .int 0, .int 0]))]) h) ?_
  have hsq : s ≠ q1 := fun e => hqn (by rw [← e]; exact hsL)
  show rn C (xSt F V0 ([(M, .inr (25, [va_rf tbo, va_rf es, .int (nI sz), .int mc, .int (nI th), .float 1061158912, .null, .null, va_rf hd, va_rf tl, .int 0, .int 0]))] ++ stW (L ++ [q1]) (ndX (va_up kd q1 true) (va_up hs q1 (hs s)) (va_up ky q1 (ky s)) (va_up vl q1 (vl s)) (va_up nx q1 none) (va_up bf q1 none) (va_up af q1 none) (va_up pa q1 none) (va_up lf q1 none) (va_up rt q1 none) (va_up pv q1 none) (va_up rd q1 0)))) 1 11 27 [(4, .ref q1), (3, .ref s), (0, .ref M), (1, .ref s), (2, .null)] []
  refine r_aload_n hC 2 dJ21_replacementTreeNode_27 rfl 28 rfl ?_
  refine r_aload_n hC 1 dJ21_replacementTreeNode_28 rfl 29 rfl ?_
  refine r_aload hC 0 dJ21_replacementTreeNode_29 rfl 31 rfl ?_
  refine xCall.ct (wcx := [(M, .inr (25, [va_rf tbo, va_rf es, .int (nI sz), .int mc, .int (nI th), .float 1061158912, .null, .null, va_rf hd, va_rf tl, .int 0, .int 0]))]) (wr := []) (r_cV hC kJ21 M [.ref s, .ref q1] mVJ21_transferLinks q2265 (fun _ h => ⟨_, h.get 0 rfl⟩) (fun V9 h9 => (metJ21_transferLinks _ _ hG (L ++ [q1]) (va_up kd q1 true) (va_up hs q1 (hs s)) (va_up ky q1 (ky s)) (va_up vl q1 (vl s)) (va_up nx q1 none) (va_up bf q1 none) (va_up af q1 none) (va_up pa q1 none) (va_up lf q1 none) (va_up rt q1 none) (va_up pv q1 none) (va_up rd q1 0) M tbo es sz th mc hd tl s q1 (List.mem_append_left _ hsL) (List.mem_append_right _ List.mem_cons_self) (fun b e => List.mem_append_left _ (hbL b ((up_ne hsq).symm.trans e))) (fun b e => List.mem_append_left _ (haL b ((up_ne hsq).symm.trans e)))) V9 (h9.in.cut (wcx := [(M, .inr (25, [va_rf tbo, va_rf es, .int (nI sz), .int mc, .int (nI th), .float 1061158912, .null, .null, va_rf hd, va_rf tl, .int 0, .int 0]))]) (wr := []) [0] [] 1 rfl rfl rfl rfl)) ⟨rfl, rfl⟩ (Nat.le_of_ble_eq_true rfl) (Nat.le_of_ble_eq_true rfl) rfl (Nat.le_of_ble_eq_true rfl) dJ21_replacementTreeNode_31) [0] [] 1 rfl rfl rfl rfl 1 11 34 rfl rfl rfl (fun v8 w9 h10 => ?_) (fun _ _ h => h.elim)
  obtain ⟨rfl, rfl⟩ := h10
  refine rn.mono (J := xSt F V0 ([(M, .inr (25, [va_rf tbo, va_rf es, .int (nI sz), .int mc, .int (nI th), .float 1061158912, .null, .null, va_rf (hdn hd q1 ((va_up bf q1 none) s)), va_rf (hdn tl q1 ((va_up af q1 none) s)), .int 0, .int 0]))] ++ stW (L ++ [q1]) (ndX (va_up kd q1 true) (va_up hs q1 (hs s)) (va_up ky q1 (ky s)) (va_up vl q1 (vl s)) (va_up nx q1 none) (lkr (va_up bf q1 none) q1 ((va_up bf q1 none) s) ((va_up af q1 none) s)) (lkr (va_up af q1 none) q1 ((va_up af q1 none) s) ((va_up bf q1 none) s)) (va_up pa q1 none) (va_up lf q1 none) (va_up rt q1 none) (va_up pv q1 none) (va_up rd q1 0)))) (fun _ h => by rw [← List.append_assoc] at h; exact h) ?_
  show rn C (xSt F V0 ([(M, .inr (25, [va_rf tbo, va_rf es, .int (nI sz), .int mc, .int (nI th), .float 1061158912, .null, .null, va_rf (hdn hd q1 ((va_up bf q1 none) s)), va_rf (hdn tl q1 ((va_up af q1 none) s)), .int 0, .int 0]))] ++ stW (L ++ [q1]) (ndX (va_up kd q1 true) (va_up hs q1 (hs s)) (va_up ky q1 (ky s)) (va_up vl q1 (vl s)) (va_up nx q1 none) (lkr (va_up bf q1 none) q1 ((va_up bf q1 none) s) ((va_up af q1 none) s)) (lkr (va_up af q1 none) q1 ((va_up af q1 none) s) ((va_up bf q1 none) s)) (va_up pa q1 none) (va_up lf q1 none) (va_up rt q1 none) (va_up pv q1 none) (va_up rd q1 0)))) 1 11 34 [(4, .ref q1), (3, .ref s), (0, .ref M), (1, .ref s), (2, .null)] []
  refine r_aload hC 0 dJ21_replacementTreeNode_34 rfl 36 rfl ?_
  exact r_aret hC (v := (some q1)) (Or.inl ⟨_, rfl⟩) (Nat.le_of_ble_eq_true rfl) (Nat.le_of_ble_eq_true rfl) (fun V9 h => hQ _ _ ⟨_, ⟨q1, rfl, hqn, rfl⟩, by rw [← hV0, ← hF]; rw [lkr_up, lkr_up, up_ne hsq, up_ne hsq] at h; exact h⟩) dJ21_replacementTreeNode_36
