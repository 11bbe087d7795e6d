/-! ===== the class: exceptions of texts; Scanner: what looks ===== -/
set_option maxRecDepth 100000
set_option maxHeartbeats 4000000 in
set_option maxRecDepth 100000 in
theorem metJ2_init_2_X10 (l : Launch) (G : xG) (hG : xGood G) (q : Nat) : xWm l G yJ2_init_2 (Cond.code yJ2_init_2 cJ2_init_2 5 none) { frames := 1, locals := 20, cells := 0, slots := 0 } [.ref q, .null, .null, .int 0, .int 0] [(q, .inr (8, [.int 0, .null, .null, .null, .null, .null, .int 0]))] (fun v w' => v = none ∧ w' = [(q, .inr (8, [.int 0, .null, .null, .null, .null, .null, .int 0]))]) (fun _ _ => False) := by
  intro V hV
  refine xMet_ofT RJ2 hG rfl (by decide) (Nat.le_of_ble_eq_true rfl) fun C hC hQ hX hl hg hini hTab => ?_
  subst hl hg
  replace hini := hini rfl
  obtain ⟨oS, hzS⟩ := zq_S hG
  obtain ⟨oU, hzU⟩ := zq_U hG
  obtain ⟨V0, hV0⟩ : ∃ V0, V0 = V := ⟨_, rfl⟩
  obtain ⟨F, hF⟩ : ∃ F, F = xF [(q, .inr (8, [.int 0, .null, .null, .null, .null, .null, .int 0]))] := ⟨_, rfl⟩
  refine rn.mono (J := xSt F V0 [(q, .inr (8, [.int 0, .null, .null, .null, .null, .null, .int 0]))]) (fun V9 h => by rw [h, hV0, hF]; exact hV.st) ?_
  show rn C (xSt F V0 [(q, .inr (8, [.int 0, .null, .null, .null, .null, .null, .int 0]))]) 0 0 0 [(0, .ref q), (1, .null), (2, .null), (3, .int 0), (4, .int 0)] []
  refine r_aload_n hC 0 dJ2_init_2_0 rfl 1 rfl ?_
  refine r_objInit hC q365 (Nat.le_of_ble_eq_true rfl) (Nat.le_of_ble_eq_true rfl) (Nat.le_of_ble_eq_true rfl) dJ2_init_2_1 4 rfl ?_
  refine r_aload_n hC 0 dJ2_init_2_4 rfl 5 rfl ?_
  refine r_aload_n hC 0 dJ2_init_2_5 rfl 6 rfl ?_
  refine r_put (J := xSt F V0 [(q, .inr (8, [.int 0, .ref q, .null, .null, .null, .null, .int 0]))]) hC kX10 1 rfl q397 rfl (fun _ h => h.get 0 rfl) (Nat.le_of_ble_eq_true rfl) (rfl) (rfl) dJ2_init_2_6 (fun _ h => h.set 0 _ rfl) 9 rfl ?_
  refine r_aload_n hC 0 dJ2_init_2_9 rfl 10 rfl ?_
  refine r_gets hC hzU q366 dJ2_init_2_10 13 rfl ?_
  refine r_put (J := xSt F V0 [(q, .inr (8, [.int 0, .ref q, va_rf oU, .null, .null, .null, .int 0]))]) hC kX10 2 rfl q398 rfl (fun _ h => h.get 0 rfl) (Nat.le_of_ble_eq_true rfl) (by cases oU <;> rfl) (by cases oU <;> rfl) dJ2_init_2_13 (fun _ h => h.set 0 _ rfl) 16 rfl ?_
  refine r_aload_n hC 0 dJ2_init_2_16 rfl 17 rfl ?_
  refine r_gets hC hzS q368 dJ2_init_2_17 20 rfl ?_
  refine r_put (J := xSt F V0 [(q, .inr (8, [.int 0, .ref q, va_rf oU, va_rf oS, .null, .null, .int 0]))]) hC kX10 3 rfl q399 rfl (fun _ h => h.get 0 rfl) (Nat.le_of_ble_eq_true rfl) (by cases oS <;> rfl) (by cases oS <;> rfl) dJ2_init_2_20 (fun _ h => h.set 0 _ rfl) 23 rfl ?_
  refine r_iload hC 4 dJ2_init_2_23 rfl 25 rfl ?_
  refine r_ifeq hC 36 dJ2_init_2_25 (by decide) 28 rfl (fun _ => ?_) (fun h => absurd h (by decide))
  refine r_aload_n hC 0 dJ2_init_2_36 rfl 37 rfl ?_
  refine r_null hC dJ2_init_2_37 38 rfl ?_
  refine r_put (J := xSt F V0 [(q, .inr (8, [.int 0, .ref q, .null, va_rf oS, .null, .null, .int 0]))]) hC kX10 2 rfl q398 rfl (fun _ h => h.get 0 rfl) (Nat.le_of_ble_eq_true rfl) (rfl) (rfl) dJ2_init_2_38 (fun _ h => h.set 0 _ rfl) 41 rfl ?_
  refine r_aload_n hC 0 dJ2_init_2_41 rfl 42 rfl ?_
  refine r_aload_nN hC 1 dJ2_init_2_42 rfl 43 rfl ?_
  refine r_put (J := xSt F V0 [(q, .inr (8, [.int 0, .ref q, .null, va_rf oS, .null, .null, .int 0]))]) hC kX10 4 rfl q396 rfl (fun _ h => h.get 0 rfl) (Nat.le_of_ble_eq_true rfl) (rfl) (rfl) dJ2_init_2_43 (fun _ h => h.set 0 _ rfl) 46 rfl ?_
  refine r_aload_n hC 0 dJ2_init_2_46 rfl 47 rfl ?_
  refine r_aload_nN hC 2 dJ2_init_2_47 rfl 48 rfl ?_
  refine r_put (J := xSt F V0 [(q, .inr (8, [.int 0, .null, .null, va_rf oS, .null, .null, .int 0]))]) hC kX10 1 rfl q397 rfl (fun _ h => h.get 0 rfl) (Nat.le_of_ble_eq_true rfl) (rfl) (rfl) dJ2_init_2_48 (fun _ h => h.set 0 _ rfl) 51 rfl ?_
  refine r_iload_n hC 3 dJ2_init_2_51 rfl 52 rfl ?_
  refine r_ifne hC 60 dJ2_init_2_52 (by decide) 55 rfl (fun h => absurd h (by decide)) (fun _ => ?_)
  refine r_aload_n hC 0 dJ2_init_2_55 rfl 56 rfl ?_
  refine r_null hC dJ2_init_2_56 57 rfl ?_
  refine r_put (J := xSt F V0 [(q, .inr (8, [.int 0, .null, .null, .null, .null, .null, .int 0]))]) hC kX10 3 rfl q399 rfl (fun _ h => h.get 0 rfl) (Nat.le_of_ble_eq_true rfl) (rfl) (rfl) dJ2_init_2_57 (fun _ h => h.set 0 _ rfl) 60 rfl ?_
  exact r_vret hC (Nat.le_of_ble_eq_true rfl) (Nat.le_of_ble_eq_true rfl) (fun V9 h => hQ _ _ ⟨[(q, .inr (8, [.int 0, .null, .null, .null, .null, .null, .int 0]))], ⟨rfl, rfl⟩, by rw [← hV0, ← hF]; exact h⟩) dJ2_init_2_60
set_option maxHeartbeats 4000000 in
set_option maxRecDepth 100000 in
theorem metJ3_init_X10 (l : Launch) (G : xG) (hG : xGood G) (q : Nat) : xWm l G yJ3_init (Cond.code yJ3_init cJ3_init 5 none) { frames := 2, locals := 44, cells := 0, slots := 0 } [.ref q, .null, .null, .int 0, .int 0] [(q, .inr (8, [.int 0, .null, .null, .null, .null, .null, .int 0]))] (fun v w' => v = none ∧ w' = [(q, .inr (8, [.int 0, .null, .null, .null, .null, .null, .int 0]))]) (fun _ _ => False) := by
  intro V hV
  refine xMet_ofT RJ3 hG rfl (by decide) (Nat.le_of_ble_eq_true rfl) fun C hC hQ hX hl hg hini hTab => ?_
  subst hl hg
  replace hini := hini rfl
  obtain ⟨V0, hV0⟩ : ∃ V0, V0 = V := ⟨_, rfl⟩
  obtain ⟨F, hF⟩ : ∃ F, F = xF [(q, .inr (8, [.int 0, .null, .null, .null, .null, .null, .int 0]))] := ⟨_, rfl⟩
  refine rn.mono (J := xSt F V0 [(q, .inr (8, [.int 0, .null, .null, .null, .null, .null, .int 0]))]) (fun V9 h => by rw [h, hV0, hF]; exact hV.st) ?_
  show rn C (xSt F V0 [(q, .inr (8, [.int 0, .null, .null, .null, .null, .null, .int 0]))]) 0 0 0 [(0, .ref q), (1, .null), (2, .null), (3, .int 0), (4, .int 0)] []
  refine r_aload_n hC 0 dJ3_init_0 rfl 1 rfl ?_
  refine r_aload_nN hC 1 dJ3_init_1 rfl 2 rfl ?_
  refine r_aload_nN hC 2 dJ3_init_2 rfl 3 rfl ?_
  refine r_iload_n hC 3 dJ3_init_3 rfl 4 rfl ?_
  refine r_iload hC 4 dJ3_init_4 rfl 6 rfl ?_
  refine xCall.w (wr := []) (r_cI hC q [.null, .null, .int 0, .int 0] mIJ2_init_2 q392 (fun V9 h9 => (metJ2_init_2_X10 _ _ hG q) V9 (h9.in.sub [0] rfl rfl)) ⟨rfl, rfl⟩ (Nat.le_of_ble_eq_true rfl) (Nat.le_of_ble_eq_true rfl) rfl (Nat.le_of_ble_eq_true rfl) dJ3_init_6) [0] [] rfl rfl rfl (by decide) 0 0 9 rfl rfl rfl (fun v1 w2 h3 => ?_) (fun _ _ h => h.elim)
  obtain ⟨rfl, rfl⟩ := h3
  show rn C (xSt F V0 [(q, .inr (8, [.int 0, .null, .null, .null, .null, .null, .int 0]))]) 0 0 9 [(0, .ref q), (1, .null), (2, .null), (3, .int 0), (4, .int 0)] []
  exact r_vret hC (Nat.le_of_ble_eq_true rfl) (Nat.le_of_ble_eq_true rfl) (fun V9 h => hQ _ _ ⟨[(q, .inr (8, [.int 0, .null, .null, .null, .null, .null, .int 0]))], ⟨rfl, rfl⟩, by rw [← hV0, ← hF]; exact h⟩) dJ3_init_9
set_option maxHeartbeats 4000000 in
set_option maxRecDepth 100000 in
theorem metX9_init_X10 (l : Launch) (G : xG) (hG : xGood G) (q g : Nat) : xWm l G yX9_init (Cond.code yX9_init cX9_init 2 none) { frames := 3, locals := 68, cells := 0, slots := 0 } [.ref q, .int (nI g)] [(q, .inr (8, [.int 0, .null, .null, .null, .null, .null, .int 0]))] (fun v w' => v = none ∧ w' = [(q, .inr (8, [.int (nI g), .null, .null, .null, .null, .null, .int 0]))]) (fun _ _ => False) := by
  intro V hV
  refine xMet_ofT RX9 hG rfl (by decide) (Nat.le_of_ble_eq_true rfl) fun C hC hQ hX hl hg hini hTab => ?_
  subst hl hg
  replace hini := hini rfl
  obtain ⟨V0, hV0⟩ : ∃ V0, V0 = V := ⟨_, rfl⟩
  obtain ⟨F, hF⟩ : ∃ F, F = xF [(q, .inr (8, [.int 0, .null, .null, .null, .null, .null, .int 0]))] := ⟨_, rfl⟩
  refine rn.mono (J := xSt F V0 [(q, .inr (8, [.int 0, .null, .null, .null, .null, .null, .int 0]))]) (fun V9 h => by rw [h, hV0, hF]; exact hV.st) ?_
  show rn C (xSt F V0 [(q, .inr (8, [.int 0, .null, .null, .null, .null, .null, .int 0]))]) 0 0 0 [(0, .ref q), (1, .int (nI g))] []
  refine r_aload_n hC 0 dX9_init_0 rfl 1 rfl ?_
  refine r_null hC dX9_init_1 2 rfl ?_
  refine r_null hC dX9_init_2 3 rfl ?_
  refine r_iconst hC 0 dX9_init_3 ic_0 4 rfl ?_
  refine r_iconst hC 0 dX9_init_4 ic_0 5 rfl ?_
  refine xCall.w (wr := []) (r_cI hC q [.null, .null, .int 0, .int 0] mIJ3_init q1365 (fun V9 h9 => (metJ3_init_X10 _ _ hG q) V9 (h9.in.sub [0] rfl rfl)) ⟨rfl, rfl⟩ (Nat.le_of_ble_eq_true rfl) (Nat.le_of_ble_eq_true rfl) rfl (Nat.le_of_ble_eq_true rfl) dX9_init_5) [0] [] rfl rfl rfl (by decide) 0 0 8 rfl rfl rfl (fun v1 w2 h3 => ?_) (fun _ _ h => h.elim)
  obtain ⟨rfl, rfl⟩ := h3
  show rn C (xSt F V0 [(q, .inr (8, [.int 0, .null, .null, .null, .null, .null, .int 0]))]) 0 0 8 [(0, .ref q), (1, .int (nI g))] []
  refine r_aload_n hC 0 dX9_init_8 rfl 9 rfl ?_
  refine r_iload_n hC 1 dX9_init_9 rfl 10 rfl ?_
  refine r_putF (J := xSt F V0 [(q, .inr (8, [.int (nI g), .null, .null, .null, .null, .null, .int 0]))]) hC hini kX10 0 rfl q1366 rfl rfl (fun _ h => h.get 0 rfl) (Nat.le_of_ble_eq_true rfl) (rfl) (rfl) dX9_init_10 (fun _ h => h.set 0 _ rfl) 13 rfl ?_
  exact r_vret hC (Nat.le_of_ble_eq_true rfl) (Nat.le_of_ble_eq_true rfl) (fun V9 h => hQ _ _ ⟨[(q, .inr (8, [.int (nI g), .null, .null, .null, .null, .null, .int 0]))], ⟨rfl, rfl⟩, by rw [← hV0, ← hF]; exact h⟩) dX9_init_13
set_option maxHeartbeats 4000000 in
set_option maxRecDepth 100000 in
theorem metX10_init (l : Launch) (G : xG) (hG : xGood G) (q g : Nat) : xWm l G yX10_init (Cond.code yX10_init cX10_init 2 none) { frames := 4, locals := 89, cells := 0, slots := 0 } [.ref q, .int (nI g)] [(q, .inr (8, [.int 0, .null, .null, .null, .null, .null, .int 0]))] (fun v w' => v = none ∧ w' = [(q, .inr (8, [.int (nI g), .null, .null, .null, .null, .null, .int 0]))]) (fun _ _ => False) := by
  intro V hV
  refine xMet_ofT RX10 hG rfl (by decide) (Nat.le_of_ble_eq_true rfl) fun C hC hQ hX hl hg hini hTab => ?_
  subst hl hg
  replace hini := hini rfl
  obtain ⟨V0, hV0⟩ : ∃ V0, V0 = V := ⟨_, rfl⟩
  obtain ⟨F, hF⟩ : ∃ F, F = xF [(q, .inr (8, [.int 0, .null, .null, .null, .null, .null, .int 0]))] := ⟨_, rfl⟩
  refine rn.mono (J := xSt F V0 [(q, .inr (8, [.int 0, .null, .null, .null, .null, .null, .int 0]))]) (fun V9 h => by rw [h, hV0, hF]; exact hV.st) ?_
  show rn C (xSt F V0 [(q, .inr (8, [.int 0, .null, .null, .null, .null, .null, .int 0]))]) 0 0 0 [(0, .ref q), (1, .int (nI g))] []
  refine r_aload_n hC 0 dX10_init_0 rfl 1 rfl ?_
  refine r_iload_n hC 1 dX10_init_1 rfl 2 rfl ?_
  refine xCall.w (wr := []) (r_cI hC q [.int (nI g)] mIX9_init q1362 (fun V9 h9 => (metX9_init_X10 _ _ hG q g) V9 (h9.in.sub [0] rfl rfl)) ⟨rfl, rfl⟩ (Nat.le_of_ble_eq_true rfl) (Nat.le_of_ble_eq_true rfl) rfl (Nat.le_of_ble_eq_true rfl) dX10_init_2) [0] [] rfl rfl rfl (by decide) 0 0 5 rfl rfl rfl (fun v1 w2 h3 => ?_) (fun _ _ h => h.elim)
  obtain ⟨rfl, rfl⟩ := h3
  show rn C (xSt F V0 [(q, .inr (8, [.int (nI g), .null, .null, .null, .null, .null, .int 0]))]) 0 0 5 [(0, .ref q), (1, .int (nI g))] []
  exact r_vret hC (Nat.le_of_ble_eq_true rfl) (Nat.le_of_ble_eq_true rfl) (fun V9 h => hQ _ _ ⟨[(q, .inr (8, [.int (nI g), .null, .null, .null, .null, .null, .int 0]))], ⟨rfl, rfl⟩, by rw [← hV0, ← hF]; exact h⟩) dX10_init_5
set_option maxHeartbeats 4000000 in
set_option maxRecDepth 100000 in
theorem metJ2_init_2_X11 (l : Launch) (G : xG) (hG : xGood G) (q : Nat) : xWm l G yJ2_init_2 (Cond.code yJ2_init_2 cJ2_init_2 5 none) { frames := 1, locals := 20, cells := 0, slots := 0 } [.ref q, .null, .null, .int 0, .int 0] [(q, .inr (9, [.int 0, .null, .null, .null, .null, .null, .int 0]))] (fun v w' => v = none ∧ w' = [(q, .inr (9, [.int 0, .null, .null, .null, .null, .null, .int 0]))]) (fun _ _ => False) := by
  intro V hV
  refine xMet_ofT RJ2 hG rfl (by decide) (Nat.le_of_ble_eq_true rfl) fun C hC hQ hX hl hg hini hTab => ?_
  subst hl hg
  replace hini := hini rfl
  obtain ⟨oS, hzS⟩ := zq_S hG
  obtain ⟨oU, hzU⟩ := zq_U hG
  obtain ⟨V0, hV0⟩ : ∃ V0, V0 = V := ⟨_, rfl⟩
  obtain ⟨F, hF⟩ : ∃ F, F = xF [(q, .inr (9, [.int 0, .null, .null, .null, .null, .null, .int 0]))] := ⟨_, rfl⟩
  refine rn.mono (J := xSt F V0 [(q, .inr (9, [.int 0, .null, .null, .null, .null, .null, .int 0]))]) (fun V9 h => by rw [h, hV0, hF]; exact hV.st) ?_
  show rn C (xSt F V0 [(q, .inr (9, [.int 0, .null, .null, .null, .null, .null, .int 0]))]) 0 0 0 [(0, .ref q), (1, .null), (2, .null), (3, .int 0), (4, .int 0)] []
  refine r_aload_n hC 0 dJ2_init_2_0 rfl 1 rfl ?_
  refine r_objInit hC q365 (Nat.le_of_ble_eq_true rfl) (Nat.le_of_ble_eq_true rfl) (Nat.le_of_ble_eq_true rfl) dJ2_init_2_1 4 rfl ?_
  refine r_aload_n hC 0 dJ2_init_2_4 rfl 5 rfl ?_
  refine r_aload_n hC 0 dJ2_init_2_5 rfl 6 rfl ?_
  refine r_put (J := xSt F V0 [(q, .inr (9, [.int 0, .ref q, .null, .null, .null, .null, .int 0]))]) hC kX11 1 rfl q397 rfl (fun _ h => h.get 0 rfl) (Nat.le_of_ble_eq_true rfl) (rfl) (rfl) dJ2_init_2_6 (fun _ h => h.set 0 _ rfl) 9 rfl ?_
  refine r_aload_n hC 0 dJ2_init_2_9 rfl 10 rfl ?_
  refine r_gets hC hzU q366 dJ2_init_2_10 13 rfl ?_
  refine r_put (J := xSt F V0 [(q, .inr (9, [.int 0, .ref q, va_rf oU, .null, .null, .null, .int 0]))]) hC kX11 2 rfl q398 rfl (fun _ h => h.get 0 rfl) (Nat.le_of_ble_eq_true rfl) (by cases oU <;> rfl) (by cases oU <;> rfl) dJ2_init_2_13 (fun _ h => h.set 0 _ rfl) 16 rfl ?_
  refine r_aload_n hC 0 dJ2_init_2_16 rfl 17 rfl ?_
  refine r_gets hC hzS q368 dJ2_init_2_17 20 rfl ?_
  refine r_put (J := xSt F V0 [(q, .inr (9, [.int 0, .ref q, va_rf oU, va_rf oS, .null, .null, .int 0]))]) hC kX11 3 rfl q399 rfl (fun _ h => h.get 0 rfl) (Nat.le_of_ble_eq_true rfl) (by cases oS <;> rfl) (by cases oS <;> rfl) dJ2_init_2_20 (fun _ h => h.set 0 _ rfl) 23 rfl ?_
  refine r_iload hC 4 dJ2_init_2_23 rfl 25 rfl ?_
  refine r_ifeq hC 36 dJ2_init_2_25 (by decide) 28 rfl (fun _ => ?_) (fun h => absurd h (by decide))
  refine r_aload_n hC 0 dJ2_init_2_36 rfl 37 rfl ?_
  refine r_null hC dJ2_init_2_37 38 rfl ?_
  refine r_put (J := xSt F V0 [(q, .inr (9, [.int 0, .ref q, .null, va_rf oS, .null, .null, .int 0]))]) hC kX11 2 rfl q398 rfl (fun _ h => h.get 0 rfl) (Nat.le_of_ble_eq_true rfl) (rfl) (rfl) dJ2_init_2_38 (fun _ h => h.set 0 _ rfl) 41 rfl ?_
  refine r_aload_n hC 0 dJ2_init_2_41 rfl 42 rfl ?_
  refine r_aload_nN hC 1 dJ2_init_2_42 rfl 43 rfl ?_
  refine r_put (J := xSt F V0 [(q, .inr (9, [.int 0, .ref q, .null, va_rf oS, .null, .null, .int 0]))]) hC kX11 4 rfl q396 rfl (fun _ h => h.get 0 rfl) (Nat.le_of_ble_eq_true rfl) (rfl) (rfl) dJ2_init_2_43 (fun _ h => h.set 0 _ rfl) 46 rfl ?_
  refine r_aload_n hC 0 dJ2_init_2_46 rfl 47 rfl ?_
  refine r_aload_nN hC 2 dJ2_init_2_47 rfl 48 rfl ?_
  refine r_put (J := xSt F V0 [(q, .inr (9, [.int 0, .null, .null, va_rf oS, .null, .null, .int 0]))]) hC kX11 1 rfl q397 rfl (fun _ h => h.get 0 rfl) (Nat.le_of_ble_eq_true rfl) (rfl) (rfl) dJ2_init_2_48 (fun _ h => h.set 0 _ rfl) 51 rfl ?_
  refine r_iload_n hC 3 dJ2_init_2_51 rfl 52 rfl ?_
  refine r_ifne hC 60 dJ2_init_2_52 (by decide) 55 rfl (fun h => absurd h (by decide)) (fun _ => ?_)
  refine r_aload_n hC 0 dJ2_init_2_55 rfl 56 rfl ?_
  refine r_null hC dJ2_init_2_56 57 rfl ?_
  refine r_put (J := xSt F V0 [(q, .inr (9, [.int 0, .null, .null, .null, .null, .null, .int 0]))]) hC kX11 3 rfl q399 rfl (fun _ h => h.get 0 rfl) (Nat.le_of_ble_eq_true rfl) (rfl) (rfl) dJ2_init_2_57 (fun _ h => h.set 0 _ rfl) 60 rfl ?_
  exact r_vret hC (Nat.le_of_ble_eq_true rfl) (Nat.le_of_ble_eq_true rfl) (fun V9 h => hQ _ _ ⟨[(q, .inr (9, [.int 0, .null, .null, .null, .null, .null, .int 0]))], ⟨rfl, rfl⟩, by rw [← hV0, ← hF]; exact h⟩) dJ2_init_2_60
set_option maxHeartbeats 4000000 in
set_option maxRecDepth 100000 in
theorem metJ3_init_X11 (l : Launch) (G : xG) (hG : xGood G) (q : Nat) : xWm l G yJ3_init (Cond.code yJ3_init cJ3_init 5 none) { frames := 2, locals := 44, cells := 0, slots := 0 } [.ref q, .null, .null, .int 0, .int 0] [(q, .inr (9, [.int 0, .null, .null, .null, .null, .null, .int 0]))] (fun v w' => v = none ∧ w' = [(q, .inr (9, [.int 0, .null, .null, .null, .null, .null, .int 0]))]) (fun _ _ => False) := by
  intro V hV
  refine xMet_ofT RJ3 hG rfl (by decide) (Nat.le_of_ble_eq_true rfl) fun C hC hQ hX hl hg hini hTab => ?_
  subst hl hg
  replace hini := hini rfl
  obtain ⟨V0, hV0⟩ : ∃ V0, V0 = V := ⟨_, rfl⟩
  obtain ⟨F, hF⟩ : ∃ F, F = xF [(q, .inr (9, [.int 0, .null, .null, .null, .null, .null, .int 0]))] := ⟨_, rfl⟩
  refine rn.mono (J := xSt F V0 [(q, .inr (9, [.int 0, .null, .null, .null, .null, .null, .int 0]))]) (fun V9 h => by rw [h, hV0, hF]; exact hV.st) ?_
  show rn C (xSt F V0 [(q, .inr (9, [.int 0, .null, .null, .null, .null, .null, .int 0]))]) 0 0 0 [(0, .ref q), (1, .null), (2, .null), (3, .int 0), (4, .int 0)] []
  refine r_aload_n hC 0 dJ3_init_0 rfl 1 rfl ?_
  refine r_aload_nN hC 1 dJ3_init_1 rfl 2 rfl ?_
  refine r_aload_nN hC 2 dJ3_init_2 rfl 3 rfl ?_
  refine r_iload_n hC 3 dJ3_init_3 rfl 4 rfl ?_
  refine r_iload hC 4 dJ3_init_4 rfl 6 rfl ?_
  refine xCall.w (wr := []) (r_cI hC q [.null, .null, .int 0, .int 0] mIJ2_init_2 q392 (fun V9 h9 => (metJ2_init_2_X11 _ _ hG q) V9 (h9.in.sub [0] rfl rfl)) ⟨rfl, rfl⟩ (Nat.le_of_ble_eq_true rfl) (Nat.le_of_ble_eq_true rfl) rfl (Nat.le_of_ble_eq_true rfl) dJ3_init_6) [0] [] rfl rfl rfl (by decide) 0 0 9 rfl rfl rfl (fun v1 w2 h3 => ?_) (fun _ _ h => h.elim)
  obtain ⟨rfl, rfl⟩ := h3
  show rn C (xSt F V0 [(q, .inr (9, [.int 0, .null, .null, .null, .null, .null, .int 0]))]) 0 0 9 [(0, .ref q), (1, .null), (2, .null), (3, .int 0), (4, .int 0)] []
  exact r_vret hC (Nat.le_of_ble_eq_true rfl) (Nat.le_of_ble_eq_true rfl) (fun V9 h => hQ _ _ ⟨[(q, .inr (9, [.int 0, .null, .null, .null, .null, .null, .int 0]))], ⟨rfl, rfl⟩, by rw [← hV0, ← hF]; exact h⟩) dJ3_init_9
set_option maxHeartbeats 4000000 in
set_option maxRecDepth 100000 in
theorem metX9_init_X11 (l : Launch) (G : xG) (hG : xGood G) (q g : Nat) : xWm l G yX9_init (Cond.code yX9_init cX9_init 2 none) { frames := 3, locals := 68, cells := 0, slots := 0 } [.ref q, .int (nI g)] [(q, .inr (9, [.int 0, .null, .null, .null, .null, .null, .int 0]))] (fun v w' => v = none ∧ w' = [(q, .inr (9, [.int (nI g), .null, .null, .null, .null, .null, .int 0]))]) (fun _ _ => False) := by
  intro V hV
  refine xMet_ofT RX9 hG rfl (by decide) (Nat.le_of_ble_eq_true rfl) fun C hC hQ hX hl hg hini hTab => ?_
  subst hl hg
  replace hini := hini rfl
  obtain ⟨V0, hV0⟩ : ∃ V0, V0 = V := ⟨_, rfl⟩
  obtain ⟨F, hF⟩ : ∃ F, F = xF [(q, .inr (9, [.int 0, .null, .null, .null, .null, .null, .int 0]))] := ⟨_, rfl⟩
  refine rn.mono (J := xSt F V0 [(q, .inr (9, [.int 0, .null, .null, .null, .null, .null, .int 0]))]) (fun V9 h => by rw [h, hV0, hF]; exact hV.st) ?_
  show rn C (xSt F V0 [(q, .inr (9, [.int 0, .null, .null, .null, .null, .null, .int 0]))]) 0 0 0 [(0, .ref q), (1, .int (nI g))] []
  refine r_aload_n hC 0 dX9_init_0 rfl 1 rfl ?_
  refine r_null hC dX9_init_1 2 rfl ?_
  refine r_null hC dX9_init_2 3 rfl ?_
  refine r_iconst hC 0 dX9_init_3 ic_0 4 rfl ?_
  refine r_iconst hC 0 dX9_init_4 ic_0 5 rfl ?_
  refine xCall.w (wr := []) (r_cI hC q [.null, .null, .int 0, .int 0] mIJ3_init q1365 (fun V9 h9 => (metJ3_init_X11 _ _ hG q) V9 (h9.in.sub [0] rfl rfl)) ⟨rfl, rfl⟩ (Nat.le_of_ble_eq_true rfl) (Nat.le_of_ble_eq_true rfl) rfl (Nat.le_of_ble_eq_true rfl) dX9_init_5) [0] [] rfl rfl rfl (by decide) 0 0 8 rfl rfl rfl (fun v1 w2 h3 => ?_) (fun _ _ h => h.elim)
  obtain ⟨rfl, rfl⟩ := h3
  show rn C (xSt F V0 [(q, .inr (9, [.int 0, .null, .null, .null, .null, .null, .int 0]))]) 0 0 8 [(0, .ref q), (1, .int (nI g))] []
  refine r_aload_n hC 0 dX9_init_8 rfl 9 rfl ?_
  refine r_iload_n hC 1 dX9_init_9 rfl 10 rfl ?_
  refine r_putF (J := xSt F V0 [(q, .inr (9, [.int (nI g), .null, .null, .null, .null, .null, .int 0]))]) hC hini kX11 0 rfl q1366 rfl rfl (fun _ h => h.get 0 rfl) (Nat.le_of_ble_eq_true rfl) (rfl) (rfl) dX9_init_10 (fun _ h => h.set 0 _ rfl) 13 rfl ?_
  exact r_vret hC (Nat.le_of_ble_eq_true rfl) (Nat.le_of_ble_eq_true rfl) (fun V9 h => hQ _ _ ⟨[(q, .inr (9, [.int (nI g), .null, .null, .null, .null, .null, .int 0]))], ⟨rfl, rfl⟩, by rw [← hV0, ← hF]; exact h⟩) dX9_init_13
set_option maxHeartbeats 4000000 in
set_option maxRecDepth 100000 in
theorem metX11_init (l : Launch) (G : xG) (hG : xGood G) (q g : Nat) : xWm l G yX11_init (Cond.code yX11_init cX11_init 2 none) { frames := 4, locals := 89, cells := 0, slots := 0 } [.ref q, .int (nI g)] [(q, .inr (9, [.int 0, .null, .null, .null, .null, .null, .int 0]))] (fun v w' => v = none ∧ w' = [(q, .inr (9, [.int (nI g), .null, .null, .null, .null, .null, .int 0]))]) (fun _ _ => False) := by
  intro V hV
  refine xMet_ofT RX11 hG rfl (by decide) (Nat.le_of_ble_eq_true rfl) fun C hC hQ hX hl hg hini hTab => ?_
  subst hl hg
  replace hini := hini rfl
  obtain ⟨V0, hV0⟩ : ∃ V0, V0 = V := ⟨_, rfl⟩
  obtain ⟨F, hF⟩ : ∃ F, F = xF [(q, .inr (9, [.int 0, .null, .null, .null, .null, .null, .int 0]))] := ⟨_, rfl⟩
  refine rn.mono (J := xSt F V0 [(q, .inr (9, [.int 0, .null, .null, .null, .null, .null, .int 0]))]) (fun V9 h => by rw [h, hV0, hF]; exact hV.st) ?_
  show rn C (xSt F V0 [(q, .inr (9, [.int 0, .null, .null, .null, .null, .null, .int 0]))]) 0 0 0 [(0, .ref q), (1, .int (nI g))] []
  refine r_aload_n hC 0 dX11_init_0 rfl 1 rfl ?_
  refine r_iload_n hC 1 dX11_init_1 rfl 2 rfl ?_
  refine xCall.w (wr := []) (r_cI hC q [.int (nI g)] mIX9_init q1384 (fun V9 h9 => (metX9_init_X11 _ _ hG q g) V9 (h9.in.sub [0] rfl rfl)) ⟨rfl, rfl⟩ (Nat.le_of_ble_eq_true rfl) (Nat.le_of_ble_eq_true rfl) rfl (Nat.le_of_ble_eq_true rfl) dX11_init_2) [0] [] rfl rfl rfl (by decide) 0 0 5 rfl rfl rfl (fun v1 w2 h3 => ?_) (fun _ _ h => h.elim)
  obtain ⟨rfl, rfl⟩ := h3
  show rn C (xSt F V0 [(q, .inr (9, [.int (nI g), .null, .null, .null, .null, .null, .int 0]))]) 0 0 5 [(0, .ref q), (1, .int (nI g))] []
  exact r_vret hC (Nat.le_of_ble_eq_true rfl) (Nat.le_of_ble_eq_true rfl) (fun V9 h => hQ _ _ ⟨[(q, .inr (9, [.int (nI g), .null, .null, .null, .null, .null, .int 0]))], ⟨rfl, rfl⟩, by rw [← hV0, ← hF]; exact h⟩) dX11_init_5
set_option maxHeartbeats 4000000 in
set_option maxRecDepth 100000 in
theorem metJ2_init_2_X12 (l : Launch) (G : xG) (hG : xGood G) (q : Nat) : xWm l G yJ2_init_2 (Cond.code yJ2_init_2 cJ2_init_2 5 none) { frames := 1, locals := 20, cells := 0, slots := 0 } [.ref q, .null, .null, .int 0, .int 0] [(q, .inr (10, [.int 0, .null, .null, .null, .null, .null, .int 0]))] (fun v w' => v = none ∧ w' = [(q, .inr (10, [.int 0, .null, .null, .null, .null, .null, .int 0]))]) (fun _ _ => False) := by
  intro V hV
  refine xMet_ofT RJ2 hG rfl (by decide) (Nat.le_of_ble_eq_true rfl) fun C hC hQ hX hl hg hini hTab => ?_
  subst hl hg
  replace hini := hini rfl
  obtain ⟨oS, hzS⟩ := zq_S hG
  obtain ⟨oU, hzU⟩ := zq_U hG
  obtain ⟨V0, hV0⟩ : ∃ V0, V0 = V := ⟨_, rfl⟩
  obtain ⟨F, hF⟩ : ∃ F, F = xF [(q, .inr (10, [.int 0, .null, .null, .null, .null, .null, .int 0]))] := ⟨_, rfl⟩
  refine rn.mono (J := xSt F V0 [(q, .inr (10, [.int 0, .null, .null, .null, .null, .null, .int 0]))]) (fun V9 h => by rw [h, hV0, hF]; exact hV.st) ?_
  show rn C (xSt F V0 [(q, .inr (10, [.int 0, .null, .null, .null, .null, .null, .int 0]))]) 0 0 0 [(0, .ref q), (1, .null), (2, .null), (3, .int 0), (4, .int 0)] []
  refine r_aload_n hC 0 dJ2_init_2_0 rfl 1 rfl ?_
  refine r_objInit hC q365 (Nat.le_of_ble_eq_true rfl) (Nat.le_of_ble_eq_true rfl) (Nat.le_of_ble_eq_true rfl) dJ2_init_2_1 4 rfl ?_
  refine r_aload_n hC 0 dJ2_init_2_4 rfl 5 rfl ?_
  refine r_aload_n hC 0 dJ2_init_2_5 rfl 6 rfl ?_
  refine r_put (J := xSt F V0 [(q, .inr (10, [.int 0, .ref q, .null, .null, .null, .null, .int 0]))]) hC kX12 1 rfl q397 rfl (fun _ h => h.get 0 rfl) (Nat.le_of_ble_eq_true rfl) (rfl) (rfl) dJ2_init_2_6 (fun _ h => h.set 0 _ rfl) 9 rfl ?_
  refine r_aload_n hC 0 dJ2_init_2_9 rfl 10 rfl ?_
  refine r_gets hC hzU q366 dJ2_init_2_10 13 rfl ?_
  refine r_put (J := xSt F V0 [(q, .inr (10, [.int 0, .ref q, va_rf oU, .null, .null, .null, .int 0]))]) hC kX12 2 rfl q398 rfl (fun _ h => h.get 0 rfl) (Nat.le_of_ble_eq_true rfl) (by cases oU <;> rfl) (by cases oU <;> rfl) dJ2_init_2_13 (fun _ h => h.set 0 _ rfl) 16 rfl ?_
  refine r_aload_n hC 0 dJ2_init_2_16 rfl 17 rfl ?_
  refine r_gets hC hzS q368 dJ2_init_2_17 20 rfl ?_
  refine r_put (J := xSt F V0 [(q, .inr (10, [.int 0, .ref q, va_rf oU, va_rf oS, .null, .null, .int 0]))]) hC kX12 3 rfl q399 rfl (fun _ h => h.get 0 rfl) (Nat.le_of_ble_eq_true rfl) (by cases oS <;> rfl) (by cases oS <;> rfl) dJ2_init_2_20 (fun _ h => h.set 0 _ rfl) 23 rfl ?_
  refine r_iload hC 4 dJ2_init_2_23 rfl 25 rfl ?_
  refine r_ifeq hC 36 dJ2_init_2_25 (by decide) 28 rfl (fun _ => ?_) (fun h => absurd h (by decide))
  refine r_aload_n hC 0 dJ2_init_2_36 rfl 37 rfl ?_
  refine r_null hC dJ2_init_2_37 38 rfl ?_
  refine r_put (J := xSt F V0 [(q, .inr (10, [.int 0, .ref q, .null, va_rf oS, .null, .null, .int 0]))]) hC kX12 2 rfl q398 rfl (fun _ h => h.get 0 rfl) (Nat.le_of_ble_eq_true rfl) (rfl) (rfl) dJ2_init_2_38 (fun _ h => h.set 0 _ rfl) 41 rfl ?_
  refine r_aload_n hC 0 dJ2_init_2_41 rfl 42 rfl ?_
  refine r_aload_nN hC 1 dJ2_init_2_42 rfl 43 rfl ?_
  refine r_put (J := xSt F V0 [(q, .inr (10, [.int 0, .ref q, .null, va_rf oS, .null, .null, .int 0]))]) hC kX12 4 rfl q396 rfl (fun _ h => h.get 0 rfl) (Nat.le_of_ble_eq_true rfl) (rfl) (rfl) dJ2_init_2_43 (fun _ h => h.set 0 _ rfl) 46 rfl ?_
  refine r_aload_n hC 0 dJ2_init_2_46 rfl 47 rfl ?_
  refine r_aload_nN hC 2 dJ2_init_2_47 rfl 48 rfl ?_
  refine r_put (J := xSt F V0 [(q, .inr (10, [.int 0, .null, .null, va_rf oS, .null, .null, .int 0]))]) hC kX12 1 rfl q397 rfl (fun _ h => h.get 0 rfl) (Nat.le_of_ble_eq_true rfl) (rfl) (rfl) dJ2_init_2_48 (fun _ h => h.set 0 _ rfl) 51 rfl ?_
  refine r_iload_n hC 3 dJ2_init_2_51 rfl 52 rfl ?_
  refine r_ifne hC 60 dJ2_init_2_52 (by decide) 55 rfl (fun h => absurd h (by decide)) (fun _ => ?_)
  refine r_aload_n hC 0 dJ2_init_2_55 rfl 56 rfl ?_
  refine r_null hC dJ2_init_2_56 57 rfl ?_
  refine r_put (J := xSt F V0 [(q, .inr (10, [.int 0, .null, .null, .null, .null, .null, .int 0]))]) hC kX12 3 rfl q399 rfl (fun _ h => h.get 0 rfl) (Nat.le_of_ble_eq_true rfl) (rfl) (rfl) dJ2_init_2_57 (fun _ h => h.set 0 _ rfl) 60 rfl ?_
  exact r_vret hC (Nat.le_of_ble_eq_true rfl) (Nat.le_of_ble_eq_true rfl) (fun V9 h => hQ _ _ ⟨[(q, .inr (10, [.int 0, .null, .null, .null, .null, .null, .int 0]))], ⟨rfl, rfl⟩, by rw [← hV0, ← hF]; exact h⟩) dJ2_init_2_60
set_option maxHeartbeats 4000000 in
set_option maxRecDepth 100000 in
theorem metJ3_init_X12 (l : Launch) (G : xG) (hG : xGood G) (q : Nat) : xWm l G yJ3_init (Cond.code yJ3_init cJ3_init 5 none) { frames := 2, locals := 44, cells := 0, slots := 0 } [.ref q, .null, .null, .int 0, .int 0] [(q, .inr (10, [.int 0, .null, .null, .null, .null, .null, .int 0]))] (fun v w' => v = none ∧ w' = [(q, .inr (10, [.int 0, .null, .null, .null, .null, .null, .int 0]))]) (fun _ _ => False) := by
  intro V hV
  refine xMet_ofT RJ3 hG rfl (by decide) (Nat.le_of_ble_eq_true rfl) fun C hC hQ hX hl hg hini hTab => ?_
  subst hl hg
  replace hini := hini rfl
  obtain ⟨V0, hV0⟩ : ∃ V0, V0 = V := ⟨_, rfl⟩
  obtain ⟨F, hF⟩ : ∃ F, F = xF [(q, .inr (10, [.int 0, .null, .null, .null, .null, .null, .int 0]))] := ⟨_, rfl⟩
  refine rn.mono (J := xSt F V0 [(q, .inr (10, [.int 0, .null, .null, .null, .null, .null, .int 0]))]) (fun V9 h => by rw [h, hV0, hF]; exact hV.st) ?_
  show rn C (xSt F V0 [(q, .inr (10, [.int 0, .null, .null, .null, .null, .null, .int 0]))]) 0 0 0 [(0, .ref q), (1, .null), (2, .null), (3, .int 0), (4, .int 0)] []
  refine r_aload_n hC 0 dJ3_init_0 rfl 1 rfl ?_
  refine r_aload_nN hC 1 dJ3_init_1 rfl 2 rfl ?_
  refine r_aload_nN hC 2 dJ3_init_2 rfl 3 rfl ?_
  refine r_iload_n hC 3 dJ3_init_3 rfl 4 rfl ?_
  refine r_iload hC 4 dJ3_init_4 rfl 6 rfl ?_
  refine xCall.w (wr := []) (r_cI hC q [.null, .null, .int 0, .int 0] mIJ2_init_2 q392 (fun V9 h9 => (metJ2_init_2_X12 _ _ hG q) V9 (h9.in.sub [0] rfl rfl)) ⟨rfl, rfl⟩ (Nat.le_of_ble_eq_true rfl) (Nat.le_of_ble_eq_true rfl) rfl (Nat.le_of_ble_eq_true rfl) dJ3_init_6) [0] [] rfl rfl rfl (by decide) 0 0 9 rfl rfl rfl (fun v1 w2 h3 => ?_) (fun _ _ h => h.elim)
  obtain ⟨rfl, rfl⟩ := h3
  show rn C (xSt F V0 [(q, .inr (10, [.int 0, .null, .null, .null, .null, .null, .int 0]))]) 0 0 9 [(0, .ref q), (1, .null), (2, .null), (3, .int 0), (4, .int 0)] []
  exact r_vret hC (Nat.le_of_ble_eq_true rfl) (Nat.le_of_ble_eq_true rfl) (fun V9 h => hQ _ _ ⟨[(q, .inr (10, [.int 0, .null, .null, .null, .null, .null, .int 0]))], ⟨rfl, rfl⟩, by rw [← hV0, ← hF]; exact h⟩) dJ3_init_9
set_option maxHeartbeats 4000000 in
set_option maxRecDepth 100000 in
theorem metX9_init_X12 (l : Launch) (G : xG) (hG : xGood G) (q g : Nat) : xWm l G yX9_init (Cond.code yX9_init cX9_init 2 none) { frames := 3, locals := 68, cells := 0, slots := 0 } [.ref q, .int (nI g)] [(q, .inr (10, [.int 0, .null, .null, .null, .null, .null, .int 0]))] (fun v w' => v = none ∧ w' = [(q, .inr (10, [.int (nI g), .null, .null, .null, .null, .null, .int 0]))]) (fun _ _ => False) := by
  intro V hV
  refine xMet_ofT RX9 hG rfl (by decide) (Nat.le_of_ble_eq_true rfl) fun C hC hQ hX hl hg hini hTab => ?_
  subst hl hg
  replace hini := hini rfl
  obtain ⟨V0, hV0⟩ : ∃ V0, V0 = V := ⟨_, rfl⟩
  obtain ⟨F, hF⟩ : ∃ F, F = xF [(q, .inr (10, [.int 0, .null, .null, .null, .null, .null, .int 0]))] := ⟨_, rfl⟩
  refine rn.mono (J := xSt F V0 [(q, .inr (10, [.int 0, .null, .null, .null, .null, .null, .int 0]))]) (fun V9 h => by rw [h, hV0, hF]; exact hV.st) ?_
  show rn C (xSt F V0 [(q, .inr (10, [.int 0, .null, .null, .null, .null, .null, .int 0]))]) 0 0 0 [(0, .ref q), (1, .int (nI g))] []
  refine r_aload_n hC 0 dX9_init_0 rfl 1 rfl ?_
  refine r_null hC dX9_init_1 2 rfl ?_
  refine r_null hC dX9_init_2 3 rfl ?_
  refine r_iconst hC 0 dX9_init_3 ic_0 4 rfl ?_
  refine r_iconst hC 0 dX9_init_4 ic_0 5 rfl ?_
  refine xCall.w (wr := []) (r_cI hC q [.null, .null, .int 0, .int 0] mIJ3_init q1365 (fun V9 h9 => (metJ3_init_X12 _ _ hG q) V9 (h9.in.sub [0] rfl rfl)) ⟨rfl, rfl⟩ (Nat.le_of_ble_eq_true rfl) (Nat.le_of_ble_eq_true rfl) rfl (Nat.le_of_ble_eq_true rfl) dX9_init_5) [0] [] rfl rfl rfl (by decide) 0 0 8 rfl rfl rfl (fun v1 w2 h3 => ?_) (fun _ _ h => h.elim)
  obtain ⟨rfl, rfl⟩ := h3
  show rn C (xSt F V0 [(q, .inr (10, [.int 0, .null, .null, .null, .null, .null, .int 0]))]) 0 0 8 [(0, .ref q), (1, .int (nI g))] []
  refine r_aload_n hC 0 dX9_init_8 rfl 9 rfl ?_
  refine r_iload_n hC 1 dX9_init_9 rfl 10 rfl ?_
  refine r_putF (J := xSt F V0 [(q, .inr (10, [.int (nI g), .null, .null, .null, .null, .null, .int 0]))]) hC hini kX12 0 rfl q1366 rfl rfl (fun _ h => h.get 0 rfl) (Nat.le_of_ble_eq_true rfl) (rfl) (rfl) dX9_init_10 (fun _ h => h.set 0 _ rfl) 13 rfl ?_
  exact r_vret hC (Nat.le_of_ble_eq_true rfl) (Nat.le_of_ble_eq_true rfl) (fun V9 h => hQ _ _ ⟨[(q, .inr (10, [.int (nI g), .null, .null, .null, .null, .null, .int 0]))], ⟨rfl, rfl⟩, by rw [← hV0, ← hF]; exact h⟩) dX9_init_13
set_option maxHeartbeats 4000000 in
set_option maxRecDepth 100000 in
theorem metX12_init (l : Launch) (G : xG) (hG : xGood G) (q g : Nat) : xWm l G yX12_init (Cond.code yX12_init cX12_init 2 none) { frames := 4, locals := 89, cells := 0, slots := 0 } [.ref q, .int (nI g)] [(q, .inr (10, [.int 0, .null, .null, .null, .null, .null, .int 0]))] (fun v w' => v = none ∧ w' = [(q, .inr (10, [.int (nI g), .null, .null, .null, .null, .null, .int 0]))]) (fun _ _ => False) := by
  intro V hV
  refine xMet_ofT RX12 hG rfl (by decide) (Nat.le_of_ble_eq_true rfl) fun C hC hQ hX hl hg hini hTab => ?_
  subst hl hg
  replace hini := hini rfl
  obtain ⟨V0, hV0⟩ : ∃ V0, V0 = V := ⟨_, rfl⟩
  obtain ⟨F, hF⟩ : ∃ F, F = xF [(q, .inr (10, [.int 0, .null, .null, .null, .null, .null, .int 0]))] := ⟨_, rfl⟩
  refine rn.mono (J := xSt F V0 [(q, .inr (10, [.int 0, .null, .null, .null, .null, .null, .int 0]))]) (fun V9 h => by rw [h, hV0, hF]; exact hV.st) ?_
  show rn C (xSt F V0 [(q, .inr (10, [.int 0, .null, .null, .null, .null, .null, .int 0]))]) 0 0 0 [(0, .ref q), (1, .int (nI g))] []
  refine r_aload_n hC 0 dX12_init_0 rfl 1 rfl ?_
  refine r_iload_n hC 1 dX12_init_1 rfl 2 rfl ?_
  refine xCall.w (wr := []) (r_cI hC q [.int (nI g)] mIX9_init q1437 (fun V9 h9 => (metX9_init_X12 _ _ hG q g) V9 (h9.in.sub [0] rfl rfl)) ⟨rfl, rfl⟩ (Nat.le_of_ble_eq_true rfl) (Nat.le_of_ble_eq_true rfl) rfl (Nat.le_of_ble_eq_true rfl) dX12_init_2) [0] [] rfl rfl rfl (by decide) 0 0 5 rfl rfl rfl (fun v1 w2 h3 => ?_) (fun _ _ h => h.elim)
  obtain ⟨rfl, rfl⟩ := h3
  show rn C (xSt F V0 [(q, .inr (10, [.int (nI g), .null, .null, .null, .null, .null, .int 0]))]) 0 0 5 [(0, .ref q), (1, .int (nI g))] []
  exact r_vret hC (Nat.le_of_ble_eq_true rfl) (Nat.le_of_ble_eq_true rfl) (fun V9 h => hQ _ _ ⟨[(q, .inr (10, [.int (nI g), .null, .null, .null, .null, .null, .int 0]))], ⟨rfl, rfl⟩, by rw [← hV0, ← hF]; exact h⟩) dX12_init_5
set_option maxHeartbeats 4000000 in
set_option maxRecDepth 100000 in
theorem metJ2_init_2_X20 (l : Launch) (G : xG) (hG : xGood G) (q : Nat) : xWm l G yJ2_init_2 (Cond.code yJ2_init_2 cJ2_init_2 5 none) { frames := 1, locals := 20, cells := 0, slots := 0 } [.ref q, .null, .null, .int 0, .int 0] [(q, .inr (18, [.int 0, .null, .null, .null, .null, .null, .int 0]))] (fun v w' => v = none ∧ w' = [(q, .inr (18, [.int 0, .null, .null, .null, .null, .null, .int 0]))]) (fun _ _ => False) := by
  intro V hV
  refine xMet_ofT RJ2 hG rfl (by decide) (Nat.le_of_ble_eq_true rfl) fun C hC hQ hX hl hg hini hTab => ?_
  subst hl hg
  replace hini := hini rfl
  obtain ⟨oS, hzS⟩ := zq_S hG
  obtain ⟨oU, hzU⟩ := zq_U hG
  obtain ⟨V0, hV0⟩ : ∃ V0, V0 = V := ⟨_, rfl⟩
  obtain ⟨F, hF⟩ : ∃ F, F = xF [(q, .inr (18, [.int 0, .null, .null, .null, .null, .null, .int 0]))] := ⟨_, rfl⟩
  refine rn.mono (J := xSt F V0 [(q, .inr (18, [.int 0, .null, .null, .null, .null, .null, .int 0]))]) (fun V9 h => by rw [h, hV0, hF]; exact hV.st) ?_
  show rn C (xSt F V0 [(q, .inr (18, [.int 0, .null, .null, .null, .null, .null, .int 0]))]) 0 0 0 [(0, .ref q), (1, .null), (2, .null), (3, .int 0), (4, .int 0)] []
  refine r_aload_n hC 0 dJ2_init_2_0 rfl 1 rfl ?_
  refine r_objInit hC q365 (Nat.le_of_ble_eq_true rfl) (Nat.le_of_ble_eq_true rfl) (Nat.le_of_ble_eq_true rfl) dJ2_init_2_1 4 rfl ?_
  refine r_aload_n hC 0 dJ2_init_2_4 rfl 5 rfl ?_
  refine r_aload_n hC 0 dJ2_init_2_5 rfl 6 rfl ?_
  refine r_put (J := xSt F V0 [(q, .inr (18, [.int 0, .ref q, .null, .null, .null, .null, .int 0]))]) hC kX20 1 rfl q397 rfl (fun _ h => h.get 0 rfl) (Nat.le_of_ble_eq_true rfl) (rfl) (rfl) dJ2_init_2_6 (fun _ h => h.set 0 _ rfl) 9 rfl ?_
  refine r_aload_n hC 0 dJ2_init_2_9 rfl 10 rfl ?_
  refine r_gets hC hzU q366 dJ2_init_2_10 13 rfl ?_
  refine r_put (J := xSt F V0 [(q, .inr (18, [.int 0, .ref q, va_rf oU, .null, .null, .null, .int 0]))]) hC kX20 2 rfl q398 rfl (fun _ h => h.get 0 rfl) (Nat.le_of_ble_eq_true rfl) (by cases oU <;> rfl) (by cases oU <;> rfl) dJ2_init_2_13 (fun _ h => h.set 0 _ rfl) 16 rfl ?_
  refine r_aload_n hC 0 dJ2_init_2_16 rfl 17 rfl ?_
  refine r_gets hC hzS q368 dJ2_init_2_17 20 rfl ?_
  refine r_put (J := xSt F V0 [(q, .inr (18, [.int 0, .ref q, va_rf oU, va_rf oS, .null, .null, .int 0]))]) hC kX20 3 rfl q399 rfl (fun _ h => h.get 0 rfl) (Nat.le_of_ble_eq_true rfl) (by cases oS <;> rfl) (by cases oS <;> rfl) dJ2_init_2_20 (fun _ h => h.set 0 _ rfl) 23 rfl ?_
  refine r_iload hC 4 dJ2_init_2_23 rfl 25 rfl ?_
  refine r_ifeq hC 36 dJ2_init_2_25 (by decide) 28 rfl (fun _ => ?_) (fun h => absurd h (by decide))
  refine r_aload_n hC 0 dJ2_init_2_36 rfl 37 rfl ?_
  refine r_null hC dJ2_init_2_37 38 rfl ?_
  refine r_put (J := xSt F V0 [(q, .inr (18, [.int 0, .ref q, .null, va_rf oS, .null, .null, .int 0]))]) hC kX20 2 rfl q398 rfl (fun _ h => h.get 0 rfl) (Nat.le_of_ble_eq_true rfl) (rfl) (rfl) dJ2_init_2_38 (fun _ h => h.set 0 _ rfl) 41 rfl ?_
  refine r_aload_n hC 0 dJ2_init_2_41 rfl 42 rfl ?_
  refine r_aload_nN hC 1 dJ2_init_2_42 rfl 43 rfl ?_
  refine r_put (J := xSt F V0 [(q, .inr (18, [.int 0, .ref q, .null, va_rf oS, .null, .null, .int 0]))]) hC kX20 4 rfl q396 rfl (fun _ h => h.get 0 rfl) (Nat.le_of_ble_eq_true rfl) (rfl) (rfl) dJ2_init_2_43 (fun _ h => h.set 0 _ rfl) 46 rfl ?_
  refine r_aload_n hC 0 dJ2_init_2_46 rfl 47 rfl ?_
  refine r_aload_nN hC 2 dJ2_init_2_47 rfl 48 rfl ?_
  refine r_put (J := xSt F V0 [(q, .inr (18, [.int 0, .null, .null, va_rf oS, .null, .null, .int 0]))]) hC kX20 1 rfl q397 rfl (fun _ h => h.get 0 rfl) (Nat.le_of_ble_eq_true rfl) (rfl) (rfl) dJ2_init_2_48 (fun _ h => h.set 0 _ rfl) 51 rfl ?_
  refine r_iload_n hC 3 dJ2_init_2_51 rfl 52 rfl ?_
  refine r_ifne hC 60 dJ2_init_2_52 (by decide) 55 rfl (fun h => absurd h (by decide)) (fun _ => ?_)
  refine r_aload_n hC 0 dJ2_init_2_55 rfl 56 rfl ?_
  refine r_null hC dJ2_init_2_56 57 rfl ?_
  refine r_put (J := xSt F V0 [(q, .inr (18, [.int 0, .null, .null, .null, .null, .null, .int 0]))]) hC kX20 3 rfl q399 rfl (fun _ h => h.get 0 rfl) (Nat.le_of_ble_eq_true rfl) (rfl) (rfl) dJ2_init_2_57 (fun _ h => h.set 0 _ rfl) 60 rfl ?_
  exact r_vret hC (Nat.le_of_ble_eq_true rfl) (Nat.le_of_ble_eq_true rfl) (fun V9 h => hQ _ _ ⟨[(q, .inr (18, [.int 0, .null, .null, .null, .null, .null, .int 0]))], ⟨rfl, rfl⟩, by rw [← hV0, ← hF]; exact h⟩) dJ2_init_2_60
set_option maxHeartbeats 4000000 in
set_option maxRecDepth 100000 in
theorem metJ3_init_X20 (l : Launch) (G : xG) (hG : xGood G) (q : Nat) : xWm l G yJ3_init (Cond.code yJ3_init cJ3_init 5 none) { frames := 2, locals := 44, cells := 0, slots := 0 } [.ref q, .null, .null, .int 0, .int 0] [(q, .inr (18, [.int 0, .null, .null, .null, .null, .null, .int 0]))] (fun v w' => v = none ∧ w' = [(q, .inr (18, [.int 0, .null, .null, .null, .null, .null, .int 0]))]) (fun _ _ => False) := by
  intro V hV
  refine xMet_ofT RJ3 hG rfl (by decide) (Nat.le_of_ble_eq_true rfl) fun C hC hQ hX hl hg hini hTab => ?_
  subst hl hg
  replace hini := hini rfl
  obtain ⟨V0, hV0⟩ : ∃ V0, V0 = V := ⟨_, rfl⟩
  obtain ⟨F, hF⟩ : ∃ F, F = xF [(q, .inr (18, [.int 0, .null, .null, .null, .null, .null, .int 0]))] := ⟨_, rfl⟩
  refine rn.mono (J := xSt F V0 [(q, .inr (18, [.int 0, .null, .null, .null, .null, .null, .int 0]))]) (fun V9 h => by rw [h, hV0, hF]; exact hV.st) ?_
  show rn C (xSt F V0 [(q, .inr (18, [.int 0, .null, .null, .null, .null, .null, .int 0]))]) 0 0 0 [(0, .ref q), (1, .null), (2, .null), (3, .int 0), (4, .int 0)] []
  refine r_aload_n hC 0 dJ3_init_0 rfl 1 rfl ?_
  refine r_aload_nN hC 1 dJ3_init_1 rfl 2 rfl ?_
  refine r_aload_nN hC 2 dJ3_init_2 rfl 3 rfl ?_
  refine r_iload_n hC 3 dJ3_init_3 rfl 4 rfl ?_
  refine r_iload hC 4 dJ3_init_4 rfl 6 rfl ?_
  refine xCall.w (wr := []) (r_cI hC q [.null, .null, .int 0, .int 0] mIJ2_init_2 q392 (fun V9 h9 => (metJ2_init_2_X20 _ _ hG q) V9 (h9.in.sub [0] rfl rfl)) ⟨rfl, rfl⟩ (Nat.le_of_ble_eq_true rfl) (Nat.le_of_ble_eq_true rfl) rfl (Nat.le_of_ble_eq_true rfl) dJ3_init_6) [0] [] rfl rfl rfl (by decide) 0 0 9 rfl rfl rfl (fun v1 w2 h3 => ?_) (fun _ _ h => h.elim)
  obtain ⟨rfl, rfl⟩ := h3
  show rn C (xSt F V0 [(q, .inr (18, [.int 0, .null, .null, .null, .null, .null, .int 0]))]) 0 0 9 [(0, .ref q), (1, .null), (2, .null), (3, .int 0), (4, .int 0)] []
  exact r_vret hC (Nat.le_of_ble_eq_true rfl) (Nat.le_of_ble_eq_true rfl) (fun V9 h => hQ _ _ ⟨[(q, .inr (18, [.int 0, .null, .null, .null, .null, .null, .int 0]))], ⟨rfl, rfl⟩, by rw [← hV0, ← hF]; exact h⟩) dJ3_init_9
set_option maxHeartbeats 4000000 in
set_option maxRecDepth 100000 in
theorem metX9_init_X20 (l : Launch) (G : xG) (hG : xGood G) (q g : Nat) : xWm l G yX9_init (Cond.code yX9_init cX9_init 2 none) { frames := 3, locals := 68, cells := 0, slots := 0 } [.ref q, .int (nI g)] [(q, .inr (18, [.int 0, .null, .null, .null, .null, .null, .int 0]))] (fun v w' => v = none ∧ w' = [(q, .inr (18, [.int (nI g), .null, .null, .null, .null, .null, .int 0]))]) (fun _ _ => False) := by
  intro V hV
  refine xMet_ofT RX9 hG rfl (by decide) (Nat.le_of_ble_eq_true rfl) fun C hC hQ hX hl hg hini hTab => ?_
  subst hl hg
  replace hini := hini rfl
  obtain ⟨V0, hV0⟩ : ∃ V0, V0 = V := ⟨_, rfl⟩
  obtain ⟨F, hF⟩ : ∃ F, F = xF [(q, .inr (18, [.int 0, .null, .null, .null, .null, .null, .int 0]))] := ⟨_, rfl⟩
  refine rn.mono (J := xSt F V0 [(q, .inr (18, [.int 0, .null, .null, .null, .null, .null, .int 0]))]) (fun V9 h => by rw [h, hV0, hF]; exact hV.st) ?_
  show rn C (xSt F V0 [(q, .inr (18, [.int 0, .null, .null, .null, .null, .null, .int 0]))]) 0 0 0 [(0, .ref q), (1, .int (nI g))] []
  refine r_aload_n hC 0 dX9_init_0 rfl 1 rfl ?_
  refine r_null hC dX9_init_1 2 rfl ?_
  refine r_null hC dX9_init_2 3 rfl ?_
  refine r_iconst hC 0 dX9_init_3 ic_0 4 rfl ?_
  refine r_iconst hC 0 dX9_init_4 ic_0 5 rfl ?_
  refine xCall.w (wr := []) (r_cI hC q [.null, .null, .int 0, .int 0] mIJ3_init q1365 (fun V9 h9 => (metJ3_init_X20 _ _ hG q) V9 (h9.in.sub [0] rfl rfl)) ⟨rfl, rfl⟩ (Nat.le_of_ble_eq_true rfl) (Nat.le_of_ble_eq_true rfl) rfl (Nat.le_of_ble_eq_true rfl) dX9_init_5) [0] [] rfl rfl rfl (by decide) 0 0 8 rfl rfl rfl (fun v1 w2 h3 => ?_) (fun _ _ h => h.elim)
  obtain ⟨rfl, rfl⟩ := h3
  show rn C (xSt F V0 [(q, .inr (18, [.int 0, .null, .null, .null, .null, .null, .int 0]))]) 0 0 8 [(0, .ref q), (1, .int (nI g))] []
  refine r_aload_n hC 0 dX9_init_8 rfl 9 rfl ?_
  refine r_iload_n hC 1 dX9_init_9 rfl 10 rfl ?_
  refine r_putF (J := xSt F V0 [(q, .inr (18, [.int (nI g), .null, .null, .null, .null, .null, .int 0]))]) hC hini kX20 0 rfl q1366 rfl rfl (fun _ h => h.get 0 rfl) (Nat.le_of_ble_eq_true rfl) (rfl) (rfl) dX9_init_10 (fun _ h => h.set 0 _ rfl) 13 rfl ?_
  exact r_vret hC (Nat.le_of_ble_eq_true rfl) (Nat.le_of_ble_eq_true rfl) (fun V9 h => hQ _ _ ⟨[(q, .inr (18, [.int (nI g), .null, .null, .null, .null, .null, .int 0]))], ⟨rfl, rfl⟩, by rw [← hV0, ← hF]; exact h⟩) dX9_init_13
set_option maxHeartbeats 4000000 in
set_option maxRecDepth 100000 in
theorem metX20_init (l : Launch) (G : xG) (hG : xGood G) (q g : Nat) : xWm l G yX20_init (Cond.code yX20_init cX20_init 2 none) { frames := 4, locals := 89, cells := 0, slots := 0 } [.ref q, .int (nI g)] [(q, .inr (18, [.int 0, .null, .null, .null, .null, .null, .int 0]))] (fun v w' => v = none ∧ w' = [(q, .inr (18, [.int (nI g), .null, .null, .null, .null, .null, .int 0]))]) (fun _ _ => False) := by
  intro V hV
  refine xMet_ofT RX20 hG rfl (by decide) (Nat.le_of_ble_eq_true rfl) fun C hC hQ hX hl hg hini hTab => ?_
  subst hl hg
  replace hini := hini rfl
  obtain ⟨V0, hV0⟩ : ∃ V0, V0 = V := ⟨_, rfl⟩
  obtain ⟨F, hF⟩ : ∃ F, F = xF [(q, .inr (18, [.int 0, .null, .null, .null, .null, .null, .int 0]))] := ⟨_, rfl⟩
  refine rn.mono (J := xSt F V0 [(q, .inr (18, [.int 0, .null, .null, .null, .null, .null, .int 0]))]) (fun V9 h => by rw [h, hV0, hF]; exact hV.st) ?_
  show rn C (xSt F V0 [(q, .inr (18, [.int 0, .null, .null, .null, .null, .null, .int 0]))]) 0 0 0 [(0, .ref q), (1, .int (nI g))] []
  refine r_aload_n hC 0 dX20_init_0 rfl 1 rfl ?_
  refine r_iload_n hC 1 dX20_init_1 rfl 2 rfl ?_
  refine xCall.w (wr := []) (r_cI hC q [.int (nI g)] mIX9_init q2631 (fun V9 h9 => (metX9_init_X20 _ _ hG q g) V9 (h9.in.sub [0] rfl rfl)) ⟨rfl, rfl⟩ (Nat.le_of_ble_eq_true rfl) (Nat.le_of_ble_eq_true rfl) rfl (Nat.le_of_ble_eq_true rfl) dX20_init_2) [0] [] rfl rfl rfl (by decide) 0 0 5 rfl rfl rfl (fun v1 w2 h3 => ?_) (fun _ _ h => h.elim)
  obtain ⟨rfl, rfl⟩ := h3
  show rn C (xSt F V0 [(q, .inr (18, [.int (nI g), .null, .null, .null, .null, .null, .int 0]))]) 0 0 5 [(0, .ref q), (1, .int (nI g))] []
  exact r_vret hC (Nat.le_of_ble_eq_true rfl) (Nat.le_of_ble_eq_true rfl) (fun V9 h => hQ _ _ ⟨[(q, .inr (18, [.int (nI g), .null, .null, .null, .null, .null, .int 0]))], ⟨rfl, rfl⟩, by rw [← hV0, ← hF]; exact h⟩) dX20_init_5
set_option maxHeartbeats 4000000 in
set_option maxRecDepth 100000 in
theorem metX8_wrong (l : Launch) (G : xG) (hG : xGood G) (sc tx sy en g nx : Nat) (kd vl : Int32) (wd : Option Nat) : xWm l G yX8_wrong (Cond.code yX8_wrong cX8_wrong 1 (some (.object "ThreeBodies$SyntaxException"))) { frames := 5, locals := 110, cells := 1, slots := 7 } [.ref sc] [(sc, .inr (7, [.ref tx, .int (nI en), .ref sy, .int kd, .int (nI g), .int (nI nx), .int vl, va_rf wd]))] (fun v w' => ∃ q : Nat, v = some (.ref q) ∧ w' = [(sc, .inr (7, [.ref tx, .int (nI en), .ref sy, .int kd, .int (nI g), .int (nI nx), .int vl, va_rf wd])), (q, .inr (8, [.int (nI g), .null, .null, .null, .null, .null, .int 0]))]) (fun _ _ => False) := by
  intro V hV
  refine xMet_ofT RX8 hG rfl (by decide) (Nat.le_of_ble_eq_true rfl) fun C hC hQ hX hl hg _ hTab => ?_
  subst hl hg
  obtain ⟨V0, hV0⟩ : ∃ V0, V0 = V := ⟨_, rfl⟩
  obtain ⟨F, hF⟩ : ∃ F, F = xF [(sc, .inr (7, [.ref tx, .int (nI en), .ref sy, .int kd, .int (nI g), .int (nI nx), .int vl, va_rf wd]))] := ⟨_, rfl⟩
  refine rn.mono (J := xSt F V0 [(sc, .inr (7, [.ref tx, .int (nI en), .ref sy, .int kd, .int (nI g), .int (nI nx), .int vl, va_rf wd]))]) (fun V9 h => by rw [h, hV0, hF]; exact hV.st) ?_
  show rn C (xSt F V0 [(sc, .inr (7, [.ref tx, .int (nI en), .ref sy, .int kd, .int (nI g), .int (nI nx), .int vl, va_rf wd]))]) 0 0 0 [(0, .ref sc)] []
  refine r_new (J := fun q1 => xSt F V0 [(sc, .inr (7, [.ref tx, .int (nI en), .ref sy, .int kd, .int (nI g), .int (nI nx), .int vl, va_rf wd])), (q1, .inr (8, [.int 0, .null, .null, .null, .null, .null, .int 0]))]) hC [.int 0, .null, .null, .null, .null, .null, .int 0] kX10 q1350 q1351 q127 dfX10 (Nat.le_of_ble_eq_true rfl) (Nat.le_of_ble_eq_true rfl) dX8_wrong_0 (fun _ h => h.push _) 3 rfl (fun q1 => ?_)
  show rn C (xSt F V0 [(sc, .inr (7, [.ref tx, .int (nI en), .ref sy, .int kd, .int (nI g), .int (nI nx), .int vl, va_rf wd])), (q1, .inr (8, [.int 0, .null, .null, .null, .null, .null, .int 0]))]) 1 7 3 [(0, .ref sc)] [.ref q1]
  refine r_dup hC dX8_wrong_3 rfl 4 rfl ?_
  refine r_aload_n hC 0 dX8_wrong_4 rfl 5 rfl ?_
  refine r_get (v := .int (nI g)) hC kX8 4 rfl q1269 (fun _ h => h.get 0 rfl) rfl dX8_wrong_5 8 rfl ?_
  refine xCall.w (wr := [(sc, .inr (7, [.ref tx, .int (nI en), .ref sy, .int kd, .int (nI g), .int (nI nx), .int vl, va_rf wd]))]) (r_cI hC q1 [.int (nI g)] mIX10_init q1359 (fun V9 h9 => (metX10_init _ _ hG q1 g) V9 (h9.in.sub [1] rfl rfl)) ⟨rfl, rfl⟩ (Nat.le_of_ble_eq_true rfl) (Nat.le_of_ble_eq_true rfl) rfl (Nat.le_of_ble_eq_true rfl) dX8_wrong_8) [1] [0] rfl rfl rfl (by decide) 1 7 11 rfl rfl rfl (fun v2 w3 h4 => ?_) (fun _ _ h => h.elim)
  obtain ⟨rfl, rfl⟩ := h4
  show rn C (xSt F V0 [(sc, .inr (7, [.ref tx, .int (nI en), .ref sy, .int kd, .int (nI g), .int (nI nx), .int vl, va_rf wd])), (q1, .inr (8, [.int (nI g), .null, .null, .null, .null, .null, .int 0]))]) 1 7 11 [(0, .ref sc)] [.ref q1]
  exact r_aret hC (v := (some q1)) (Or.inl ⟨_, rfl⟩) (Nat.le_of_ble_eq_true rfl) (Nat.le_of_ble_eq_true rfl) (fun V9 h => hQ _ _ ⟨[(sc, .inr (7, [.ref tx, .int (nI en), .ref sy, .int kd, .int (nI g), .int (nI nx), .int vl, va_rf wd])), (q1, .inr (8, [.int (nI g), .null, .null, .null, .null, .null, .int 0]))], ⟨q1, rfl, rfl⟩, by rw [← hV0, ← hF]; exact h⟩) dX8_wrong_11
set_option maxHeartbeats 4000000 in
set_option maxRecDepth 100000 in
theorem metX8_isAt3 (l : Launch) (G : xG) (hG : xGood G) (sc tx sy en g nx : Nat) (vl : Int32) (wd : Option Nat) (T : Nat → Int32) (hg : g < 600) (ch : Int32) : xRm l G yX8_isAt (Cond.code yX8_isAt cX8_isAt 2 (some .boolean)) { frames := 0, locals := 0, cells := 0, slots := 0 } [.ref sc, .int ch] [(sc, .inr (7, [.ref tx, .int (nI en), .ref sy, .int 3, .int (nI g), .int (nI nx), .int vl, va_rf wd])), (tx, .inl (2, 600, .inl T))] (some (.int (bI (decide (T g = ch))))) := by
  intro V hV
  refine xMet_ofT RX8 hG rfl (by decide) (Nat.le_of_ble_eq_true rfl) fun C hC hQ hX hl hg _ hTab => ?_
  subst hl hg
  refine rn.mono (J := xRo [(sc, .inr (7, [.ref tx, .int (nI en), .ref sy, .int 3, .int (nI g), .int (nI nx), .int vl, va_rf wd])), (tx, .inl (2, 600, .inl T))] V) (fun V9 h => ⟨h, hV⟩) ?_
  show rn C (xRo [(sc, .inr (7, [.ref tx, .int (nI en), .ref sy, .int 3, .int (nI g), .int (nI nx), .int vl, va_rf wd])), (tx, .inl (2, 600, .inl T))] V) 0 0 0 [(0, .ref sc), (1, .int ch)] []
  refine r_aload_n hC 0 dX8_isAt_0 rfl 1 rfl ?_
  refine r_get (v := .int 3) hC kX8 3 rfl q1267 (fun _ h => h.get 0 rfl) rfl dX8_isAt_1 4 rfl ?_
  refine r_iconst hC 3 dX8_isAt_4 ic_3 5 rfl ?_
  refine r_icne hC 25 dX8_isAt_5 (by decide) 8 rfl (fun h => absurd h (by decide)) (fun _ => ?_)
  refine r_aload_n hC 0 dX8_isAt_8 rfl 9 rfl ?_
  refine r_get (v := .ref tx) hC kX8 0 rfl q1263 (fun _ h => h.get 0 rfl) rfl dX8_isAt_9 12 rfl ?_
  refine r_aload_n hC 0 dX8_isAt_12 rfl 13 rfl ?_
  refine r_get (v := .int (nI g)) hC kX8 4 rfl q1269 (fun _ h => h.get 0 rfl) rfl dX8_isAt_13 16 rfl ?_
  refine r_bald hC g (xix_n g (by omega) (Nat.le_of_ble_eq_true rfl)) (fun _ h => h.get 1 rfl) (T g) (rfl) dX8_isAt_16 17 rfl ?_
  refine r_iload_n hC 1 dX8_isAt_17 rfl 18 rfl ?_
  refine r_icne hC 25 dX8_isAt_18 (by decide) 21 rfl (fun c1 => ?_) (fun c1 => ?_)
  · skip
    refine r_iconst hC 0 dX8_isAt_25 ic_0 26 rfl ?_
    exact r_zret hC (by decide) (Nat.le_of_ble_eq_true rfl) (Nat.le_of_ble_eq_true rfl) (fun V9 h => hQ _ _ ⟨by rw [decide_eq_false c1]; rfl, h.1⟩) dX8_isAt_26
  · skip
    refine r_iconst hC 1 dX8_isAt_21 ic_1 22 rfl ?_
    refine r_goto hC 26 dX8_isAt_22 (by decide) ?_
    exact r_zret hC (by decide) (Nat.le_of_ble_eq_true rfl) (Nat.le_of_ble_eq_true rfl) (fun V9 h => hQ _ _ ⟨by rw [decide_eq_true c1]; rfl, h.1⟩) dX8_isAt_26
set_option maxHeartbeats 4000000 in
set_option maxRecDepth 100000 in
theorem metX8_isAt0 (l : Launch) (G : xG) (hG : xGood G) (sc tx sy en g nx : Nat) (kd vl : Int32) (wd : Option Nat) (ch : Int32) (hk : ¬ kd = 3) : xRm l G yX8_isAt (Cond.code yX8_isAt cX8_isAt 2 (some .boolean)) { frames := 0, locals := 0, cells := 0, slots := 0 } [.ref sc, .int ch] [(sc, .inr (7, [.ref tx, .int (nI en), .ref sy, .int kd, .int (nI g), .int (nI nx), .int vl, va_rf wd]))] (some (.int 0)) := by
  intro V hV
  refine xMet_ofT RX8 hG rfl (by decide) (Nat.le_of_ble_eq_true rfl) fun C hC hQ hX hl hg _ hTab => ?_
  subst hl hg
  refine rn.mono (J := xRo [(sc, .inr (7, [.ref tx, .int (nI en), .ref sy, .int kd, .int (nI g), .int (nI nx), .int vl, va_rf wd]))] V) (fun V9 h => ⟨h, hV⟩) ?_
  show rn C (xRo [(sc, .inr (7, [.ref tx, .int (nI en), .ref sy, .int kd, .int (nI g), .int (nI nx), .int vl, va_rf wd]))] V) 0 0 0 [(0, .ref sc), (1, .int ch)] []
  refine r_aload_n hC 0 dX8_isAt_0 rfl 1 rfl ?_
  refine r_get (v := .int kd) hC kX8 3 rfl q1267 (fun _ h => h.get 0 rfl) rfl dX8_isAt_1 4 rfl ?_
  refine r_iconst hC 3 dX8_isAt_4 ic_3 5 rfl ?_
  refine r_icne hC 25 dX8_isAt_5 (by decide) 8 rfl (fun _ => ?_) (fun h => absurd h (hk))
  refine r_iconst hC 0 dX8_isAt_25 ic_0 26 rfl ?_
  exact r_zret hC (by decide) (Nat.le_of_ble_eq_true rfl) (Nat.le_of_ble_eq_true rfl) (fun V9 h => hQ _ _ ⟨rfl, h.1⟩) dX8_isAt_26
set_option maxHeartbeats 4000000 in
set_option maxRecDepth 100000 in
theorem metX8_isWord1 (l : Launch) (G : xG) (hG : xGood G) (sc tx sy en g nx : Nat) (vl : Int32) (q v2 n : Nat) (f2 : Nat → Int32) (hn : n < 65536) (ka kv m : Nat) (B : Nat → Int32) (hst : xStr G ka kv m B) : xRm l G yX8_isWord (Cond.code yX8_isWord cX8_isWord 2 (some .boolean)) { frames := 2, locals := 44, cells := 0, slots := 0 } [.ref sc, .ref ka] [(sc, .inr (7, [.ref tx, .int (nI en), .ref sy, .int 1, .int (nI g), .int (nI nx), .int vl, .ref q])), (q, .inr (21, [.ref v2, .int 0, .int 0, .int 0])), (v2, .inl (2, n, .inl f2))] (some (.int (bI (eqS f2 n B m)))) := by
  intro V hV
  refine xMet_ofT RX8 hG rfl (by decide) (Nat.le_of_ble_eq_true rfl) fun C hC hQ hX hl hg _ hTab => ?_
  subst hl hg
  refine rn.mono (J := xRo [(sc, .inr (7, [.ref tx, .int (nI en), .ref sy, .int 1, .int (nI g), .int (nI nx), .int vl, .ref q])), (q, .inr (21, [.ref v2, .int 0, .int 0, .int 0])), (v2, .inl (2, n, .inl f2))] V) (fun V9 h => ⟨h, hV⟩) ?_
  show rn C (xRo [(sc, .inr (7, [.ref tx, .int (nI en), .ref sy, .int 1, .int (nI g), .int (nI nx), .int vl, .ref q])), (q, .inr (21, [.ref v2, .int 0, .int 0, .int 0])), (v2, .inl (2, n, .inl f2))] V) 0 0 0 [(0, .ref sc), (1, .ref ka)] []
  refine r_aload_n hC 0 dX8_isWord_0 rfl 1 rfl ?_
  refine r_get (v := .int 1) hC kX8 3 rfl q1267 (fun _ h => h.get 0 rfl) rfl dX8_isWord_1 4 rfl ?_
  refine r_iconst hC 1 dX8_isWord_4 ic_1 5 rfl ?_
  refine r_icne hC 23 dX8_isWord_5 (by decide) 8 rfl (fun h => absurd h (by decide)) (fun _ => ?_)
  refine r_aload_n hC 0 dX8_isWord_8 rfl 9 rfl ?_
  refine r_get (v := .ref q) hC kX8 7 rfl q1274 (fun _ h => h.get 0 rfl) rfl dX8_isWord_9 12 rfl ?_
  refine r_aload_n hC 1 dX8_isWord_12 rfl 13 rfl ?_
  refine xCall.r (r := some (.int (bI (eqS f2 n B m)))) (r_cV hC kJ7 q [.ref ka] mVJ7_equals q1329 (fun _ h => ⟨_, h.get 1 rfl⟩) (fun V9 h9 => (metJ7_equals _ _ hG q v2 n f2 (by omega) ka kv m B hst) V9 (h9.in.sub [1, 2] rfl rfl)) ⟨rfl, rfl⟩ (Nat.le_of_ble_eq_true rfl) (Nat.le_of_ble_eq_true rfl) rfl (Nat.le_of_ble_eq_true rfl) dX8_isWord_13) 0 0 16 rfl rfl rfl ?_
  refine r_ifeq hC 23 dX8_isWord_16 (by decide) 19 rfl (fun c1 => ?_) (fun c1 => ?_)
  · skip
    refine r_iconst hC 0 dX8_isWord_23 ic_0 24 rfl ?_
    exact r_zret hC (by decide) (Nat.le_of_ble_eq_true rfl) (Nat.le_of_ble_eq_true rfl) (fun V9 h => hQ _ _ ⟨by rw [show eqS f2 n B m = false from bI_0.mp c1]; rfl, h.1⟩) dX8_isWord_24
  · skip
    refine r_iconst hC 1 dX8_isWord_19 ic_1 20 rfl ?_
    refine r_goto hC 24 dX8_isWord_20 (by decide) ?_
    exact r_zret hC (by decide) (Nat.le_of_ble_eq_true rfl) (Nat.le_of_ble_eq_true rfl) (fun V9 h => hQ _ _ ⟨by rw [show eqS f2 n B m = true from bI_n0.mp c1]; rfl, h.1⟩) dX8_isWord_24
set_option maxHeartbeats 4000000 in
set_option maxRecDepth 100000 in
theorem metX8_isWord0 (l : Launch) (G : xG) (hG : xGood G) (sc tx sy en g nx : Nat) (kd vl : Int32) (wd : Option Nat) (hk : ¬ kd = 1) (ka : Nat) : xRm l G yX8_isWord (Cond.code yX8_isWord cX8_isWord 2 (some .boolean)) { frames := 2, locals := 44, cells := 0, slots := 0 } [.ref sc, .ref ka] [(sc, .inr (7, [.ref tx, .int (nI en), .ref sy, .int kd, .int (nI g), .int (nI nx), .int vl, va_rf wd]))] (some (.int 0)) := by
  intro V hV
  refine xMet_ofT RX8 hG rfl (by decide) (Nat.le_of_ble_eq_true rfl) fun C hC hQ hX hl hg _ hTab => ?_
  subst hl hg
  refine rn.mono (J := xRo [(sc, .inr (7, [.ref tx, .int (nI en), .ref sy, .int kd, .int (nI g), .int (nI nx), .int vl, va_rf wd]))] V) (fun V9 h => ⟨h, hV⟩) ?_
  show rn C (xRo [(sc, .inr (7, [.ref tx, .int (nI en), .ref sy, .int kd, .int (nI g), .int (nI nx), .int vl, va_rf wd]))] V) 0 0 0 [(0, .ref sc), (1, .ref ka)] []
  refine r_aload_n hC 0 dX8_isWord_0 rfl 1 rfl ?_
  refine r_get (v := .int kd) hC kX8 3 rfl q1267 (fun _ h => h.get 0 rfl) rfl dX8_isWord_1 4 rfl ?_
  refine r_iconst hC 1 dX8_isWord_4 ic_1 5 rfl ?_
  refine r_icne hC 23 dX8_isWord_5 (by decide) 8 rfl (fun _ => ?_) (fun h => absurd h (hk))
  refine r_iconst hC 0 dX8_isWord_23 ic_0 24 rfl ?_
  exact r_zret hC (by decide) (Nat.le_of_ble_eq_true rfl) (Nat.le_of_ble_eq_true rfl) (fun V9 h => hQ _ _ ⟨rfl, h.1⟩) dX8_isWord_24
set_option maxHeartbeats 4000000 in
set_option maxRecDepth 100000 in
theorem metX8_lookG (l : Launch) (G : xG) (hG : xGood G) (sc tx sy en g nx : Nat) (vl : Int32) (wd : Option Nat) (lo hi : Int32) (h1 : lo ≤ vl) (h2 : vl ≤ hi) : xRm l G yX8_look (Cond.code yX8_look cX8_look 3 (some .int)) { frames := 0, locals := 0, cells := 0, slots := 0 } [.ref sc, .int lo, .int hi] [(sc, .inr (7, [.ref tx, .int (nI en), .ref sy, .int 2, .int (nI g), .int (nI nx), .int vl, va_rf wd]))] (some (.int vl)) := by
  intro V hV
  refine xMet_ofT RX8 hG rfl (by decide) (Nat.le_of_ble_eq_true rfl) fun C hC hQ hX hl hg _ hTab => ?_
  subst hl hg
  refine rn.mono (J := xRo [(sc, .inr (7, [.ref tx, .int (nI en), .ref sy, .int 2, .int (nI g), .int (nI nx), .int vl, va_rf wd]))] V) (fun V9 h => ⟨h, hV⟩) ?_
  show rn C (xRo [(sc, .inr (7, [.ref tx, .int (nI en), .ref sy, .int 2, .int (nI g), .int (nI nx), .int vl, va_rf wd]))] V) 0 0 0 [(0, .ref sc), (1, .int lo), (2, .int hi)] []
  refine r_aload_n hC 0 dX8_look_0 rfl 1 rfl ?_
  refine r_get (v := .int 2) hC kX8 3 rfl q1267 (fun _ h => h.get 0 rfl) rfl dX8_look_1 4 rfl ?_
  refine r_iconst hC 2 dX8_look_4 ic_2 5 rfl ?_
  refine r_iceq hC 13 dX8_look_5 (by decide) 8 rfl (fun _ => ?_) (fun h => absurd h (by decide))
  refine r_aload_n hC 0 dX8_look_13 rfl 14 rfl ?_
  refine r_get (v := .int vl) hC kX8 6 rfl q1273 (fun _ h => h.get 0 rfl) rfl dX8_look_14 17 rfl ?_
  refine r_iload_n hC 1 dX8_look_17 rfl 18 rfl ?_
  refine r_iclt hC 29 dX8_look_18 (by decide) 21 rfl (fun h => absurd h (Int32.not_lt.mpr h1)) (fun _ => ?_)
  refine r_aload_n hC 0 dX8_look_21 rfl 22 rfl ?_
  refine r_get (v := .int vl) hC kX8 6 rfl q1273 (fun _ h => h.get 0 rfl) rfl dX8_look_22 25 rfl ?_
  refine r_iload_n hC 2 dX8_look_25 rfl 26 rfl ?_
  refine r_icle hC 41 dX8_look_26 (by decide) 29 rfl (fun _ => ?_) (fun h => absurd (h2) h)
  refine r_aload_n hC 0 dX8_look_41 rfl 42 rfl ?_
  refine r_get (v := .int vl) hC kX8 6 rfl q1273 (fun _ h => h.get 0 rfl) rfl dX8_look_42 45 rfl ?_
  exact r_iret hC (Nat.le_of_ble_eq_true rfl) (Nat.le_of_ble_eq_true rfl) (fun V9 h => hQ _ _ ⟨rfl, h.1⟩) dX8_look_45
set_option maxHeartbeats 4000000 in
set_option maxRecDepth 100000 in
theorem metX8_lookR1 (l : Launch) (G : xG) (hG : xGood G) (sc tx sy en g nx : Nat) (vl : Int32) (wd : Option Nat) (lo hi : Int32) (h1 : vl < lo) : xWm l G yX8_look (Cond.code yX8_look cX8_look 3 (some .int)) { frames := 5, locals := 110, cells := 1, slots := 7 } [.ref sc, .int lo, .int hi] [(sc, .inr (7, [.ref tx, .int (nI en), .ref sy, .int 2, .int (nI g), .int (nI nx), .int vl, va_rf wd]))] (fun _ _ => False) (fun q w' => w' = [(sc, .inr (7, [.ref tx, .int (nI en), .ref sy, .int 2, .int (nI g), .int (nI nx), .int vl, va_rf wd])), (q, .inr (9, [.int (nI g), .null, .null, .null, .null, .null, .int 0]))]) := by
  intro V hV
  refine xMet_ofT RX8 hG rfl (by decide) (Nat.le_of_ble_eq_true rfl) fun C hC hQ hX hl hg _ hTab => ?_
  subst hl hg
  obtain ⟨V0, hV0⟩ : ∃ V0, V0 = V := ⟨_, rfl⟩
  obtain ⟨F, hF⟩ : ∃ F, F = xF [(sc, .inr (7, [.ref tx, .int (nI en), .ref sy, .int 2, .int (nI g), .int (nI nx), .int vl, va_rf wd]))] := ⟨_, rfl⟩
  refine rn.mono (J := xSt F V0 [(sc, .inr (7, [.ref tx, .int (nI en), .ref sy, .int 2, .int (nI g), .int (nI nx), .int vl, va_rf wd]))]) (fun V9 h => by rw [h, hV0, hF]; exact hV.st) ?_
  show rn C (xSt F V0 [(sc, .inr (7, [.ref tx, .int (nI en), .ref sy, .int 2, .int (nI g), .int (nI nx), .int vl, va_rf wd]))]) 0 0 0 [(0, .ref sc), (1, .int lo), (2, .int hi)] []
  refine r_aload_n hC 0 dX8_look_0 rfl 1 rfl ?_
  refine r_get (v := .int 2) hC kX8 3 rfl q1267 (fun _ h => h.get 0 rfl) rfl dX8_look_1 4 rfl ?_
  refine r_iconst hC 2 dX8_look_4 ic_2 5 rfl ?_
  refine r_iceq hC 13 dX8_look_5 (by decide) 8 rfl (fun _ => ?_) (fun h => absurd h (by decide))
  refine r_aload_n hC 0 dX8_look_13 rfl 14 rfl ?_
  refine r_get (v := .int vl) hC kX8 6 rfl q1273 (fun _ h => h.get 0 rfl) rfl dX8_look_14 17 rfl ?_
  refine r_iload_n hC 1 dX8_look_17 rfl 18 rfl ?_
  refine r_iclt hC 29 dX8_look_18 (by decide) 21 rfl (fun _ => ?_) (fun h => absurd (h1) h)
  refine r_new (J := fun q1 => xSt F V0 [(sc, .inr (7, [.ref tx, .int (nI en), .ref sy, .int 2, .int (nI g), .int (nI nx), .int vl, va_rf wd])), (q1, .inr (9, [.int 0, .null, .null, .null, .null, .null, .int 0]))]) hC [.int 0, .null, .null, .null, .null, .null, .int 0] kX11 q1372 q1373 q128 dfX11 (Nat.le_of_ble_eq_true rfl) (Nat.le_of_ble_eq_true rfl) dX8_look_29 (fun _ h => h.push _) 32 rfl (fun q1 => ?_)
  show rn C (xSt F V0 [(sc, .inr (7, [.ref tx, .int (nI en), .ref sy, .int 2, .int (nI g), .int (nI nx), .int vl, va_rf wd])), (q1, .inr (9, [.int 0, .null, .null, .null, .null, .null, .int 0]))]) 1 7 32 [(0, .ref sc), (1, .int lo), (2, .int hi)] [.ref q1]
  refine r_dup hC dX8_look_32 rfl 33 rfl ?_
  refine r_aload_n hC 0 dX8_look_33 rfl 34 rfl ?_
  refine r_get (v := .int (nI g)) hC kX8 4 rfl q1269 (fun _ h => h.get 0 rfl) rfl dX8_look_34 37 rfl ?_
  refine xCall.w (wr := [(sc, .inr (7, [.ref tx, .int (nI en), .ref sy, .int 2, .int (nI g), .int (nI nx), .int vl, va_rf wd]))]) (r_cI hC q1 [.int (nI g)] mIX11_init q1381 (fun V9 h9 => (metX11_init _ _ hG q1 g) V9 (h9.in.sub [1] rfl rfl)) ⟨rfl, rfl⟩ (Nat.le_of_ble_eq_true rfl) (Nat.le_of_ble_eq_true rfl) rfl (Nat.le_of_ble_eq_true rfl) dX8_look_37) [1] [0] rfl rfl rfl (by decide) 1 7 40 rfl rfl rfl (fun v2 w3 h4 => ?_) (fun _ _ h => h.elim)
  obtain ⟨rfl, rfl⟩ := h4
  show rn C (xSt F V0 [(sc, .inr (7, [.ref tx, .int (nI en), .ref sy, .int 2, .int (nI g), .int (nI nx), .int vl, va_rf wd])), (q1, .inr (9, [.int (nI g), .null, .null, .null, .null, .null, .int 0]))]) 1 7 40 [(0, .ref sc), (1, .int lo), (2, .int hi)] [.ref q1]
  refine r_athrow hC (fun _ h => h.get 1 rfl) dX8_look_40 ?_
  exact rx_out hC hTab (fun _ h => by cases h) (Nat.le_of_ble_eq_true rfl) (Nat.le_of_ble_eq_true rfl) (fun V9 h => hX _ _ ⟨[(sc, .inr (7, [.ref tx, .int (nI en), .ref sy, .int 2, .int (nI g), .int (nI nx), .int vl, va_rf wd])), (q1, .inr (9, [.int (nI g), .null, .null, .null, .null, .null, .int 0]))], rfl, by rw [← hV0, ← hF]; exact h⟩)
set_option maxHeartbeats 4000000 in
set_option maxRecDepth 100000 in
theorem metX8_lookR2 (l : Launch) (G : xG) (hG : xGood G) (sc tx sy en g nx : Nat) (vl : Int32) (wd : Option Nat) (lo hi : Int32) (h1 : lo ≤ vl) (h2 : ¬ vl ≤ hi) : xWm l G yX8_look (Cond.code yX8_look cX8_look 3 (some .int)) { frames := 5, locals := 110, cells := 1, slots := 7 } [.ref sc, .int lo, .int hi] [(sc, .inr (7, [.ref tx, .int (nI en), .ref sy, .int 2, .int (nI g), .int (nI nx), .int vl, va_rf wd]))] (fun _ _ => False) (fun q w' => w' = [(sc, .inr (7, [.ref tx, .int (nI en), .ref sy, .int 2, .int (nI g), .int (nI nx), .int vl, va_rf wd])), (q, .inr (9, [.int (nI g), .null, .null, .null, .null, .null, .int 0]))]) := by
  intro V hV
  refine xMet_ofT RX8 hG rfl (by decide) (Nat.le_of_ble_eq_true rfl) fun C hC hQ hX hl hg _ hTab => ?_
  subst hl hg
  obtain ⟨V0, hV0⟩ : ∃ V0, V0 = V := ⟨_, rfl⟩
  obtain ⟨F, hF⟩ : ∃ F, F = xF [(sc, .inr (7, [.ref tx, .int (nI en), .ref sy, .int 2, .int (nI g), .int (nI nx), .int vl, va_rf wd]))] := ⟨_, rfl⟩
  refine rn.mono (J := xSt F V0 [(sc, .inr (7, [.ref tx, .int (nI en), .ref sy, .int 2, .int (nI g), .int (nI nx), .int vl, va_rf wd]))]) (fun V9 h => by rw [h, hV0, hF]; exact hV.st) ?_
  show rn C (xSt F V0 [(sc, .inr (7, [.ref tx, .int (nI en), .ref sy, .int 2, .int (nI g), .int (nI nx), .int vl, va_rf wd]))]) 0 0 0 [(0, .ref sc), (1, .int lo), (2, .int hi)] []
  refine r_aload_n hC 0 dX8_look_0 rfl 1 rfl ?_
  refine r_get (v := .int 2) hC kX8 3 rfl q1267 (fun _ h => h.get 0 rfl) rfl dX8_look_1 4 rfl ?_
  refine r_iconst hC 2 dX8_look_4 ic_2 5 rfl ?_
  refine r_iceq hC 13 dX8_look_5 (by decide) 8 rfl (fun _ => ?_) (fun h => absurd h (by decide))
  refine r_aload_n hC 0 dX8_look_13 rfl 14 rfl ?_
  refine r_get (v := .int vl) hC kX8 6 rfl q1273 (fun _ h => h.get 0 rfl) rfl dX8_look_14 17 rfl ?_
  refine r_iload_n hC 1 dX8_look_17 rfl 18 rfl ?_
  refine r_iclt hC 29 dX8_look_18 (by decide) 21 rfl (fun h => absurd h (Int32.not_lt.mpr h1)) (fun _ => ?_)
  refine r_aload_n hC 0 dX8_look_21 rfl 22 rfl ?_
  refine r_get (v := .int vl) hC kX8 6 rfl q1273 (fun _ h => h.get 0 rfl) rfl dX8_look_22 25 rfl ?_
  refine r_iload_n hC 2 dX8_look_25 rfl 26 rfl ?_
  refine r_icle hC 41 dX8_look_26 (by decide) 29 rfl (fun h => absurd h (h2)) (fun _ => ?_)
  refine r_new (J := fun q1 => xSt F V0 [(sc, .inr (7, [.ref tx, .int (nI en), .ref sy, .int 2, .int (nI g), .int (nI nx), .int vl, va_rf wd])), (q1, .inr (9, [.int 0, .null, .null, .null, .null, .null, .int 0]))]) hC [.int 0, .null, .null, .null, .null, .null, .int 0] kX11 q1372 q1373 q128 dfX11 (Nat.le_of_ble_eq_true rfl) (Nat.le_of_ble_eq_true rfl) dX8_look_29 (fun _ h => h.push _) 32 rfl (fun q1 => ?_)
  show rn C (xSt F V0 [(sc, .inr (7, [.ref tx, .int (nI en), .ref sy, .int 2, .int (nI g), .int (nI nx), .int vl, va_rf wd])), (q1, .inr (9, [.int 0, .null, .null, .null, .null, .null, .int 0]))]) 1 7 32 [(0, .ref sc), (1, .int lo), (2, .int hi)] [.ref q1]
  refine r_dup hC dX8_look_32 rfl 33 rfl ?_
  refine r_aload_n hC 0 dX8_look_33 rfl 34 rfl ?_
  refine r_get (v := .int (nI g)) hC kX8 4 rfl q1269 (fun _ h => h.get 0 rfl) rfl dX8_look_34 37 rfl ?_
  refine xCall.w (wr := [(sc, .inr (7, [.ref tx, .int (nI en), .ref sy, .int 2, .int (nI g), .int (nI nx), .int vl, va_rf wd]))]) (r_cI hC q1 [.int (nI g)] mIX11_init q1381 (fun V9 h9 => (metX11_init _ _ hG q1 g) V9 (h9.in.sub [1] rfl rfl)) ⟨rfl, rfl⟩ (Nat.le_of_ble_eq_true rfl) (Nat.le_of_ble_eq_true rfl) rfl (Nat.le_of_ble_eq_true rfl) dX8_look_37) [1] [0] rfl rfl rfl (by decide) 1 7 40 rfl rfl rfl (fun v2 w3 h4 => ?_) (fun _ _ h => h.elim)
  obtain ⟨rfl, rfl⟩ := h4
  show rn C (xSt F V0 [(sc, .inr (7, [.ref tx, .int (nI en), .ref sy, .int 2, .int (nI g), .int (nI nx), .int vl, va_rf wd])), (q1, .inr (9, [.int (nI g), .null, .null, .null, .null, .null, .int 0]))]) 1 7 40 [(0, .ref sc), (1, .int lo), (2, .int hi)] [.ref q1]
  refine r_athrow hC (fun _ h => h.get 1 rfl) dX8_look_40 ?_
  exact rx_out hC hTab (fun _ h => by cases h) (Nat.le_of_ble_eq_true rfl) (Nat.le_of_ble_eq_true rfl) (fun V9 h => hX _ _ ⟨[(sc, .inr (7, [.ref tx, .int (nI en), .ref sy, .int 2, .int (nI g), .int (nI nx), .int vl, va_rf wd])), (q1, .inr (9, [.int (nI g), .null, .null, .null, .null, .null, .int 0]))], rfl, by rw [← hV0, ← hF]; exact h⟩)
set_option maxHeartbeats 4000000 in
set_option maxRecDepth 100000 in
theorem metX8_lookS (l : Launch) (G : xG) (hG : xGood G) (sc tx sy en g nx : Nat) (kd vl : Int32) (wd : Option Nat) (lo hi : Int32) (hk : ¬ kd = 2) : xWm l G yX8_look (Cond.code yX8_look cX8_look 3 (some .int)) { frames := 6, locals := 130, cells := 1, slots := 7 } [.ref sc, .int lo, .int hi] [(sc, .inr (7, [.ref tx, .int (nI en), .ref sy, .int kd, .int (nI g), .int (nI nx), .int vl, va_rf wd]))] (fun _ _ => False) (fun q w' => w' = [(sc, .inr (7, [.ref tx, .int (nI en), .ref sy, .int kd, .int (nI g), .int (nI nx), .int vl, va_rf wd])), (q, .inr (8, [.int (nI g), .null, .null, .null, .null, .null, .int 0]))]) := by
  intro V hV
  refine xMet_ofT RX8 hG rfl (by decide) (Nat.le_of_ble_eq_true rfl) fun C hC hQ hX hl hg _ hTab => ?_
  subst hl hg
  obtain ⟨V0, hV0⟩ : ∃ V0, V0 = V := ⟨_, rfl⟩
  obtain ⟨F, hF⟩ : ∃ F, F = xF [(sc, .inr (7, [.ref tx, .int (nI en), .ref sy, .int kd, .int (nI g), .int (nI nx), .int vl, va_rf wd]))] := ⟨_, rfl⟩
  refine rn.mono (J := xSt F V0 [(sc, .inr (7, [.ref tx, .int (nI en), .ref sy, .int kd, .int (nI g), .int (nI nx), .int vl, va_rf wd]))]) (fun V9 h => by rw [h, hV0, hF]; exact hV.st) ?_
  show rn C (xSt F V0 [(sc, .inr (7, [.ref tx, .int (nI en), .ref sy, .int kd, .int (nI g), .int (nI nx), .int vl, va_rf wd]))]) 0 0 0 [(0, .ref sc), (1, .int lo), (2, .int hi)] []
  refine r_aload_n hC 0 dX8_look_0 rfl 1 rfl ?_
  refine r_get (v := .int kd) hC kX8 3 rfl q1267 (fun _ h => h.get 0 rfl) rfl dX8_look_1 4 rfl ?_
  refine r_iconst hC 2 dX8_look_4 ic_2 5 rfl ?_
  refine r_iceq hC 13 dX8_look_5 (by decide) 8 rfl (fun h => absurd h (hk)) (fun _ => ?_)
  refine r_aload_n hC 0 dX8_look_8 rfl 9 rfl ?_
  refine xCall.w (wr := []) (r_cV hC kX8 sc [] mVX8_wrong q1346 (fun _ h => ⟨_, h.get 0 rfl⟩) (fun V9 h9 => (metX8_wrong _ _ hG sc tx sy en g nx kd vl wd) V9 (h9.in.sub [0] rfl rfl)) ⟨rfl, rfl⟩ (Nat.le_of_ble_eq_true rfl) (Nat.le_of_ble_eq_true rfl) rfl (Nat.le_of_ble_eq_true rfl) dX8_look_9) [0] [] rfl rfl rfl (by decide) 1 7 12 rfl rfl rfl (fun v2 w3 h4 => ?_) (fun _ _ h => h.elim)
  obtain ⟨q1, rfl, rfl⟩ := h4
  show rn C (xSt F V0 [(sc, .inr (7, [.ref tx, .int (nI en), .ref sy, .int kd, .int (nI g), .int (nI nx), .int vl, va_rf wd])), (q1, .inr (8, [.int (nI g), .null, .null, .null, .null, .null, .int 0]))]) 1 7 12 [(0, .ref sc), (1, .int lo), (2, .int hi)] [.ref q1]
  refine r_athrow hC (fun _ h => h.get 1 rfl) dX8_look_12 ?_
  exact rx_out hC hTab (fun _ h => by cases h) (Nat.le_of_ble_eq_true rfl) (Nat.le_of_ble_eq_true rfl) (fun V9 h => hX _ _ ⟨[(sc, .inr (7, [.ref tx, .int (nI en), .ref sy, .int kd, .int (nI g), .int (nI nx), .int vl, va_rf wd])), (q1, .inr (8, [.int (nI g), .null, .null, .null, .null, .null, .int 0]))], rfl, by rw [← hV0, ← hF]; exact h⟩)
