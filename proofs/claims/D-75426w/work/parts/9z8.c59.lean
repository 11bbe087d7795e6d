/-! ===== the class: Scanner: expect, expectWord, number ===== -/
set_option maxRecDepth 100000
theorem xSt.left1 {F : Nat → Prop} {V0 V : xV} {ws tl : xW} (h : xSt F V0 (ws ++ tl) V) : xSt F V0 ws V := by
  have := xSt.nilT (wc := tl) (wr := ws) (tl := []) (by rw [List.append_nil]; exact h.perm List.perm_append_comm)
  rwa [List.append_nil] at this
set_option maxHeartbeats 4000000 in
set_option maxRecDepth 100000 in
theorem metX8_expectY (l : Launch) (G : xG) (hG : xGood G) (sc tx sy en : Nat) (T B : Nat → Int32) (m : Nat) (hE : scE G sy en T B m) (g : Nat) (tw : xW) (htw : tokW sc tx sy en T B m g tw) (ch : Int32) (hs : syQ B m ch = true) (hl : letQ ch = false) (hf : figQ ch = false) (hb : isB T en ch (.ok g) = true) : xWm l G yX8_expect (Cond.code yX8_expect cX8_expect 2 none) { frames := 8, locals := 212, cells := 6 * (potP T en (.ok g) - potP T en (.ok (tBeg T en (tEnd T en g)))), slots := 50 * (potP T en (.ok g) - potP T en (.ok (tBeg T en (tEnd T en g)))) } [.ref sc, .int ch] tw (fun v w' => v = none ∧ tokW sc tx sy en T B m (tBeg T en (tEnd T en g)) w') (fun _ _ => False) := by
  intro V hV
  refine xMet_ofT RX8 hG rfl (by decide) (Nat.le_of_ble_eq_true rfl) fun C hC hQ hX hl hg _ hTab => ?_
  subst hl hg
  have hpot := pot_nx (T := T) (isB_lt hb)
  obtain ⟨V0, hV0⟩ : ∃ V0, V0 = V := ⟨_, rfl⟩
  obtain ⟨F, hF⟩ : ∃ F, F = xF tw := ⟨_, rfl⟩
  refine rn.mono (J := xSt F V0 ([] ++ tw)) (fun V9 h => by rw [h, hV0, hF]; exact hV.st) ?_
  show rn C (xSt F V0 ([] ++ tw)) 0 0 0 [(0, .ref sc), (1, .int ch)] []
  refine r_aload_n hC 0 dX8_expect_0 rfl 1 rfl ?_
  refine r_iload_n hC 1 dX8_expect_1 rfl 2 rfl ?_
  refine xCall.r (r := some (.int 1)) (r_cV hC kX8 sc [.int ch] mVX8_isAt q1410 (fun _ h => tok_recv htw h.in.right) (fun V9 h9 => (xRm_v (metX8_isAt _ _ hG sc tx sy en T B m hE g tw htw ch hs hl hf) (show _ = some (Value.int 1) by rw [hb]; rfl)) V9 h9.in.right) ⟨rfl, rfl⟩ (Nat.le_of_ble_eq_true rfl) (Nat.le_of_ble_eq_true rfl) rfl (Nat.le_of_ble_eq_true rfl) dX8_expect_2) 0 0 5 rfl rfl rfl ?_
  refine r_ifne hC 13 dX8_expect_5 (by decide) 8 rfl (fun _ => ?_) (fun h => absurd h (by decide))
  refine r_aload_n hC 0 dX8_expect_13 rfl 14 rfl ?_
  refine xCall.tl (ws := []) (r_cV hC kX8 sc [] mVX8_advance q976 (fun _ h => tok_recv htw h.in.right) (fun V9 h9 => (metX8_advance _ _ hG sc tx sy en T B m hE g tw htw) V9 h9.in.right) ⟨rfl, rfl⟩ (by first | omega | (dsimp only; omega)) (by first | omega | (dsimp only; omega)) rfl (Nat.le_of_ble_eq_true rfl) dX8_expect_14) (0 + ((tEnd T en (tBeg T en (tEnd T en g)) - (tBeg T en (tEnd T en g))) + 4)) (0 + (5 * (tEnd T en (tBeg T en (tEnd T en g)) - (tBeg T en (tEnd T en g))) + 36)) 17 rfl rfl rfl (fun v2 w3 h4 => ?_) (fun _ _ h => h.elim)
  obtain ⟨rfl, ht1⟩ := h4
  show rn C (xSt F V0 ([] ++ w3)) (0 + ((tEnd T en (tBeg T en (tEnd T en g)) - (tBeg T en (tEnd T en g))) + 4)) (0 + (5 * (tEnd T en (tBeg T en (tEnd T en g)) - (tBeg T en (tEnd T en g))) + 36)) 17 [(0, .ref sc), (1, .int ch)] []
  exact r_vret hC (by first | omega | (dsimp only; omega)) (by first | omega | (dsimp only; omega)) (fun V9 h => hQ _ _ ⟨w3, ⟨rfl, ht1⟩, by rw [← hV0, ← hF]; exact h⟩) dX8_expect_17
set_option maxHeartbeats 4000000 in
set_option maxRecDepth 100000 in
theorem metX8_expectN (l : Launch) (G : xG) (hG : xGood G) (sc tx sy en : Nat) (T B : Nat → Int32) (m : Nat) (hE : scE G sy en T B m) (g : Nat) (tw : xW) (htw : tokW sc tx sy en T B m g tw) (ch : Int32) (hs : syQ B m ch = true) (hl : letQ ch = false) (hf : figQ ch = false) (hb : isB T en ch (.ok g) = false) : xWm l G yX8_expect (Cond.code yX8_expect cX8_expect 2 none) { frames := 6, locals := 130, cells := 1, slots := 7 } [.ref sc, .int ch] tw (fun _ _ => False) (fun q w' => w' = [(q, .inr (8, [.int (nI g), .null, .null, .null, .null, .null, .int 0]))]) := by
  intro V hV
  refine xMet_ofT RX8 hG rfl (by decide) (Nat.le_of_ble_eq_true rfl) fun C hC hQ hX hl hg _ hTab => ?_
  subst hl hg
  obtain ⟨V0, hV0⟩ : ∃ V0, V0 = V := ⟨_, rfl⟩
  obtain ⟨F, hF⟩ : ∃ F, F = xF tw := ⟨_, rfl⟩
  refine rn.mono (J := xSt F V0 ([] ++ tw)) (fun V9 h => by rw [h, hV0, hF]; exact hV.st) ?_
  show rn C (xSt F V0 ([] ++ tw)) 0 0 0 [(0, .ref sc), (1, .int ch)] []
  refine r_aload_n hC 0 dX8_expect_0 rfl 1 rfl ?_
  refine r_iload_n hC 1 dX8_expect_1 rfl 2 rfl ?_
  refine xCall.r (r := some (.int 0)) (r_cV hC kX8 sc [.int ch] mVX8_isAt q1410 (fun _ h => tok_recv htw h.in.right) (fun V9 h9 => (xRm_v (metX8_isAt _ _ hG sc tx sy en T B m hE g tw htw ch hs hl hf) (show _ = some (Value.int 0) by rw [hb]; rfl)) V9 h9.in.right) ⟨rfl, rfl⟩ (Nat.le_of_ble_eq_true rfl) (Nat.le_of_ble_eq_true rfl) rfl (Nat.le_of_ble_eq_true rfl) dX8_expect_2) 0 0 5 rfl rfl rfl ?_
  refine r_ifne hC 13 dX8_expect_5 (by decide) 8 rfl (fun h => absurd h (by decide)) (fun _ => ?_)
  refine r_aload_n hC 0 dX8_expect_8 rfl 9 rfl ?_
  refine xCall.tl (ws := []) (r_cV hC kX8 sc [] mVX8_wrong q1346 (fun _ h => tok_recv htw h.in.right) (fun V9 h9 => (metX8_wrongT _ _ hG sc tx sy en T B m hE g tw htw) V9 h9.in.right) ⟨rfl, rfl⟩ (Nat.le_of_ble_eq_true rfl) (Nat.le_of_ble_eq_true rfl) rfl (Nat.le_of_ble_eq_true rfl) dX8_expect_9) 1 7 12 rfl rfl rfl (fun v4 w5 h6 => ?_) (fun _ _ h => h.elim)
  obtain ⟨q1, tw2, rfl, ht3, rfl⟩ := h6
  refine rn.mono (J := xSt F V0 ([(q1, .inr (8, [.int (nI g), .null, .null, .null, .null, .null, .int 0]))] ++ tw2)) (fun _ h => h.perm perm_ex) ?_
  show rn C (xSt F V0 ([(q1, .inr (8, [.int (nI g), .null, .null, .null, .null, .null, .int 0]))] ++ tw2)) 1 7 12 [(0, .ref sc), (1, .int ch)] [.ref q1]
  refine r_athrow hC (fun _ h => h.get 0 rfl) dX8_expect_12 ?_
  exact rx_out hC hTab (fun _ h => by cases h) (Nat.le_of_ble_eq_true rfl) (Nat.le_of_ble_eq_true rfl) (fun V9 h => hX _ _ ⟨[(q1, .inr (8, [.int (nI g), .null, .null, .null, .null, .null, .int 0]))], rfl, by rw [← hV0, ← hF]; exact h.left1.sub [0] rfl rfl⟩)
set_option maxHeartbeats 4000000 in
set_option maxRecDepth 100000 in
theorem metX8_expectWordY (l : Launch) (G : xG) (hG : xGood G) (sc tx sy en : Nat) (T B : Nat → Int32) (m : Nat) (hE : scE G sy en T B m) (g : Nat) (tw : xW) (htw : tokW sc tx sy en T B m g tw) (ka kv cm : Nat) (CB : Nat → Int32) (hst : xStr G ka kv cm CB) (w : Int64) (hkw : kwQ CB cm w) (hw : isW T en w (.ok g) = true) : xWm l G yX8_expectWord (Cond.code yX8_expectWord cX8_expectWord 2 none) { frames := 9, locals := 234, cells := 6 * (potP T en (.ok g) - potP T en (.ok (tBeg T en (tEnd T en g)))), slots := 50 * (potP T en (.ok g) - potP T en (.ok (tBeg T en (tEnd T en g)))) } [.ref sc, .ref ka] tw (fun v w' => v = none ∧ tokW sc tx sy en T B m (tBeg T en (tEnd T en g)) w') (fun _ _ => False) := by
  intro V hV
  refine xMet_ofT RX8 hG rfl (by decide) (Nat.le_of_ble_eq_true rfl) fun C hC hQ hX hl hg _ hTab => ?_
  subst hl hg
  have hpot := pot_nx (T := T) (isW_lt hw)
  obtain ⟨V0, hV0⟩ : ∃ V0, V0 = V := ⟨_, rfl⟩
  obtain ⟨F, hF⟩ : ∃ F, F = xF tw := ⟨_, rfl⟩
  refine rn.mono (J := xSt F V0 ([] ++ tw)) (fun V9 h => by rw [h, hV0, hF]; exact hV.st) ?_
  show rn C (xSt F V0 ([] ++ tw)) 0 0 0 [(0, .ref sc), (1, .ref ka)] []
  refine r_aload_n hC 0 dX8_expectWord_0 rfl 1 rfl ?_
  refine r_aload_n hC 1 dX8_expectWord_1 rfl 2 rfl ?_
  refine xCall.tl (ws := []) (r_cV hC kX8 sc [.ref ka] mVX8_accept q1405 (fun _ h => tok_recv htw h.in.right) (fun V9 h9 => (metX8_acceptY _ _ hG sc tx sy en T B m hE g tw htw ka kv cm CB hst w hkw hw) V9 h9.in.right) ⟨rfl, rfl⟩ (by first | omega | (dsimp only; omega)) (by first | omega | (dsimp only; omega)) rfl (Nat.le_of_ble_eq_true rfl) dX8_expectWord_2) (0 + (6 * (potP T en (.ok g) - potP T en (.ok (tBeg T en (tEnd T en g)))))) (0 + (50 * (potP T en (.ok g) - potP T en (.ok (tBeg T en (tEnd T en g)))))) 5 rfl rfl rfl (fun v2 w3 h4 => ?_) (fun _ _ h => h.elim)
  obtain ⟨rfl, ht1⟩ := h4
  show rn C (xSt F V0 ([] ++ w3)) (0 + (6 * (potP T en (.ok g) - potP T en (.ok (tBeg T en (tEnd T en g)))))) (0 + (50 * (potP T en (.ok g) - potP T en (.ok (tBeg T en (tEnd T en g)))))) 5 [(0, .ref sc), (1, .ref ka)] [.int 1]
  refine r_ifne hC 13 dX8_expectWord_5 (by decide) 8 rfl (fun _ => ?_) (fun h => absurd h (by decide))
  exact r_vret hC (by first | omega | (dsimp only; omega)) (by first | omega | (dsimp only; omega)) (fun V9 h => hQ _ _ ⟨w3, ⟨rfl, ht1⟩, by rw [← hV0, ← hF]; exact h⟩) dX8_expectWord_13
set_option maxHeartbeats 4000000 in
set_option maxRecDepth 100000 in
theorem metX8_expectWordN (l : Launch) (G : xG) (hG : xGood G) (sc tx sy en : Nat) (T B : Nat → Int32) (m : Nat) (hE : scE G sy en T B m) (g : Nat) (tw : xW) (htw : tokW sc tx sy en T B m g tw) (ka kv cm : Nat) (CB : Nat → Int32) (hst : xStr G ka kv cm CB) (w : Int64) (hkw : kwQ CB cm w) (hw : isW T en w (.ok g) = false) : xWm l G yX8_expectWord (Cond.code yX8_expectWord cX8_expectWord 2 none) { frames := 9, locals := 234, cells := 1, slots := 7 } [.ref sc, .ref ka] tw (fun _ _ => False) (fun q w' => w' = [(q, .inr (8, [.int (nI g), .null, .null, .null, .null, .null, .int 0]))]) := by
  intro V hV
  refine xMet_ofT RX8 hG rfl (by decide) (Nat.le_of_ble_eq_true rfl) fun C hC hQ hX hl hg _ hTab => ?_
  subst hl hg
  obtain ⟨V0, hV0⟩ : ∃ V0, V0 = V := ⟨_, rfl⟩
  obtain ⟨F, hF⟩ : ∃ F, F = xF tw := ⟨_, rfl⟩
  refine rn.mono (J := xSt F V0 ([] ++ tw)) (fun V9 h => by rw [h, hV0, hF]; exact hV.st) ?_
  show rn C (xSt F V0 ([] ++ tw)) 0 0 0 [(0, .ref sc), (1, .ref ka)] []
  refine r_aload_n hC 0 dX8_expectWord_0 rfl 1 rfl ?_
  refine r_aload_n hC 1 dX8_expectWord_1 rfl 2 rfl ?_
  refine xCall.tl (ws := []) (r_cV hC kX8 sc [.ref ka] mVX8_accept q1405 (fun _ h => tok_recv htw h.in.right) (fun V9 h9 => (metX8_acceptN _ _ hG sc tx sy en T B m hE g tw htw ka kv cm CB hst w hkw hw) V9 h9.in.right) ⟨rfl, rfl⟩ (Nat.le_of_ble_eq_true rfl) (Nat.le_of_ble_eq_true rfl) rfl (Nat.le_of_ble_eq_true rfl) dX8_expectWord_2) 0 0 5 rfl rfl rfl (fun v2 w3 h4 => ?_) (fun _ _ h => h.elim)
  obtain ⟨rfl, ht1⟩ := h4
  show rn C (xSt F V0 ([] ++ w3)) 0 0 5 [(0, .ref sc), (1, .ref ka)] [.int 0]
  refine r_ifne hC 13 dX8_expectWord_5 (by decide) 8 rfl (fun h => absurd h (by decide)) (fun _ => ?_)
  refine r_aload_n hC 0 dX8_expectWord_8 rfl 9 rfl ?_
  refine xCall.tl (ws := []) (r_cV hC kX8 sc [] mVX8_wrong q1346 (fun _ h => tok_recv ht1 h.in.right) (fun V9 h9 => (metX8_wrongT _ _ hG sc tx sy en T B m hE g w3 ht1) V9 h9.in.right) ⟨rfl, rfl⟩ (Nat.le_of_ble_eq_true rfl) (Nat.le_of_ble_eq_true rfl) rfl (Nat.le_of_ble_eq_true rfl) dX8_expectWord_9) 1 7 12 rfl rfl rfl (fun v11 w12 h13 => ?_) (fun _ _ h => h.elim)
  obtain ⟨q8, tw9, rfl, ht10, rfl⟩ := h13
  refine rn.mono (J := xSt F V0 ([(q8, .inr (8, [.int (nI g), .null, .null, .null, .null, .null, .int 0]))] ++ tw9)) (fun _ h => h.perm perm_ex) ?_
  show rn C (xSt F V0 ([(q8, .inr (8, [.int (nI g), .null, .null, .null, .null, .null, .int 0]))] ++ tw9)) 1 7 12 [(0, .ref sc), (1, .ref ka)] [.ref q8]
  refine r_athrow hC (fun _ h => h.get 0 rfl) dX8_expectWord_12 ?_
  exact rx_out hC hTab (fun _ h => by cases h) (Nat.le_of_ble_eq_true rfl) (Nat.le_of_ble_eq_true rfl) (fun V9 h => hX _ _ ⟨[(q8, .inr (8, [.int (nI g), .null, .null, .null, .null, .null, .int 0]))], rfl, by rw [← hV0, ← hF]; exact h.left1.sub [0] rfl rfl⟩)
set_option maxHeartbeats 4000000 in
set_option maxRecDepth 100000 in
theorem metX8_numberG (l : Launch) (G : xG) (hG : xGood G) (sc tx sy en : Nat) (T B : Nat → Int32) (m : Nat) (hE : scE G sy en T B m) (g : Nat) (tw : xW) (htw : tokW sc tx sy en T B m g tw) (lo hi : Int32) (hk : ckQ T en B m g = 2) (h1 : lo ≤ cval T g (tEnd T en g - g)) (h2 : cval T g (tEnd T en g - g) ≤ hi) : xWm l G yX8_number (Cond.code yX8_number cX8_number 4 (some .int)) { frames := 8, locals := 212, cells := 6 * (potP T en (.ok g) - potP T en (.ok (tBeg T en (tEnd T en g)))), slots := 50 * (potP T en (.ok g) - potP T en (.ok (tBeg T en (tEnd T en g)))) } [.ref sc, .int lo, .int hi] tw (fun v w' => v = some (.int (cval T g (tEnd T en g - g))) ∧ tokW sc tx sy en T B m (tBeg T en (tEnd T en g)) w') (fun _ _ => False) := by
  intro V hV
  refine xMet_ofT RX8 hG rfl (by decide) (Nat.le_of_ble_eq_true rfl) fun C hC hQ hX hl hg _ hTab => ?_
  subst hl hg
  have hpot := pot_nx (T := T) (ck_lt (T := T) (B := B) (m := m) (by rw [hk]; decide))
  obtain ⟨V0, hV0⟩ : ∃ V0, V0 = V := ⟨_, rfl⟩
  obtain ⟨F, hF⟩ : ∃ F, F = xF tw := ⟨_, rfl⟩
  refine rn.mono (J := xSt F V0 ([] ++ tw)) (fun V9 h => by rw [h, hV0, hF]; exact hV.st) ?_
  show rn C (xSt F V0 ([] ++ tw)) 0 0 0 [(0, .ref sc), (1, .int lo), (2, .int hi)] []
  refine r_aload_n hC 0 dX8_number_0 rfl 1 rfl ?_
  refine r_iload_n hC 1 dX8_number_1 rfl 2 rfl ?_
  refine r_iload_n hC 2 dX8_number_2 rfl 3 rfl ?_
  refine xCall.r (r := some (.int (cval T g (tEnd T en g - g)))) (r_cV hC kX8 sc [.int lo, .int hi] mVX8_look q1342 (fun _ h => tok_recv htw h.in.right) (fun V9 h9 => (metX8_lookTG _ _ hG sc tx sy en T B m hE g tw htw lo hi hk h1 h2) V9 h9.in.right) ⟨rfl, rfl⟩ (Nat.le_of_ble_eq_true rfl) (Nat.le_of_ble_eq_true rfl) rfl (Nat.le_of_ble_eq_true rfl) dX8_number_3) 0 0 6 rfl rfl rfl ?_
  refine r_istore_n hC 3 [(3, .int (cval T g (tEnd T en g - g))), (0, .ref sc), (1, .int lo), (2, .int hi)] dX8_number_6 rfl (Nat.le_of_ble_eq_true rfl) rfl 7 rfl ?_
  refine r_aload_n hC 1 dX8_number_7 rfl 8 rfl ?_
  refine xCall.tl (ws := []) (r_cV hC kX8 sc [] mVX8_advance q976 (fun _ h => tok_recv htw h.in.right) (fun V9 h9 => (metX8_advance _ _ hG sc tx sy en T B m hE g tw htw) V9 h9.in.right) ⟨rfl, rfl⟩ (by first | omega | (dsimp only; omega)) (by first | omega | (dsimp only; omega)) rfl (Nat.le_of_ble_eq_true rfl) dX8_number_8) (0 + ((tEnd T en (tBeg T en (tEnd T en g)) - (tBeg T en (tEnd T en g))) + 4)) (0 + (5 * (tEnd T en (tBeg T en (tEnd T en g)) - (tBeg T en (tEnd T en g))) + 36)) 11 rfl rfl rfl (fun v2 w3 h4 => ?_) (fun _ _ h => h.elim)
  obtain ⟨rfl, ht1⟩ := h4
  show rn C (xSt F V0 ([] ++ w3)) (0 + ((tEnd T en (tBeg T en (tEnd T en g)) - (tBeg T en (tEnd T en g))) + 4)) (0 + (5 * (tEnd T en (tBeg T en (tEnd T en g)) - (tBeg T en (tEnd T en g))) + 36)) 11 [(3, .int (cval T g (tEnd T en g - g))), (0, .ref sc), (1, .int lo), (2, .int hi)] []
  refine r_iload_n hC 0 dX8_number_11 rfl 12 rfl ?_
  exact r_iret hC (by first | omega | (dsimp only; omega)) (by first | omega | (dsimp only; omega)) (fun V9 h => hQ _ _ ⟨w3, ⟨rfl, ht1⟩, by rw [← hV0, ← hF]; exact h⟩) dX8_number_12
set_option maxHeartbeats 4000000 in
set_option maxRecDepth 100000 in
theorem metX8_numberS (l : Launch) (G : xG) (hG : xGood G) (sc tx sy en : Nat) (T B : Nat → Int32) (m : Nat) (hE : scE G sy en T B m) (g : Nat) (tw : xW) (htw : tokW sc tx sy en T B m g tw) (lo hi : Int32) (hk : ¬ ckQ T en B m g = 2) : xWm l G yX8_number (Cond.code yX8_number cX8_number 4 (some .int)) { frames := 7, locals := 152, cells := 1, slots := 7 } [.ref sc, .int lo, .int hi] tw (fun _ _ => False) (fun q w' => w' = [(q, .inr (8, [.int (nI g), .null, .null, .null, .null, .null, .int 0]))]) := by
  intro V hV
  refine xMet_ofT RX8 hG rfl (by decide) (Nat.le_of_ble_eq_true rfl) fun C hC hQ hX hl hg _ hTab => ?_
  subst hl hg
  obtain ⟨V0, hV0⟩ : ∃ V0, V0 = V := ⟨_, rfl⟩
  obtain ⟨F, hF⟩ : ∃ F, F = xF tw := ⟨_, rfl⟩
  refine rn.mono (J := xSt F V0 ([] ++ tw)) (fun V9 h => by rw [h, hV0, hF]; exact hV.st) ?_
  show rn C (xSt F V0 ([] ++ tw)) 0 0 0 [(0, .ref sc), (1, .int lo), (2, .int hi)] []
  refine r_aload_n hC 0 dX8_number_0 rfl 1 rfl ?_
  refine r_iload_n hC 1 dX8_number_1 rfl 2 rfl ?_
  refine r_iload_n hC 2 dX8_number_2 rfl 3 rfl ?_
  refine xCall.tl (ws := []) (r_cV hC kX8 sc [.int lo, .int hi] mVX8_look q1342 (fun _ h => tok_recv htw h.in.right) (fun V9 h9 => (metX8_lookTS _ _ hG sc tx sy en T B m hE g tw htw lo hi hk) V9 h9.in.right) ⟨rfl, rfl⟩ (Nat.le_of_ble_eq_true rfl) (Nat.le_of_ble_eq_true rfl) rfl (Nat.le_of_ble_eq_true rfl) dX8_number_3) 1 7 6 rfl rfl rfl (fun _ _ h => h.elim) (fun q4 w5 h6 => ?_)
  obtain rfl := h6
  show rx C (xSt F V0 [(q4, .inr (8, [.int (nI g), .null, .null, .null, .null, .null, .int 0]))]) 1 7 3 [(0, .ref sc), (1, .int lo), (2, .int hi)] [] q4
  exact rx_out hC hTab (fun _ h => by cases h) (Nat.le_of_ble_eq_true rfl) (Nat.le_of_ble_eq_true rfl) (fun V9 h => hX _ _ ⟨[(q4, .inr (8, [.int (nI g), .null, .null, .null, .null, .null, .int 0]))], rfl, by rw [← hV0, ← hF]; exact h.sub [0] rfl rfl⟩)
set_option maxHeartbeats 4000000 in
set_option maxRecDepth 100000 in
theorem metX8_numberR1 (l : Launch) (G : xG) (hG : xGood G) (sc tx sy en : Nat) (T B : Nat → Int32) (m : Nat) (hE : scE G sy en T B m) (g : Nat) (tw : xW) (htw : tokW sc tx sy en T B m g tw) (lo hi : Int32) (hk : ckQ T en B m g = 2) (h1 : cval T g (tEnd T en g - g) < lo) : xWm l G yX8_number (Cond.code yX8_number cX8_number 4 (some .int)) { frames := 6, locals := 132, cells := 1, slots := 7 } [.ref sc, .int lo, .int hi] tw (fun _ _ => False) (fun q w' => w' = [(q, .inr (9, [.int (nI g), .null, .null, .null, .null, .null, .int 0]))]) := by
  intro V hV
  refine xMet_ofT RX8 hG rfl (by decide) (Nat.le_of_ble_eq_true rfl) fun C hC hQ hX hl hg _ hTab => ?_
  subst hl hg
  obtain ⟨V0, hV0⟩ : ∃ V0, V0 = V := ⟨_, rfl⟩
  obtain ⟨F, hF⟩ : ∃ F, F = xF tw := ⟨_, rfl⟩
  refine rn.mono (J := xSt F V0 ([] ++ tw)) (fun V9 h => by rw [h, hV0, hF]; exact hV.st) ?_
  show rn C (xSt F V0 ([] ++ tw)) 0 0 0 [(0, .ref sc), (1, .int lo), (2, .int hi)] []
  refine r_aload_n hC 0 dX8_number_0 rfl 1 rfl ?_
  refine r_iload_n hC 1 dX8_number_1 rfl 2 rfl ?_
  refine r_iload_n hC 2 dX8_number_2 rfl 3 rfl ?_
  refine xCall.tl (ws := []) (r_cV hC kX8 sc [.int lo, .int hi] mVX8_look q1342 (fun _ h => tok_recv htw h.in.right) (fun V9 h9 => (metX8_lookTR1 _ _ hG sc tx sy en T B m hE g tw htw lo hi hk h1) V9 h9.in.right) ⟨rfl, rfl⟩ (Nat.le_of_ble_eq_true rfl) (Nat.le_of_ble_eq_true rfl) rfl (Nat.le_of_ble_eq_true rfl) dX8_number_3) 1 7 6 rfl rfl rfl (fun _ _ h => h.elim) (fun q4 w5 h6 => ?_)
  obtain rfl := h6
  show rx C (xSt F V0 [(q4, .inr (9, [.int (nI g), .null, .null, .null, .null, .null, .int 0]))]) 1 7 3 [(0, .ref sc), (1, .int lo), (2, .int hi)] [] q4
  exact rx_out hC hTab (fun _ h => by cases h) (Nat.le_of_ble_eq_true rfl) (Nat.le_of_ble_eq_true rfl) (fun V9 h => hX _ _ ⟨[(q4, .inr (9, [.int (nI g), .null, .null, .null, .null, .null, .int 0]))], rfl, by rw [← hV0, ← hF]; exact h.sub [0] rfl rfl⟩)
set_option maxHeartbeats 4000000 in
set_option maxRecDepth 100000 in
theorem metX8_numberR2 (l : Launch) (G : xG) (hG : xGood G) (sc tx sy en : Nat) (T B : Nat → Int32) (m : Nat) (hE : scE G sy en T B m) (g : Nat) (tw : xW) (htw : tokW sc tx sy en T B m g tw) (lo hi : Int32) (hk : ckQ T en B m g = 2) (h1 : lo ≤ cval T g (tEnd T en g - g)) (h2 : ¬ cval T g (tEnd T en g - g) ≤ hi) : xWm l G yX8_number (Cond.code yX8_number cX8_number 4 (some .int)) { frames := 6, locals := 132, cells := 1, slots := 7 } [.ref sc, .int lo, .int hi] tw (fun _ _ => False) (fun q w' => w' = [(q, .inr (9, [.int (nI g), .null, .null, .null, .null, .null, .int 0]))]) := by
  intro V hV
  refine xMet_ofT RX8 hG rfl (by decide) (Nat.le_of_ble_eq_true rfl) fun C hC hQ hX hl hg _ hTab => ?_
  subst hl hg
  obtain ⟨V0, hV0⟩ : ∃ V0, V0 = V := ⟨_, rfl⟩
  obtain ⟨F, hF⟩ : ∃ F, F = xF tw := ⟨_, rfl⟩
  refine rn.mono (J := xSt F V0 ([] ++ tw)) (fun V9 h => by rw [h, hV0, hF]; exact hV.st) ?_
  show rn C (xSt F V0 ([] ++ tw)) 0 0 0 [(0, .ref sc), (1, .int lo), (2, .int hi)] []
  refine r_aload_n hC 0 dX8_number_0 rfl 1 rfl ?_
  refine r_iload_n hC 1 dX8_number_1 rfl 2 rfl ?_
  refine r_iload_n hC 2 dX8_number_2 rfl 3 rfl ?_
  refine xCall.tl (ws := []) (r_cV hC kX8 sc [.int lo, .int hi] mVX8_look q1342 (fun _ h => tok_recv htw h.in.right) (fun V9 h9 => (metX8_lookTR2 _ _ hG sc tx sy en T B m hE g tw htw lo hi hk h1 h2) V9 h9.in.right) ⟨rfl, rfl⟩ (Nat.le_of_ble_eq_true rfl) (Nat.le_of_ble_eq_true rfl) rfl (Nat.le_of_ble_eq_true rfl) dX8_number_3) 1 7 6 rfl rfl rfl (fun _ _ h => h.elim) (fun q4 w5 h6 => ?_)
  obtain rfl := h6
  show rx C (xSt F V0 [(q4, .inr (9, [.int (nI g), .null, .null, .null, .null, .null, .int 0]))]) 1 7 3 [(0, .ref sc), (1, .int lo), (2, .int hi)] [] q4
  exact rx_out hC hTab (fun _ h => by cases h) (Nat.le_of_ble_eq_true rfl) (Nat.le_of_ble_eq_true rfl) (fun V9 h => hX _ _ ⟨[(q4, .inr (9, [.int (nI g), .null, .null, .null, .null, .null, .int 0]))], rfl, by rw [← hV0, ← hF]; exact h.sub [0] rfl rfl⟩)
