/-! ===== the JDK: maps: going through the entries ===== -/
set_option maxRecDepth 100000
set_option maxHeartbeats 4000000 in
set_option maxRecDepth 100000 in
theorem metJ0_init_J28 (l : Launch) (G : xG) (hG : xGood G) (q M : Nat) (ws9 : xW) : xWm l G yJ0_init (Cond.code yJ0_init cJ0_init 1 none) { frames := 1, locals := 20, cells := 0, slots := 0 } [.ref q] ([(q, .inr (28, [.int 0, .ref M]))] ++ ws9) (fun v w' => v = none ∧ w' = ([(q, .inr (28, [.int 0, .ref M]))] ++ ws9)) (fun _ _ => False) := by
  intro V hV
  refine xMet_ofT RJ0 hG rfl (by decide) (Nat.le_of_ble_eq_true rfl) fun C hC hQ hX hl hg hini hTab => ?_
  subst hl hg
  replace hini := hini rfl
  obtain ⟨V0, hV0⟩ : ∃ V0, V0 = V := ⟨_, rfl⟩
  obtain ⟨F, hF⟩ : ∃ F, F = xF ([(q, .inr (28, [.int 0, .ref M]))] ++ ws9) := ⟨_, rfl⟩
  refine rn.mono (J := xSt F V0 ([(q, .inr (28, [.int 0, .ref M]))] ++ ws9)) (fun V9 h => by rw [h, hV0, hF]; exact hV.st) ?_
  show rn C (xSt F V0 ([(q, .inr (28, [.int 0, .ref M]))] ++ ws9)) 0 0 0 [(0, .ref q)] []
  refine r_aload_n hC 0 dJ0_init_0 rfl 1 rfl ?_
  refine r_objInit hC q235 (Nat.le_of_ble_eq_true rfl) (Nat.le_of_ble_eq_true rfl) (Nat.le_of_ble_eq_true rfl) dJ0_init_1 4 rfl ?_
  exact r_vret hC (Nat.le_of_ble_eq_true rfl) (Nat.le_of_ble_eq_true rfl) (fun V9 h => hQ _ _ ⟨_, ⟨rfl, rfl⟩, by rw [← hV0, ← hF]; exact h⟩) dJ0_init_4
set_option maxHeartbeats 4000000 in
set_option maxRecDepth 100000 in
theorem metJ27_init_J28 (l : Launch) (G : xG) (hG : xGood G) (q M : Nat) (ws9 : xW) : xWm l G yJ27_init (Cond.code yJ27_init cJ27_init 1 none) { frames := 2, locals := 40, cells := 0, slots := 0 } [.ref q] ([(q, .inr (28, [.int 0, .ref M]))] ++ ws9) (fun v w' => v = none ∧ w' = ([(q, .inr (28, [.int 0, .ref M]))] ++ ws9)) (fun _ _ => False) := by
  intro V hV
  refine xMet_ofT RJ27 hG rfl (by decide) (Nat.le_of_ble_eq_true rfl) fun C hC hQ hX hl hg hini hTab => ?_
  subst hl hg
  replace hini := hini rfl
  obtain ⟨V0, hV0⟩ : ∃ V0, V0 = V := ⟨_, rfl⟩
  obtain ⟨F, hF⟩ : ∃ F, F = xF ([(q, .inr (28, [.int 0, .ref M]))] ++ ws9) := ⟨_, rfl⟩
  refine rn.mono (J := xSt F V0 ([(q, .inr (28, [.int 0, .ref M]))] ++ ws9)) (fun V9 h => by rw [h, hV0, hF]; exact hV.st) ?_
  show rn C (xSt F V0 ([(q, .inr (28, [.int 0, .ref M]))] ++ ws9)) 0 0 0 [(0, .ref q)] []
  refine r_aload_n hC 0 dJ27_init_0 rfl 1 rfl ?_
  refine xCall.ct (wcx := [(q, .inr (28, [.int 0, .ref M]))]) (wr := []) (r_cI hC q [] mIJ0_init q2406 (fun V9 h9 => (metJ0_init_J28 _ _ hG q M ws9) V9 (h9.in.cut (wcx := [(q, .inr (28, [.int 0, .ref M]))]) (wr := []) [0] [] 1 rfl rfl rfl rfl)) ⟨rfl, rfl⟩ (Nat.le_of_ble_eq_true rfl) (Nat.le_of_ble_eq_true rfl) rfl (Nat.le_of_ble_eq_true rfl) dJ27_init_1) [0] [] 1 rfl rfl rfl rfl 0 0 4 rfl rfl rfl (fun v1 w2 h3 => ?_) (fun _ _ h => h.elim)
  obtain ⟨rfl, rfl⟩ := h3
  refine rn.mono (J := xSt F V0 ([(q, .inr (28, [.int 0, .ref M]))] ++ ws9)) (fun _ h => by rw [← List.append_assoc] at h; exact h) ?_
  show rn C (xSt F V0 ([(q, .inr (28, [.int 0, .ref M]))] ++ ws9)) 0 0 4 [(0, .ref q)] []
  exact r_vret hC (Nat.le_of_ble_eq_true rfl) (Nat.le_of_ble_eq_true rfl) (fun V9 h => hQ _ _ ⟨_, ⟨rfl, rfl⟩, by rw [← hV0, ← hF]; exact h⟩) dJ27_init_4
set_option maxHeartbeats 4000000 in
set_option maxRecDepth 100000 in
theorem metJ28_init (l : Launch) (G : xG) (hG : xGood G) (q M : Nat) (ws9 : xW) : xWm l G yJ28_init (Cond.code yJ28_init cJ28_init 3 none) { frames := 3, locals := 60, cells := 0, slots := 0 } [.ref q, .ref M, .int 0] ([(q, .inr (28, [.int 0, .null]))] ++ ws9) (fun v w' => v = none ∧ w' = ([(q, .inr (28, [.int 0, .ref M]))] ++ ws9)) (fun _ _ => False) := by
  intro V hV
  refine xMet_ofT RJ28 hG rfl (by decide) (Nat.le_of_ble_eq_true rfl) fun C hC hQ hX hl hg hini hTab => ?_
  subst hl hg
  replace hini := hini rfl
  obtain ⟨V0, hV0⟩ : ∃ V0, V0 = V := ⟨_, rfl⟩
  obtain ⟨F, hF⟩ : ∃ F, F = xF ([(q, .inr (28, [.int 0, .null]))] ++ ws9) := ⟨_, rfl⟩
  refine rn.mono (J := xSt F V0 ([(q, .inr (28, [.int 0, .null]))] ++ ws9)) (fun V9 h => by rw [h, hV0, hF]; exact hV.st) ?_
  show rn C (xSt F V0 ([(q, .inr (28, [.int 0, .null]))] ++ ws9)) 0 0 0 [(0, .ref q), (1, .ref M), (2, .int 0)] []
  refine r_aload_n hC 0 dJ28_init_0 rfl 1 rfl ?_
  refine r_aload_n hC 1 dJ28_init_1 rfl 2 rfl ?_
  refine r_putF (J := xSt F V0 ([(q, .inr (28, [.int 0, .ref M]))] ++ ws9)) hC hini kJ28 1 rfl q2408 rfl rfl (fun _ h => h.get 0 rfl) (Nat.le_of_ble_eq_true rfl) (rfl) (rfl) dJ28_init_2 (fun _ h => h.set 0 _ rfl) 5 rfl ?_
  refine r_aload_n hC 0 dJ28_init_5 rfl 6 rfl ?_
  refine xCall.ct (wcx := [(q, .inr (28, [.int 0, .ref M]))]) (wr := []) (r_cI hC q [] mIJ27_init q2403 (fun V9 h9 => (metJ27_init_J28 _ _ hG q M ws9) V9 (h9.in.cut (wcx := [(q, .inr (28, [.int 0, .ref M]))]) (wr := []) [0] [] 1 rfl rfl rfl rfl)) ⟨rfl, rfl⟩ (Nat.le_of_ble_eq_true rfl) (Nat.le_of_ble_eq_true rfl) rfl (Nat.le_of_ble_eq_true rfl) dJ28_init_6) [0] [] 1 rfl rfl rfl rfl 0 0 9 rfl rfl rfl (fun v1 w2 h3 => ?_) (fun _ _ h => h.elim)
  obtain ⟨rfl, rfl⟩ := h3
  refine rn.mono (J := xSt F V0 ([(q, .inr (28, [.int 0, .ref M]))] ++ ws9)) (fun _ h => by rw [← List.append_assoc] at h; exact h) ?_
  show rn C (xSt F V0 ([(q, .inr (28, [.int 0, .ref M]))] ++ ws9)) 0 0 9 [(0, .ref q), (1, .ref M), (2, .int 0)] []
  refine r_aload_n hC 0 dJ28_init_9 rfl 10 rfl ?_
  refine r_iload_n hC 2 dJ28_init_10 rfl 11 rfl ?_
  refine r_putF (J := xSt F V0 ([(q, .inr (28, [.int 0, .ref M]))] ++ ws9)) hC hini kJ28 0 rfl q2407 rfl rfl (fun _ h => h.get 0 rfl) (Nat.le_of_ble_eq_true rfl) (rfl) (rfl) dJ28_init_11 (fun _ h => h.set 0 _ rfl) 14 rfl ?_
  exact r_vret hC (Nat.le_of_ble_eq_true rfl) (Nat.le_of_ble_eq_true rfl) (fun V9 h => hQ _ _ ⟨_, ⟨rfl, rfl⟩, by rw [← hV0, ← hF]; exact h⟩) dJ28_init_14
set_option maxHeartbeats 4000000 in
set_option maxRecDepth 100000 in
theorem metJ21_sequencedEntrySet (l : Launch) (G : xG) (hG : xGood G) (M : Nat) (tbo : Option Nat) (sz th : Nat) (mc : Int32) (hd tl : Option Nat) (ws9 : xW) : xWm l G yJ21_sequencedEntrySet (Cond.code yJ21_sequencedEntrySet cJ21_sequencedEntrySet 3 (some (.object "java/util/SequencedSet"))) { frames := 4, locals := 82, cells := 1, slots := 2 } [.ref M] ([(M, .inr (25, [va_rf tbo, .null, .int (nI sz), .int mc, .int (nI th), .float 1061158912, .null, .null, va_rf hd, va_rf tl, .int 0, .int 0]))] ++ ws9) (fun v w' => ∃ q : Nat, v = some (.ref q) ∧ w' = ([(M, .inr (25, [va_rf tbo, .ref q, .int (nI sz), .int mc, .int (nI th), .float 1061158912, .null, .null, va_rf hd, va_rf tl, .int 0, .int 0])), (q, .inr (28, [.int 0, .ref M]))] ++ ws9)) (fun _ _ => False) := by
  intro V hV
  refine xMet_ofT RJ21 hG rfl (by decide) (Nat.le_of_ble_eq_true rfl) fun C hC hQ hX hl hg _ hTab => ?_
  subst hl hg
  obtain ⟨V0, hV0⟩ : ∃ V0, V0 = V := ⟨_, rfl⟩
  obtain ⟨F, hF⟩ : ∃ F, F = xF ([(M, .inr (25, [va_rf tbo, .null, .int (nI sz), .int mc, .int (nI th), .float 1061158912, .null, .null, va_rf hd, va_rf tl, .int 0, .int 0]))] ++ ws9) := ⟨_, rfl⟩
  refine rn.mono (J := xSt F V0 ([(M, .inr (25, [va_rf tbo, .null, .int (nI sz), .int mc, .int (nI th), .float 1061158912, .null, .null, va_rf hd, va_rf tl, .int 0, .int 0]))] ++ ws9)) (fun V9 h => by rw [h, hV0, hF]; exact hV.st) ?_
  show rn C (xSt F V0 ([(M, .inr (25, [va_rf tbo, .null, .int (nI sz), .int mc, .int (nI th), .float 1061158912, .null, .null, va_rf hd, va_rf tl, .int 0, .int 0]))] ++ ws9)) 0 0 0 [(0, .ref M)] []
  refine r_aload_n hC 0 dJ21_sequencedEntrySet_0 rfl 1 rfl ?_
  refine r_getI (v := .null) hC kJ21 1 rfl q1771 (Or.inr q1772) (fun _ h => h.get 0 rfl) rfl dJ21_sequencedEntrySet_1 4 rfl ?_
  refine r_astore_nN hC 1 [(1, .null), (0, .ref M)] dJ21_sequencedEntrySet_4 rfl (Nat.le_of_ble_eq_true rfl) rfl 5 rfl ?_
  refine r_aload_nN hC 0 dJ21_sequencedEntrySet_5 rfl 6 rfl ?_
  refine r_ifnonnullN hC dJ21_sequencedEntrySet_6 9 rfl ?_
  refine r_new (J := fun q1 => xSt F V0 ([(M, .inr (25, [va_rf tbo, .null, .int (nI sz), .int mc, .int (nI th), .float 1061158912, .null, .null, va_rf hd, va_rf tl, .int 0, .int 0])), (q1, .inr (28, [.int 0, .null]))] ++ ws9)) hC [.int 0, .null] kJ28 q2398 q2399 q147 dfJ28 (Nat.le_of_ble_eq_true rfl) (Nat.le_of_ble_eq_true rfl) dJ21_sequencedEntrySet_9 (fun _ h => h.pushT _) 12 rfl (fun q1 => ?_)
  show rn C (xSt F V0 ([(M, .inr (25, [va_rf tbo, .null, .int (nI sz), .int mc, .int (nI th), .float 1061158912, .null, .null, va_rf hd, va_rf tl, .int 0, .int 0])), (q1, .inr (28, [.int 0, .null]))] ++ ws9)) 1 2 12 [(1, .null), (0, .ref M)] [.ref q1]
  refine r_dup hC dJ21_sequencedEntrySet_12 rfl 13 rfl ?_
  refine r_aload_n hC 1 dJ21_sequencedEntrySet_13 rfl 14 rfl ?_
  refine r_iconst hC 0 dJ21_sequencedEntrySet_14 ic_0 15 rfl ?_
  refine xCall.ct (wcx := [(q1, .inr (28, [.int 0, .null]))]) (wr := [(M, .inr (25, [va_rf tbo, .null, .int (nI sz), .int mc, .int (nI th), .float 1061158912, .null, .null, va_rf hd, va_rf tl, .int 0, .int 0]))]) (r_cI hC q1 [.ref M, .int 0] mIJ28_init q2400 (fun V9 h9 => (metJ28_init _ _ hG q1 M ws9) V9 (h9.in.cut (wcx := [(q1, .inr (28, [.int 0, .null]))]) (wr := [(M, .inr (25, [va_rf tbo, .null, .int (nI sz), .int mc, .int (nI th), .float 1061158912, .null, .null, va_rf hd, va_rf tl, .int 0, .int 0]))]) [1] [0] 2 rfl rfl rfl rfl)) ⟨rfl, rfl⟩ (Nat.le_of_ble_eq_true rfl) (Nat.le_of_ble_eq_true rfl) rfl (Nat.le_of_ble_eq_true rfl) dJ21_sequencedEntrySet_15) [1] [0] 2 rfl rfl rfl rfl 1 2 18 rfl rfl rfl (fun v2 w3 h4 => ?_) (fun _ _ h => h.elim)
  obtain ⟨rfl, rfl⟩ := h4
  refine rn.mono (J := xSt F V0 ([(M, .inr (25, [va_rf tbo, .null, .int (nI sz), .int mc, .int (nI th), .float 1061158912, .null, .null, va_rf hd, va_rf tl, .int 0, .int 0])), (q1, .inr (28, [.int 0, .ref M]))] ++ ws9)) (fun _ h => by rw [← List.append_assoc] at h; exact h) ?_
  show rn C (xSt F V0 ([(M, .inr (25, [va_rf tbo, .null, .int (nI sz), .int mc, .int (nI th), .float 1061158912, .null, .null, va_rf hd, va_rf tl, .int 0, .int 0])), (q1, .inr (28, [.int 0, .ref M]))] ++ ws9)) 1 2 18 [(1, .null), (0, .ref M)] [.ref q1]
  refine r_astore_n hC 2 [(2, .ref q1), (1, .null), (0, .ref M)] dJ21_sequencedEntrySet_18 rfl (Nat.le_of_ble_eq_true rfl) rfl 19 rfl ?_
  refine r_aload_n hC 2 dJ21_sequencedEntrySet_19 rfl 20 rfl ?_
  refine r_aload_n hC 0 dJ21_sequencedEntrySet_20 rfl 21 rfl ?_
  refine r_putI (J := xSt F V0 ([(M, .inr (25, [va_rf tbo, .ref q1, .int (nI sz), .int mc, .int (nI th), .float 1061158912, .null, .null, va_rf hd, va_rf tl, .int 0, .int 0])), (q1, .inr (28, [.int 0, .ref M]))] ++ ws9)) hC kJ21 1 rfl q1771 (Or.inr q1772) rfl (fun _ h => h.get 0 rfl) (Nat.le_of_ble_eq_true rfl) rfl rfl dJ21_sequencedEntrySet_21 (fun _ h => h.set 0 _ rfl) 24 rfl ?_
  refine r_aload_n hC 0 dJ21_sequencedEntrySet_24 rfl 25 rfl ?_
  exact r_aret hC (v := (some q1)) (Or.inl ⟨_, rfl⟩) (Nat.le_of_ble_eq_true rfl) (Nat.le_of_ble_eq_true rfl) (fun V9 h => hQ _ _ ⟨_, ⟨q1, rfl, rfl⟩, by rw [← hV0, ← hF]; exact h⟩) dJ21_sequencedEntrySet_25
set_option maxHeartbeats 4000000 in
set_option maxRecDepth 100000 in
theorem metJ21_entrySet (l : Launch) (G : xG) (hG : xGood G) (M : Nat) (tbo : Option Nat) (sz th : Nat) (mc : Int32) (hd tl : Option Nat) (ws9 : xW) : xWm l G yJ21_entrySet (Cond.code yJ21_entrySet cJ21_entrySet 1 (some (.object "java/util/Set"))) { frames := 5, locals := 104, cells := 1, slots := 2 } [.ref M] ([(M, .inr (25, [va_rf tbo, .null, .int (nI sz), .int mc, .int (nI th), .float 1061158912, .null, .null, va_rf hd, va_rf tl, .int 0, .int 0]))] ++ ws9) (fun v w' => ∃ q : Nat, v = some (.ref q) ∧ w' = ([(M, .inr (25, [va_rf tbo, .ref q, .int (nI sz), .int mc, .int (nI th), .float 1061158912, .null, .null, va_rf hd, va_rf tl, .int 0, .int 0])), (q, .inr (28, [.int 0, .ref M]))] ++ ws9)) (fun _ _ => False) := by
  intro V hV
  refine xMet_ofT RJ21 hG rfl (by decide) (Nat.le_of_ble_eq_true rfl) fun C hC hQ hX hl hg _ hTab => ?_
  subst hl hg
  obtain ⟨V0, hV0⟩ : ∃ V0, V0 = V := ⟨_, rfl⟩
  obtain ⟨F, hF⟩ : ∃ F, F = xF ([(M, .inr (25, [va_rf tbo, .null, .int (nI sz), .int mc, .int (nI th), .float 1061158912, .null, .null, va_rf hd, va_rf tl, .int 0, .int 0]))] ++ ws9) := ⟨_, rfl⟩
  refine rn.mono (J := xSt F V0 ([(M, .inr (25, [va_rf tbo, .null, .int (nI sz), .int mc, .int (nI th), .float 1061158912, .null, .null, va_rf hd, va_rf tl, .int 0, .int 0]))] ++ ws9)) (fun V9 h => by rw [h, hV0, hF]; exact hV.st) ?_
  show rn C (xSt F V0 ([(M, .inr (25, [va_rf tbo, .null, .int (nI sz), .int mc, .int (nI th), .float 1061158912, .null, .null, va_rf hd, va_rf tl, .int 0, .int 0]))] ++ ws9)) 0 0 0 [(0, .ref M)] []
  refine r_aload_n hC 0 dJ21_entrySet_0 rfl 1 rfl ?_
  refine xCall.ct (wcx := [(M, .inr (25, [va_rf tbo, .null, .int (nI sz), .int mc, .int (nI th), .float 1061158912, .null, .null, va_rf hd, va_rf tl, .int 0, .int 0]))]) (wr := []) (r_cV hC kJ21 M [] mVJ21_sequencedEntrySet q2394 (fun _ h => ⟨_, h.get 0 rfl⟩) (fun V9 h9 => (metJ21_sequencedEntrySet _ _ hG M tbo sz th mc hd tl ws9) V9 (h9.in.cut (wcx := [(M, .inr (25, [va_rf tbo, .null, .int (nI sz), .int mc, .int (nI th), .float 1061158912, .null, .null, va_rf hd, va_rf tl, .int 0, .int 0]))]) (wr := []) [0] [] 1 rfl rfl rfl rfl)) ⟨rfl, rfl⟩ (Nat.le_of_ble_eq_true rfl) (Nat.le_of_ble_eq_true rfl) rfl (Nat.le_of_ble_eq_true rfl) dJ21_entrySet_1) [0] [] 1 rfl rfl rfl rfl 1 2 4 rfl rfl rfl (fun v2 w3 h4 => ?_) (fun _ _ h => h.elim)
  obtain ⟨q1, rfl, rfl⟩ := h4
  refine rn.mono (J := xSt F V0 ([(M, .inr (25, [va_rf tbo, .ref q1, .int (nI sz), .int mc, .int (nI th), .float 1061158912, .null, .null, va_rf hd, va_rf tl, .int 0, .int 0])), (q1, .inr (28, [.int 0, .ref M]))] ++ ws9)) (fun _ h => by rw [← List.append_assoc] at h; exact h) ?_
  show rn C (xSt F V0 ([(M, .inr (25, [va_rf tbo, .ref q1, .int (nI sz), .int mc, .int (nI th), .float 1061158912, .null, .null, va_rf hd, va_rf tl, .int 0, .int 0])), (q1, .inr (28, [.int 0, .ref M]))] ++ ws9)) 1 2 4 [(0, .ref M)] [.ref q1]
  exact r_aret hC (v := (some q1)) (Or.inl ⟨_, rfl⟩) (Nat.le_of_ble_eq_true rfl) (Nat.le_of_ble_eq_true rfl) (fun V9 h => hQ _ _ ⟨_, ⟨q1, rfl, rfl⟩, by rw [← hV0, ← hF]; exact h⟩) dJ21_entrySet_4
set_option maxHeartbeats 4000000 in
set_option maxRecDepth 100000 in
theorem metJ29_init (l : Launch) (G : xG) (hG : xGood G) (M : Nat) (tbo es : Option Nat) (sz th : Nat) (mc : Int32) (hd tl : Option Nat) (q : Nat) (ws9 : xW) : xWm l G yJ29_init (Cond.code yJ29_init cJ29_init 3 none) { frames := 1, locals := 20, cells := 0, slots := 0 } [.ref q, .ref M, .int 0] ([(q, .inr (29, [.null, .null, .int 0, .int 0, .null])), (M, .inr (25, [va_rf tbo, va_rf es, .int (nI sz), .int mc, .int (nI th), .float 1061158912, .null, .null, va_rf hd, va_rf tl, .int 0, .int 0]))] ++ ws9) (fun v w' => v = none ∧ w' = ([(q, .inr (29, [va_rf hd, .null, .int mc, .int 0, .ref M])), (M, .inr (25, [va_rf tbo, va_rf es, .int (nI sz), .int mc, .int (nI th), .float 1061158912, .null, .null, va_rf hd, va_rf tl, .int 0, .int 0]))] ++ ws9)) (fun _ _ => False) := by
  intro V hV
  refine xMet_ofT RJ29 hG rfl (by decide) (Nat.le_of_ble_eq_true rfl) fun C hC hQ hX hl hg hini hTab => ?_
  subst hl hg
  replace hini := hini rfl
  obtain ⟨V0, hV0⟩ : ∃ V0, V0 = V := ⟨_, rfl⟩
  obtain ⟨F, hF⟩ : ∃ F, F = xF ([(q, .inr (29, [.null, .null, .int 0, .int 0, .null])), (M, .inr (25, [va_rf tbo, va_rf es, .int (nI sz), .int mc, .int (nI th), .float 1061158912, .null, .null, va_rf hd, va_rf tl, .int 0, .int 0]))] ++ ws9) := ⟨_, rfl⟩
  refine rn.mono (J := xSt F V0 ([(q, .inr (29, [.null, .null, .int 0, .int 0, .null])), (M, .inr (25, [va_rf tbo, va_rf es, .int (nI sz), .int mc, .int (nI th), .float 1061158912, .null, .null, va_rf hd, va_rf tl, .int 0, .int 0]))] ++ ws9)) (fun V9 h => by rw [h, hV0, hF]; exact hV.st) ?_
  show rn C (xSt F V0 ([(q, .inr (29, [.null, .null, .int 0, .int 0, .null])), (M, .inr (25, [va_rf tbo, va_rf es, .int (nI sz), .int mc, .int (nI th), .float 1061158912, .null, .null, va_rf hd, va_rf tl, .int 0, .int 0]))] ++ ws9)) 0 0 0 [(0, .ref q), (1, .ref M), (2, .int 0)] []
  refine r_aload_n hC 0 dJ29_init_0 rfl 1 rfl ?_
  refine r_aload_n hC 1 dJ29_init_1 rfl 2 rfl ?_
  refine r_putF (J := xSt F V0 ([(q, .inr (29, [.null, .null, .int 0, .int 0, .ref M])), (M, .inr (25, [va_rf tbo, va_rf es, .int (nI sz), .int mc, .int (nI th), .float 1061158912, .null, .null, va_rf hd, va_rf tl, .int 0, .int 0]))] ++ ws9)) hC hini kJ30 4 rfl q2438 rfl rfl (fun _ h => h.get 0 rfl) (Nat.le_of_ble_eq_true rfl) (rfl) (rfl) dJ29_init_2 (fun _ h => h.set 0 _ rfl) 5 rfl ?_
  refine r_aload_n hC 0 dJ29_init_5 rfl 6 rfl ?_
  refine r_objInit hC q2433 (Nat.le_of_ble_eq_true rfl) (Nat.le_of_ble_eq_true rfl) (Nat.le_of_ble_eq_true rfl) dJ29_init_6 9 rfl ?_
  refine r_aload_n hC 0 dJ29_init_9 rfl 10 rfl ?_
  refine r_iload_n hC 2 dJ29_init_10 rfl 11 rfl ?_
  refine r_put (J := xSt F V0 ([(q, .inr (29, [.null, .null, .int 0, .int 0, .ref M])), (M, .inr (25, [va_rf tbo, va_rf es, .int (nI sz), .int mc, .int (nI th), .float 1061158912, .null, .null, va_rf hd, va_rf tl, .int 0, .int 0]))] ++ ws9)) hC kJ30 3 rfl q2437 rfl (fun _ h => h.get 0 rfl) (Nat.le_of_ble_eq_true rfl) (rfl) (rfl) dJ29_init_11 (fun _ h => h.set 0 _ rfl) 14 rfl ?_
  refine r_aload_n hC 0 dJ29_init_14 rfl 15 rfl ?_
  refine r_iload_n hC 2 dJ29_init_15 rfl 16 rfl ?_
  refine r_ifeq hC 26 dJ29_init_16 (by decide) 19 rfl (fun _ => ?_) (fun h => absurd h (by decide))
  refine r_aload_n hC 1 dJ29_init_26 rfl 27 rfl ?_
  rcases opt_c (hd) with hl1 | ⟨x2, hl1⟩
  · skip
    refine r_get (v := .null) hC kJ21 8 rfl q1765 (fun _ h => h.get 1 rfl) (congrArg (fun o9 => some (va_rf o9)) hl1) dJ29_init_27 30 rfl ?_
    refine r_put (J := xSt F V0 ([(q, .inr (29, [.null, .null, .int 0, .int 0, .ref M])), (M, .inr (25, [va_rf tbo, va_rf es, .int (nI sz), .int mc, .int (nI th), .float 1061158912, .null, .null, va_rf hd, va_rf tl, .int 0, .int 0]))] ++ ws9)) hC kJ30 0 rfl q2434 rfl (fun _ h => h.get 0 rfl) (Nat.le_of_ble_eq_true rfl) (rfl) (rfl) dJ29_init_30 (fun _ h => h.set 0 _ rfl) 33 rfl ?_
    refine r_aload_n hC 0 dJ29_init_33 rfl 34 rfl ?_
    refine r_aload_n hC 1 dJ29_init_34 rfl 35 rfl ?_
    refine r_getI (v := .int mc) hC kJ21 3 rfl q1774 (Or.inr q1775) (fun _ h => h.get 1 rfl) rfl dJ29_init_35 38 rfl ?_
    refine r_put (J := xSt F V0 ([(q, .inr (29, [.null, .null, .int mc, .int 0, .ref M])), (M, .inr (25, [va_rf tbo, va_rf es, .int (nI sz), .int mc, .int (nI th), .float 1061158912, .null, .null, va_rf hd, va_rf tl, .int 0, .int 0]))] ++ ws9)) hC kJ30 2 rfl q2436 rfl (fun _ h => h.get 0 rfl) (Nat.le_of_ble_eq_true rfl) (rfl) (rfl) dJ29_init_38 (fun _ h => h.set 0 _ rfl) 41 rfl ?_
    refine r_aload_n hC 0 dJ29_init_41 rfl 42 rfl ?_
    refine r_null hC dJ29_init_42 43 rfl ?_
    refine r_put (J := xSt F V0 ([(q, .inr (29, [.null, .null, .int mc, .int 0, .ref M])), (M, .inr (25, [va_rf tbo, va_rf es, .int (nI sz), .int mc, .int (nI th), .float 1061158912, .null, .null, va_rf hd, va_rf tl, .int 0, .int 0]))] ++ ws9)) hC kJ30 1 rfl q2435 rfl (fun _ h => h.get 0 rfl) (Nat.le_of_ble_eq_true rfl) (rfl) (rfl) dJ29_init_43 (fun _ h => h.set 0 _ rfl) 46 rfl ?_
    exact r_vret hC (Nat.le_of_ble_eq_true rfl) (Nat.le_of_ble_eq_true rfl) (fun V9 h => hQ _ _ ⟨_, ⟨rfl, rfl⟩, by rw [← hV0, ← hF]; simp only [hl1] at h ⊢; exact h⟩) dJ29_init_46
  · skip
    refine r_get (v := .ref x2) hC kJ21 8 rfl q1765 (fun _ h => h.get 1 rfl) (congrArg (fun o9 => some (va_rf o9)) hl1) dJ29_init_27 30 rfl ?_
    refine r_put (J := xSt F V0 ([(q, .inr (29, [.ref x2, .null, .int 0, .int 0, .ref M])), (M, .inr (25, [va_rf tbo, va_rf es, .int (nI sz), .int mc, .int (nI th), .float 1061158912, .null, .null, va_rf hd, va_rf tl, .int 0, .int 0]))] ++ ws9)) hC kJ30 0 rfl q2434 rfl (fun _ h => h.get 0 rfl) (Nat.le_of_ble_eq_true rfl) (rfl) (rfl) dJ29_init_30 (fun _ h => h.set 0 _ rfl) 33 rfl ?_
    refine r_aload_n hC 0 dJ29_init_33 rfl 34 rfl ?_
    refine r_aload_n hC 1 dJ29_init_34 rfl 35 rfl ?_
    refine r_getI (v := .int mc) hC kJ21 3 rfl q1774 (Or.inr q1775) (fun _ h => h.get 1 rfl) rfl dJ29_init_35 38 rfl ?_
    refine r_put (J := xSt F V0 ([(q, .inr (29, [.ref x2, .null, .int mc, .int 0, .ref M])), (M, .inr (25, [va_rf tbo, va_rf es, .int (nI sz), .int mc, .int (nI th), .float 1061158912, .null, .null, va_rf hd, va_rf tl, .int 0, .int 0]))] ++ ws9)) hC kJ30 2 rfl q2436 rfl (fun _ h => h.get 0 rfl) (Nat.le_of_ble_eq_true rfl) (rfl) (rfl) dJ29_init_38 (fun _ h => h.set 0 _ rfl) 41 rfl ?_
    refine r_aload_n hC 0 dJ29_init_41 rfl 42 rfl ?_
    refine r_null hC dJ29_init_42 43 rfl ?_
    refine r_put (J := xSt F V0 ([(q, .inr (29, [.ref x2, .null, .int mc, .int 0, .ref M])), (M, .inr (25, [va_rf tbo, va_rf es, .int (nI sz), .int mc, .int (nI th), .float 1061158912, .null, .null, va_rf hd, va_rf tl, .int 0, .int 0]))] ++ ws9)) hC kJ30 1 rfl q2435 rfl (fun _ h => h.get 0 rfl) (Nat.le_of_ble_eq_true rfl) (rfl) (rfl) dJ29_init_43 (fun _ h => h.set 0 _ rfl) 46 rfl ?_
    exact r_vret hC (Nat.le_of_ble_eq_true rfl) (Nat.le_of_ble_eq_true rfl) (fun V9 h => hQ _ _ ⟨_, ⟨rfl, rfl⟩, by rw [← hV0, ← hF]; simp only [hl1] at h ⊢; exact h⟩) dJ29_init_46
set_option maxHeartbeats 4000000 in
set_option maxRecDepth 100000 in
theorem metJ30_init (l : Launch) (G : xG) (hG : xGood G) (M : Nat) (tbo es : Option Nat) (sz th : Nat) (mc : Int32) (hd tl : Option Nat) (q : Nat) (ws9 : xW) : xWm l G yJ30_init (Cond.code yJ30_init cJ30_init 3 none) { frames := 2, locals := 42, cells := 0, slots := 0 } [.ref q, .ref M, .int 0] ([(q, .inr (29, [.null, .null, .int 0, .int 0, .null])), (M, .inr (25, [va_rf tbo, va_rf es, .int (nI sz), .int mc, .int (nI th), .float 1061158912, .null, .null, va_rf hd, va_rf tl, .int 0, .int 0]))] ++ ws9) (fun v w' => v = none ∧ w' = ([(q, .inr (29, [va_rf hd, .null, .int mc, .int 0, .ref M])), (M, .inr (25, [va_rf tbo, va_rf es, .int (nI sz), .int mc, .int (nI th), .float 1061158912, .null, .null, va_rf hd, va_rf tl, .int 0, .int 0]))] ++ ws9)) (fun _ _ => False) := by
  intro V hV
  refine xMet_ofT RJ30 hG rfl (by decide) (Nat.le_of_ble_eq_true rfl) fun C hC hQ hX hl hg hini hTab => ?_
  subst hl hg
  replace hini := hini rfl
  obtain ⟨V0, hV0⟩ : ∃ V0, V0 = V := ⟨_, rfl⟩
  obtain ⟨F, hF⟩ : ∃ F, F = xF ([(q, .inr (29, [.null, .null, .int 0, .int 0, .null])), (M, .inr (25, [va_rf tbo, va_rf es, .int (nI sz), .int mc, .int (nI th), .float 1061158912, .null, .null, va_rf hd, va_rf tl, .int 0, .int 0]))] ++ ws9) := ⟨_, rfl⟩
  refine rn.mono (J := xSt F V0 ([(q, .inr (29, [.null, .null, .int 0, .int 0, .null])), (M, .inr (25, [va_rf tbo, va_rf es, .int (nI sz), .int mc, .int (nI th), .float 1061158912, .null, .null, va_rf hd, va_rf tl, .int 0, .int 0]))] ++ ws9)) (fun V9 h => by rw [h, hV0, hF]; exact hV.st) ?_
  show rn C (xSt F V0 ([(q, .inr (29, [.null, .null, .int 0, .int 0, .null])), (M, .inr (25, [va_rf tbo, va_rf es, .int (nI sz), .int mc, .int (nI th), .float 1061158912, .null, .null, va_rf hd, va_rf tl, .int 0, .int 0]))] ++ ws9)) 0 0 0 [(0, .ref q), (1, .ref M), (2, .int 0)] []
  refine r_aload_n hC 0 dJ30_init_0 rfl 1 rfl ?_
  refine r_aload_n hC 1 dJ30_init_1 rfl 2 rfl ?_
  refine r_iload_n hC 2 dJ30_init_2 rfl 3 rfl ?_
  refine xCall.ct (wcx := [(q, .inr (29, [.null, .null, .int 0, .int 0, .null])), (M, .inr (25, [va_rf tbo, va_rf es, .int (nI sz), .int mc, .int (nI th), .float 1061158912, .null, .null, va_rf hd, va_rf tl, .int 0, .int 0]))]) (wr := []) (r_cI hC q [.ref M, .int 0] mIJ29_init q2430 (fun V9 h9 => (metJ29_init _ _ hG M tbo es sz th mc hd tl q ws9) V9 (h9.in.cut (wcx := [(q, .inr (29, [.null, .null, .int 0, .int 0, .null])), (M, .inr (25, [va_rf tbo, va_rf es, .int (nI sz), .int mc, .int (nI th), .float 1061158912, .null, .null, va_rf hd, va_rf tl, .int 0, .int 0]))]) (wr := []) [0, 1] [] 2 rfl rfl rfl rfl)) ⟨rfl, rfl⟩ (Nat.le_of_ble_eq_true rfl) (Nat.le_of_ble_eq_true rfl) rfl (Nat.le_of_ble_eq_true rfl) dJ30_init_3) [0, 1] [] 2 rfl rfl rfl rfl 0 0 6 rfl rfl rfl (fun v1 w2 h3 => ?_) (fun _ _ h => h.elim)
  obtain ⟨rfl, rfl⟩ := h3
  refine rn.mono (J := xSt F V0 ([(q, .inr (29, [va_rf hd, .null, .int mc, .int 0, .ref M])), (M, .inr (25, [va_rf tbo, va_rf es, .int (nI sz), .int mc, .int (nI th), .float 1061158912, .null, .null, va_rf hd, va_rf tl, .int 0, .int 0]))] ++ ws9)) (fun _ h => by rw [← List.append_assoc] at h; exact h) ?_
  show rn C (xSt F V0 ([(q, .inr (29, [va_rf hd, .null, .int mc, .int 0, .ref M])), (M, .inr (25, [va_rf tbo, va_rf es, .int (nI sz), .int mc, .int (nI th), .float 1061158912, .null, .null, va_rf hd, va_rf tl, .int 0, .int 0]))] ++ ws9)) 0 0 6 [(0, .ref q), (1, .ref M), (2, .int 0)] []
  exact r_vret hC (Nat.le_of_ble_eq_true rfl) (Nat.le_of_ble_eq_true rfl) (fun V9 h => hQ _ _ ⟨_, ⟨rfl, rfl⟩, by rw [← hV0, ← hF]; exact h⟩) dJ30_init_6
set_option maxHeartbeats 4000000 in
set_option maxRecDepth 100000 in
theorem metJ28_iterator (l : Launch) (G : xG) (hG : xGood G) (M : Nat) (tbo es : Option Nat) (sz th : Nat) (mc : Int32) (hd tl : Option Nat) (es9 : Nat) (ws9 : xW) : xWm l G yJ28_iterator (Cond.code yJ28_iterator cJ28_iterator 1 (some (.object "java/util/Iterator"))) { frames := 3, locals := 64, cells := 1, slots := 5 } [.ref es9] ([(es9, .inr (28, [.int 0, .ref M])), (M, .inr (25, [va_rf tbo, va_rf es, .int (nI sz), .int mc, .int (nI th), .float 1061158912, .null, .null, va_rf hd, va_rf tl, .int 0, .int 0]))] ++ ws9) (fun v w' => ∃ q : Nat, v = some (.ref q) ∧ w' = ([(es9, .inr (28, [.int 0, .ref M])), (M, .inr (25, [va_rf tbo, va_rf es, .int (nI sz), .int mc, .int (nI th), .float 1061158912, .null, .null, va_rf hd, va_rf tl, .int 0, .int 0])), (q, .inr (29, [va_rf hd, .null, .int mc, .int 0, .ref M]))] ++ ws9)) (fun _ _ => False) := by
  intro V hV
  refine xMet_ofT RJ28 hG rfl (by decide) (Nat.le_of_ble_eq_true rfl) fun C hC hQ hX hl hg _ hTab => ?_
  subst hl hg
  obtain ⟨V0, hV0⟩ : ∃ V0, V0 = V := ⟨_, rfl⟩
  obtain ⟨F, hF⟩ : ∃ F, F = xF ([(es9, .inr (28, [.int 0, .ref M])), (M, .inr (25, [va_rf tbo, va_rf es, .int (nI sz), .int mc, .int (nI th), .float 1061158912, .null, .null, va_rf hd, va_rf tl, .int 0, .int 0]))] ++ ws9) := ⟨_, rfl⟩
  refine rn.mono (J := xSt F V0 ([(es9, .inr (28, [.int 0, .ref M])), (M, .inr (25, [va_rf tbo, va_rf es, .int (nI sz), .int mc, .int (nI th), .float 1061158912, .null, .null, va_rf hd, va_rf tl, .int 0, .int 0]))] ++ ws9)) (fun V9 h => by rw [h, hV0, hF]; exact hV.st) ?_
  show rn C (xSt F V0 ([(es9, .inr (28, [.int 0, .ref M])), (M, .inr (25, [va_rf tbo, va_rf es, .int (nI sz), .int mc, .int (nI th), .float 1061158912, .null, .null, va_rf hd, va_rf tl, .int 0, .int 0]))] ++ ws9)) 0 0 0 [(0, .ref es9)] []
  refine r_new (J := fun q1 => xSt F V0 ([(es9, .inr (28, [.int 0, .ref M])), (M, .inr (25, [va_rf tbo, va_rf es, .int (nI sz), .int mc, .int (nI th), .float 1061158912, .null, .null, va_rf hd, va_rf tl, .int 0, .int 0])), (q1, .inr (29, [.null, .null, .int 0, .int 0, .null]))] ++ ws9)) hC [.null, .null, .int 0, .int 0, .null] kJ30 q2425 q2426 q149 dfJ30 (Nat.le_of_ble_eq_true rfl) (Nat.le_of_ble_eq_true rfl) dJ28_iterator_0 (fun _ h => h.pushT _) 3 rfl (fun q1 => ?_)
  show rn C (xSt F V0 ([(es9, .inr (28, [.int 0, .ref M])), (M, .inr (25, [va_rf tbo, va_rf es, .int (nI sz), .int mc, .int (nI th), .float 1061158912, .null, .null, va_rf hd, va_rf tl, .int 0, .int 0])), (q1, .inr (29, [.null, .null, .int 0, .int 0, .null]))] ++ ws9)) 1 5 3 [(0, .ref es9)] [.ref q1]
  refine r_dup hC dJ28_iterator_3 rfl 4 rfl ?_
  refine r_aload_n hC 0 dJ28_iterator_4 rfl 5 rfl ?_
  refine r_get (v := .ref M) hC kJ28 1 rfl q2408 (fun _ h => h.get 0 rfl) rfl dJ28_iterator_5 8 rfl ?_
  refine r_aload_n hC 0 dJ28_iterator_8 rfl 9 rfl ?_
  refine r_get (v := .int 0) hC kJ28 0 rfl q2407 (fun _ h => h.get 0 rfl) rfl dJ28_iterator_9 12 rfl ?_
  refine xCall.ct (wcx := [(q1, .inr (29, [.null, .null, .int 0, .int 0, .null])), (M, .inr (25, [va_rf tbo, va_rf es, .int (nI sz), .int mc, .int (nI th), .float 1061158912, .null, .null, va_rf hd, va_rf tl, .int 0, .int 0]))]) (wr := [(es9, .inr (28, [.int 0, .ref M]))]) (r_cI hC q1 [.ref M, .int 0] mIJ30_init q2427 (fun V9 h9 => (metJ30_init _ _ hG M tbo es sz th mc hd tl q1 ws9) V9 (h9.in.cut (wcx := [(q1, .inr (29, [.null, .null, .int 0, .int 0, .null])), (M, .inr (25, [va_rf tbo, va_rf es, .int (nI sz), .int mc, .int (nI th), .float 1061158912, .null, .null, va_rf hd, va_rf tl, .int 0, .int 0]))]) (wr := [(es9, .inr (28, [.int 0, .ref M]))]) [2, 1] [0] 3 rfl rfl rfl rfl)) ⟨rfl, rfl⟩ (Nat.le_of_ble_eq_true rfl) (Nat.le_of_ble_eq_true rfl) rfl (Nat.le_of_ble_eq_true rfl) dJ28_iterator_12) [2, 1] [0] 3 rfl rfl rfl rfl 1 5 15 rfl rfl rfl (fun v2 w3 h4 => ?_) (fun _ _ h => h.elim)
  obtain ⟨rfl, rfl⟩ := h4
  refine rn.mono (J := xSt F V0 ([(es9, .inr (28, [.int 0, .ref M])), (q1, .inr (29, [va_rf hd, .null, .int mc, .int 0, .ref M])), (M, .inr (25, [va_rf tbo, va_rf es, .int (nI sz), .int mc, .int (nI th), .float 1061158912, .null, .null, va_rf hd, va_rf tl, .int 0, .int 0]))] ++ ws9)) (fun _ h => by rw [← List.append_assoc] at h; exact h) ?_
  show rn C (xSt F V0 ([(es9, .inr (28, [.int 0, .ref M])), (q1, .inr (29, [va_rf hd, .null, .int mc, .int 0, .ref M])), (M, .inr (25, [va_rf tbo, va_rf es, .int (nI sz), .int mc, .int (nI th), .float 1061158912, .null, .null, va_rf hd, va_rf tl, .int 0, .int 0]))] ++ ws9)) 1 5 15 [(0, .ref es9)] [.ref q1]
  exact r_aret hC (v := (some q1)) (Or.inl ⟨_, rfl⟩) (Nat.le_of_ble_eq_true rfl) (Nat.le_of_ble_eq_true rfl) (fun V9 h => hQ _ _ ⟨_, ⟨q1, rfl, rfl⟩, by rw [← hV0, ← hF]; exact h.ordT [0, 2, 1] 3 rfl rfl rfl⟩) dJ28_iterator_15
set_option maxHeartbeats 4000000 in
set_option maxRecDepth 100000 in
theorem metJ29_hasNext1 (l : Launch) (G : xG) (hG : xGood G) (it M : Nat) (cur : Option Nat) (mc : Int32) (e : Nat) : xRm l G yJ29_hasNext (Cond.code yJ29_hasNext cJ29_hasNext 1 (some .boolean)) { frames := 0, locals := 0, cells := 0, slots := 0 } [.ref it] [(it, .inr (29, [.ref e, va_rf cur, .int mc, .int 0, .ref M]))] (some (.int 1)) := by
  intro V hV
  refine xMet_ofT RJ29 hG rfl (by decide) (Nat.le_of_ble_eq_true rfl) fun C hC hQ hX hl hg _ hTab => ?_
  subst hl hg
  refine rn.mono (J := xRo [(it, .inr (29, [.ref e, va_rf cur, .int mc, .int 0, .ref M]))] V) (fun V9 h => ⟨h, hV⟩) ?_
  show rn C (xRo [(it, .inr (29, [.ref e, va_rf cur, .int mc, .int 0, .ref M]))] V) 0 0 0 [(0, .ref it)] []
  refine r_aload_n hC 0 dJ29_hasNext_0 rfl 1 rfl ?_
  refine r_get (v := .ref e) hC kJ30 0 rfl q2434 (fun _ h => h.get 0 rfl) rfl dJ29_hasNext_1 4 rfl ?_
  refine r_ifnull hC dJ29_hasNext_4 7 rfl ?_
  refine r_iconst hC 1 dJ29_hasNext_7 ic_1 8 rfl ?_
  refine r_goto hC 12 dJ29_hasNext_8 (by decide) ?_
  exact r_zret hC (by decide) (Nat.le_of_ble_eq_true rfl) (Nat.le_of_ble_eq_true rfl) (fun V9 h => hQ _ _ ⟨rfl, h.1⟩) dJ29_hasNext_12
set_option maxHeartbeats 4000000 in
set_option maxRecDepth 100000 in
theorem metJ29_hasNext0 (l : Launch) (G : xG) (hG : xGood G) (it M : Nat) (cur : Option Nat) (mc : Int32) : xRm l G yJ29_hasNext (Cond.code yJ29_hasNext cJ29_hasNext 1 (some .boolean)) { frames := 0, locals := 0, cells := 0, slots := 0 } [.ref it] [(it, .inr (29, [.null, va_rf cur, .int mc, .int 0, .ref M]))] (some (.int 0)) := by
  intro V hV
  refine xMet_ofT RJ29 hG rfl (by decide) (Nat.le_of_ble_eq_true rfl) fun C hC hQ hX hl hg _ hTab => ?_
  subst hl hg
  refine rn.mono (J := xRo [(it, .inr (29, [.null, va_rf cur, .int mc, .int 0, .ref M]))] V) (fun V9 h => ⟨h, hV⟩) ?_
  show rn C (xRo [(it, .inr (29, [.null, va_rf cur, .int mc, .int 0, .ref M]))] V) 0 0 0 [(0, .ref it)] []
  refine r_aload_n hC 0 dJ29_hasNext_0 rfl 1 rfl ?_
  refine r_get (v := .null) hC kJ30 0 rfl q2434 (fun _ h => h.get 0 rfl) rfl dJ29_hasNext_1 4 rfl ?_
  refine r_ifnullN hC 11 dJ29_hasNext_4 (by decide) ?_
  refine r_iconst hC 0 dJ29_hasNext_11 ic_0 12 rfl ?_
  exact r_zret hC (by decide) (Nat.le_of_ble_eq_true rfl) (Nat.le_of_ble_eq_true rfl) (fun V9 h => hQ _ _ ⟨rfl, h.1⟩) dJ29_hasNext_12
set_option maxHeartbeats 4000000 in
set_option maxRecDepth 100000 in
theorem metJ29_nextNode (l : Launch) (G : xG) (hG : xGood G) (L : List Nat) (kd : Nat → Bool) (hs : Nat → Int32) (ky vl : Nat → Nat) (nx bf af pa lf rt pv : Nat → Option Nat) (rd : Nat → Int32) (M : Nat) (tbo es : Option Nat) (sz th : Nat) (mc : Int32) (hd tl : Option Nat) (it e : Nat) (cur : Option Nat) (heL : e ∈ L) : xWm l G yJ29_nextNode (Cond.code yJ29_nextNode cJ29_nextNode 2 (some (.object "java/util/LinkedHashMap$Entry"))) { frames := 0, locals := 0, cells := 0, slots := 0 } [.ref it] ([(it, .inr (29, [.ref e, va_rf cur, .int mc, .int 0, .ref M])), (M, .inr (25, [va_rf tbo, va_rf es, .int (nI sz), .int mc, .int (nI th), .float 1061158912, .null, .null, va_rf hd, va_rf tl, .int 0, .int 0]))] ++ stW L (ndX kd hs ky vl nx bf af pa lf rt pv rd)) (fun v w' => v = some (.ref e) ∧ w' = ([(it, .inr (29, [va_rf (af e), .ref e, .int mc, .int 0, .ref M])), (M, .inr (25, [va_rf tbo, va_rf es, .int (nI sz), .int mc, .int (nI th), .float 1061158912, .null, .null, va_rf hd, va_rf tl, .int 0, .int 0]))] ++ stW L (ndX kd hs ky vl nx bf af pa lf rt pv rd))) (fun _ _ => False) := by
  intro V hV
  refine xMet_ofT RJ29 hG rfl (by decide) (Nat.le_of_ble_eq_true rfl) fun C hC hQ hX hl hg _ hTab => ?_
  subst hl hg
  obtain ⟨V0, hV0⟩ : ∃ V0, V0 = V := ⟨_, rfl⟩
  obtain ⟨F, hF⟩ : ∃ F, F = xF ([(it, .inr (29, [.ref e, va_rf cur, .int mc, .int 0, .ref M])), (M, .inr (25, [va_rf tbo, va_rf es, .int (nI sz), .int mc, .int (nI th), .float 1061158912, .null, .null, va_rf hd, va_rf tl, .int 0, .int 0]))] ++ stW L (ndX kd hs ky vl nx bf af pa lf rt pv rd)) := ⟨_, rfl⟩
  refine rn.mono (J := xSt F V0 ([(it, .inr (29, [.ref e, va_rf cur, .int mc, .int 0, .ref M])), (M, .inr (25, [va_rf tbo, va_rf es, .int (nI sz), .int mc, .int (nI th), .float 1061158912, .null, .null, va_rf hd, va_rf tl, .int 0, .int 0]))] ++ stW L (ndX kd hs ky vl nx bf af pa lf rt pv rd))) (fun V9 h => by rw [h, hV0, hF]; exact hV.st) ?_
  show rn C (xSt F V0 ([(it, .inr (29, [.ref e, va_rf cur, .int mc, .int 0, .ref M])), (M, .inr (25, [va_rf tbo, va_rf es, .int (nI sz), .int mc, .int (nI th), .float 1061158912, .null, .null, va_rf hd, va_rf tl, .int 0, .int 0]))] ++ stW L (ndX kd hs ky vl nx bf af pa lf rt pv rd))) 0 0 0 [(0, .ref it)] []
  refine r_aload_n hC 0 dJ29_nextNode_0 rfl 1 rfl ?_
  refine r_get (v := .ref e) hC kJ30 0 rfl q2434 (fun _ h => h.get 0 rfl) rfl dJ29_nextNode_1 4 rfl ?_
  refine r_astore_n hC 1 [(1, .ref e), (0, .ref it)] dJ29_nextNode_4 rfl (Nat.le_of_ble_eq_true rfl) rfl 5 rfl ?_
  refine r_aload_n hC 1 dJ29_nextNode_5 rfl 6 rfl ?_
  refine r_get (v := .ref M) hC kJ30 4 rfl q2438 (fun _ h => h.get 0 rfl) rfl dJ29_nextNode_6 9 rfl ?_
  refine r_getI (v := .int mc) hC kJ21 3 rfl q1774 (Or.inr q1775) (fun _ h => h.get 1 rfl) rfl dJ29_nextNode_9 12 rfl ?_
  refine r_aload_n hC 1 dJ29_nextNode_12 rfl 13 rfl ?_
  refine r_get (v := .int mc) hC kJ30 2 rfl q2436 (fun _ h => h.get 0 rfl) rfl dJ29_nextNode_13 16 rfl ?_
  refine r_iceq hC 27 dJ29_nextNode_16 (by decide) 19 rfl (fun _ => ?_) (fun h => absurd (rfl) h)
  refine r_aload_n hC 0 dJ29_nextNode_27 rfl 28 rfl ?_
  refine r_ifnonnull hC 39 dJ29_nextNode_28 (by decide) ?_
  refine r_aload_n hC 1 dJ29_nextNode_39 rfl 40 rfl ?_
  refine r_aload_n hC 0 dJ29_nextNode_40 rfl 41 rfl ?_
  refine r_put (J := xSt F V0 ([(it, .inr (29, [.ref e, .ref e, .int mc, .int 0, .ref M])), (M, .inr (25, [va_rf tbo, va_rf es, .int (nI sz), .int mc, .int (nI th), .float 1061158912, .null, .null, va_rf hd, va_rf tl, .int 0, .int 0]))] ++ stW L (ndX kd hs ky vl nx bf af pa lf rt pv rd))) hC kJ30 1 rfl q2435 rfl (fun _ h => h.get 0 rfl) (Nat.le_of_ble_eq_true rfl) (rfl) (rfl) dJ29_nextNode_41 (fun _ h => h.set 0 _ rfl) 44 rfl ?_
  refine r_aload_n hC 1 dJ29_nextNode_44 rfl 45 rfl ?_
  refine r_aload_n hC 1 dJ29_nextNode_45 rfl 46 rfl ?_
  refine r_get (v := .int 0) hC kJ30 3 rfl q2437 (fun _ h => h.get 0 rfl) rfl dJ29_nextNode_46 49 rfl ?_
  refine r_ifeq hC 59 dJ29_nextNode_49 (by decide) 52 rfl (fun _ => ?_) (fun h => absurd h (by decide))
  refine r_aload_n hC 0 dJ29_nextNode_59 rfl 60 rfl ?_
  rcases opt_c (af e) with hl1 | ⟨x2, hl1⟩
  · skip
    refine r_getX (v := .null) hC 5 rfl rfl q2228 q2228 (Or.inl rfl) (Or.inl rfl) (fun _ h => stW_get h heL rfl) (congrArg (fun o9 => some (va_rf o9)) (hl1)) (congrArg (fun o9 => some (va_rf o9)) (hl1)) dJ29_nextNode_60 63 rfl ?_
    refine r_put (J := xSt F V0 ([(it, .inr (29, [.null, .ref e, .int mc, .int 0, .ref M])), (M, .inr (25, [va_rf tbo, va_rf es, .int (nI sz), .int mc, .int (nI th), .float 1061158912, .null, .null, va_rf hd, va_rf tl, .int 0, .int 0]))] ++ stW L (ndX kd hs ky vl nx bf af pa lf rt pv rd))) hC kJ30 0 rfl q2434 rfl (fun _ h => h.get 0 rfl) (Nat.le_of_ble_eq_true rfl) (rfl) (rfl) dJ29_nextNode_63 (fun _ h => h.set 0 _ rfl) 66 rfl ?_
    refine r_aload_n hC 0 dJ29_nextNode_66 rfl 67 rfl ?_
    exact r_aret hC (v := (some e)) (Or.inl ⟨_, rfl⟩) (Nat.le_of_ble_eq_true rfl) (Nat.le_of_ble_eq_true rfl) (fun V9 h => hQ _ _ ⟨_, ⟨rfl, rfl⟩, by rw [← hV0, ← hF]; simp only [hl1]; exact h⟩) dJ29_nextNode_67
  · skip
    refine r_getX (v := .ref x2) hC 5 rfl rfl q2228 q2228 (Or.inl rfl) (Or.inl rfl) (fun _ h => stW_get h heL rfl) (congrArg (fun o9 => some (va_rf o9)) (hl1)) (congrArg (fun o9 => some (va_rf o9)) (hl1)) dJ29_nextNode_60 63 rfl ?_
    refine r_put (J := xSt F V0 ([(it, .inr (29, [.ref x2, .ref e, .int mc, .int 0, .ref M])), (M, .inr (25, [va_rf tbo, va_rf es, .int (nI sz), .int mc, .int (nI th), .float 1061158912, .null, .null, va_rf hd, va_rf tl, .int 0, .int 0]))] ++ stW L (ndX kd hs ky vl nx bf af pa lf rt pv rd))) hC kJ30 0 rfl q2434 rfl (fun _ h => h.get 0 rfl) (Nat.le_of_ble_eq_true rfl) (rfl) (rfl) dJ29_nextNode_63 (fun _ h => h.set 0 _ rfl) 66 rfl ?_
    refine r_aload_n hC 0 dJ29_nextNode_66 rfl 67 rfl ?_
    exact r_aret hC (v := (some e)) (Or.inl ⟨_, rfl⟩) (Nat.le_of_ble_eq_true rfl) (Nat.le_of_ble_eq_true rfl) (fun V9 h => hQ _ _ ⟨_, ⟨rfl, rfl⟩, by rw [← hV0, ← hF]; simp only [hl1]; exact h⟩) dJ29_nextNode_67
set_option maxHeartbeats 4000000 in
set_option maxRecDepth 100000 in
theorem metJ30_next_2 (l : Launch) (G : xG) (hG : xGood G) (L : List Nat) (kd : Nat → Bool) (hs : Nat → Int32) (ky vl : Nat → Nat) (nx bf af pa lf rt pv : Nat → Option Nat) (rd : Nat → Int32) (M : Nat) (tbo es : Option Nat) (sz th : Nat) (mc : Int32) (hd tl : Option Nat) (it e : Nat) (cur : Option Nat) (heL : e ∈ L) : xWm l G yJ30_next_2 (Cond.code yJ30_next_2 cJ30_next_2 1 (some (.object "java/util/Map$Entry"))) { frames := 1, locals := 21, cells := 0, slots := 0 } [.ref it] ([(it, .inr (29, [.ref e, va_rf cur, .int mc, .int 0, .ref M])), (M, .inr (25, [va_rf tbo, va_rf es, .int (nI sz), .int mc, .int (nI th), .float 1061158912, .null, .null, va_rf hd, va_rf tl, .int 0, .int 0]))] ++ stW L (ndX kd hs ky vl nx bf af pa lf rt pv rd)) (fun v w' => v = some (.ref e) ∧ w' = ([(it, .inr (29, [va_rf (af e), .ref e, .int mc, .int 0, .ref M])), (M, .inr (25, [va_rf tbo, va_rf es, .int (nI sz), .int mc, .int (nI th), .float 1061158912, .null, .null, va_rf hd, va_rf tl, .int 0, .int 0]))] ++ stW L (ndX kd hs ky vl nx bf af pa lf rt pv rd))) (fun _ _ => False) := by
  intro V hV
  refine xMet_ofT RJ30 hG rfl (by decide) (Nat.le_of_ble_eq_true rfl) fun C hC hQ hX hl hg _ hTab => ?_
  subst hl hg
  obtain ⟨V0, hV0⟩ : ∃ V0, V0 = V := ⟨_, rfl⟩
  obtain ⟨F, hF⟩ : ∃ F, F = xF ([(it, .inr (29, [.ref e, va_rf cur, .int mc, .int 0, .ref M])), (M, .inr (25, [va_rf tbo, va_rf es, .int (nI sz), .int mc, .int (nI th), .float 1061158912, .null, .null, va_rf hd, va_rf tl, .int 0, .int 0]))] ++ stW L (ndX kd hs ky vl nx bf af pa lf rt pv rd)) := ⟨_, rfl⟩
  refine rn.mono (J := xSt F V0 ([(it, .inr (29, [.ref e, va_rf cur, .int mc, .int 0, .ref M])), (M, .inr (25, [va_rf tbo, va_rf es, .int (nI sz), .int mc, .int (nI th), .float 1061158912, .null, .null, va_rf hd, va_rf tl, .int 0, .int 0]))] ++ stW L (ndX kd hs ky vl nx bf af pa lf rt pv rd))) (fun V9 h => by rw [h, hV0, hF]; exact hV.st) ?_
  show rn C (xSt F V0 ([(it, .inr (29, [.ref e, va_rf cur, .int mc, .int 0, .ref M])), (M, .inr (25, [va_rf tbo, va_rf es, .int (nI sz), .int mc, .int (nI th), .float 1061158912, .null, .null, va_rf hd, va_rf tl, .int 0, .int 0]))] ++ stW L (ndX kd hs ky vl nx bf af pa lf rt pv rd))) 0 0 0 [(0, .ref it)] []
  refine r_aload_n hC 0 dJ30_next_2_0 rfl 1 rfl ?_
  refine xCall.ct (wcx := [(it, .inr (29, [.ref e, va_rf cur, .int mc, .int 0, .ref M])), (M, .inr (25, [va_rf tbo, va_rf es, .int (nI sz), .int mc, .int (nI th), .float 1061158912, .null, .null, va_rf hd, va_rf tl, .int 0, .int 0]))]) (wr := []) (r_cVD hC hG kJ30 it [] mDJ29_nextNode_J30 q773 (fun _ h => ⟨_, h.get 0 rfl⟩) (fun V9 h9 => (metJ29_nextNode _ _ hG L kd hs ky vl nx bf af pa lf rt pv rd M tbo es sz th mc hd tl it e cur heL) V9 (h9.in.cut (wcx := [(it, .inr (29, [.ref e, va_rf cur, .int mc, .int 0, .ref M])), (M, .inr (25, [va_rf tbo, va_rf es, .int (nI sz), .int mc, .int (nI th), .float 1061158912, .null, .null, va_rf hd, va_rf tl, .int 0, .int 0]))]) (wr := []) [0, 1] [] 2 rfl rfl rfl rfl)) ⟨rfl, rfl⟩ (Nat.le_of_ble_eq_true rfl) (Nat.le_of_ble_eq_true rfl) rfl (Nat.le_of_ble_eq_true rfl) dJ30_next_2_1) [0, 1] [] 2 rfl rfl rfl rfl 0 0 4 rfl rfl rfl (fun v1 w2 h3 => ?_) (fun _ _ h => h.elim)
  obtain ⟨rfl, rfl⟩ := h3
  refine rn.mono (J := xSt F V0 ([(it, .inr (29, [va_rf (af e), .ref e, .int mc, .int 0, .ref M])), (M, .inr (25, [va_rf tbo, va_rf es, .int (nI sz), .int mc, .int (nI th), .float 1061158912, .null, .null, va_rf hd, va_rf tl, .int 0, .int 0]))] ++ stW L (ndX kd hs ky vl nx bf af pa lf rt pv rd))) (fun _ h => by rw [← List.append_assoc] at h; exact h) ?_
  show rn C (xSt F V0 ([(it, .inr (29, [va_rf (af e), .ref e, .int mc, .int 0, .ref M])), (M, .inr (25, [va_rf tbo, va_rf es, .int (nI sz), .int mc, .int (nI th), .float 1061158912, .null, .null, va_rf hd, va_rf tl, .int 0, .int 0]))] ++ stW L (ndX kd hs ky vl nx bf af pa lf rt pv rd))) 0 0 4 [(0, .ref it)] [.ref e]
  exact r_aret hC (v := (some e)) (Or.inl ⟨_, rfl⟩) (Nat.le_of_ble_eq_true rfl) (Nat.le_of_ble_eq_true rfl) (fun V9 h => hQ _ _ ⟨_, ⟨rfl, rfl⟩, by rw [← hV0, ← hF]; exact h⟩) dJ30_next_2_4
set_option maxHeartbeats 4000000 in
set_option maxRecDepth 100000 in
theorem metJ30_next (l : Launch) (G : xG) (hG : xGood G) (L : List Nat) (kd : Nat → Bool) (hs : Nat → Int32) (ky vl : Nat → Nat) (nx bf af pa lf rt pv : Nat → Option Nat) (rd : Nat → Int32) (M : Nat) (tbo es : Option Nat) (sz th : Nat) (mc : Int32) (hd tl : Option Nat) (it e : Nat) (cur : Option Nat) (heL : e ∈ L) : xWm l G yJ30_next (Cond.code yJ30_next cJ30_next 1 (some (.object "java/lang/Object"))) { frames := 2, locals := 41, cells := 0, slots := 0 } [.ref it] ([(it, .inr (29, [.ref e, va_rf cur, .int mc, .int 0, .ref M])), (M, .inr (25, [va_rf tbo, va_rf es, .int (nI sz), .int mc, .int (nI th), .float 1061158912, .null, .null, va_rf hd, va_rf tl, .int 0, .int 0]))] ++ stW L (ndX kd hs ky vl nx bf af pa lf rt pv rd)) (fun v w' => v = some (.ref e) ∧ w' = ([(it, .inr (29, [va_rf (af e), .ref e, .int mc, .int 0, .ref M])), (M, .inr (25, [va_rf tbo, va_rf es, .int (nI sz), .int mc, .int (nI th), .float 1061158912, .null, .null, va_rf hd, va_rf tl, .int 0, .int 0]))] ++ stW L (ndX kd hs ky vl nx bf af pa lf rt pv rd))) (fun _ _ => False) := by
  intro V hV
  refine xMet_ofT RJ30 hG rfl (by decide) (Nat.le_of_ble_eq_true rfl) fun C hC hQ hX hl hg _ hTab => ?_
  subst hl hg
  obtain ⟨V0, hV0⟩ : ∃ V0, V0 = V := ⟨_, rfl⟩
  obtain ⟨F, hF⟩ : ∃ F, F = xF ([(it, .inr (29, [.ref e, va_rf cur, .int mc, .int 0, .ref M])), (M, .inr (25, [va_rf tbo, va_rf es, .int (nI sz), .int mc, .int (nI th), .float 1061158912, .null, .null, va_rf hd, va_rf tl, .int 0, .int 0]))] ++ stW L (ndX kd hs ky vl nx bf af pa lf rt pv rd)) := ⟨_, rfl⟩
  refine rn.mono (J := xSt F V0 ([(it, .inr (29, [.ref e, va_rf cur, .int mc, .int 0, .ref M])), (M, .inr (25, [va_rf tbo, va_rf es, .int (nI sz), .int mc, .int (nI th), .float 1061158912, .null, .null, va_rf hd, va_rf tl, .int 0, .int 0]))] ++ stW L (ndX kd hs ky vl nx bf af pa lf rt pv rd))) (fun V9 h => by rw [h, hV0, hF]; exact hV.st) ?_
  show rn C (xSt F V0 ([(it, .inr (29, [.ref e, va_rf cur, .int mc, .int 0, .ref M])), (M, .inr (25, [va_rf tbo, va_rf es, .int (nI sz), .int mc, .int (nI th), .float 1061158912, .null, .null, va_rf hd, va_rf tl, .int 0, .int 0]))] ++ stW L (ndX kd hs ky vl nx bf af pa lf rt pv rd))) 0 0 0 [(0, .ref it)] []
  refine r_aload_n hC 0 dJ30_next_0 rfl 1 rfl ?_
  refine xCall.ct (wcx := [(it, .inr (29, [.ref e, va_rf cur, .int mc, .int 0, .ref M])), (M, .inr (25, [va_rf tbo, va_rf es, .int (nI sz), .int mc, .int (nI th), .float 1061158912, .null, .null, va_rf hd, va_rf tl, .int 0, .int 0]))]) (wr := []) (r_cV hC kJ30 it [] mVJ30_next_2 q769 (fun _ h => ⟨_, h.get 0 rfl⟩) (fun V9 h9 => (metJ30_next_2 _ _ hG L kd hs ky vl nx bf af pa lf rt pv rd M tbo es sz th mc hd tl it e cur heL) V9 (h9.in.cut (wcx := [(it, .inr (29, [.ref e, va_rf cur, .int mc, .int 0, .ref M])), (M, .inr (25, [va_rf tbo, va_rf es, .int (nI sz), .int mc, .int (nI th), .float 1061158912, .null, .null, va_rf hd, va_rf tl, .int 0, .int 0]))]) (wr := []) [0, 1] [] 2 rfl rfl rfl rfl)) ⟨rfl, rfl⟩ (Nat.le_of_ble_eq_true rfl) (Nat.le_of_ble_eq_true rfl) rfl (Nat.le_of_ble_eq_true rfl) dJ30_next_1) [0, 1] [] 2 rfl rfl rfl rfl 0 0 4 rfl rfl rfl (fun v1 w2 h3 => ?_) (fun _ _ h => h.elim)
  obtain ⟨rfl, rfl⟩ := h3
  refine rn.mono (J := xSt F V0 ([(it, .inr (29, [va_rf (af e), .ref e, .int mc, .int 0, .ref M])), (M, .inr (25, [va_rf tbo, va_rf es, .int (nI sz), .int mc, .int (nI th), .float 1061158912, .null, .null, va_rf hd, va_rf tl, .int 0, .int 0]))] ++ stW L (ndX kd hs ky vl nx bf af pa lf rt pv rd))) (fun _ h => by rw [← List.append_assoc] at h; exact h) ?_
  show rn C (xSt F V0 ([(it, .inr (29, [va_rf (af e), .ref e, .int mc, .int 0, .ref M])), (M, .inr (25, [va_rf tbo, va_rf es, .int (nI sz), .int mc, .int (nI th), .float 1061158912, .null, .null, va_rf hd, va_rf tl, .int 0, .int 0]))] ++ stW L (ndX kd hs ky vl nx bf af pa lf rt pv rd))) 0 0 4 [(0, .ref it)] [.ref e]
  exact r_aret hC (v := (some e)) (Or.inl ⟨_, rfl⟩) (Nat.le_of_ble_eq_true rfl) (Nat.le_of_ble_eq_true rfl) (fun V9 h => hQ _ _ ⟨_, ⟨rfl, rfl⟩, by rw [← hV0, ← hF]; exact h⟩) dJ30_next_4
set_option maxHeartbeats 4000000 in
set_option maxRecDepth 100000 in
theorem metJ24_getKey (l : Launch) (G : xG) (hG : xGood G) (L : List Nat) (kd : Nat → Bool) (hs : Nat → Int32) (ky vl : Nat → Nat) (nx bf af pa lf rt pv : Nat → Option Nat) (rd : Nat → Int32) (e : Nat) (heL : e ∈ L) : xWm l G yJ24_getKey (Cond.code yJ24_getKey cJ24_getKey 1 (some (.object "java/lang/Object"))) { frames := 0, locals := 0, cells := 0, slots := 0 } [.ref e] (stW L (ndX kd hs ky vl nx bf af pa lf rt pv rd)) (fun v w' => v = some (.ref (ky e)) ∧ w' = stW L (ndX kd hs ky vl nx bf af pa lf rt pv rd)) (fun _ _ => False) := by
  intro V hV
  refine xMet_ofT RJ24 hG rfl (by decide) (Nat.le_of_ble_eq_true rfl) fun C hC hQ hX hl hg _ hTab => ?_
  subst hl hg
  obtain ⟨V0, hV0⟩ : ∃ V0, V0 = V := ⟨_, rfl⟩
  obtain ⟨F, hF⟩ : ∃ F, F = xF (stW L (ndX kd hs ky vl nx bf af pa lf rt pv rd)) := ⟨_, rfl⟩
  refine rn.mono (J := xSt F V0 ([] ++ stW L (ndX kd hs ky vl nx bf af pa lf rt pv rd))) (fun V9 h => by rw [h, hV0, hF]; exact hV.st) ?_
  show rn C (xSt F V0 ([] ++ stW L (ndX kd hs ky vl nx bf af pa lf rt pv rd))) 0 0 0 [(0, .ref e)] []
  refine r_aload_n hC 0 dJ24_getKey_0 rfl 1 rfl ?_
  refine r_getX (v := .ref (ky e)) hC 1 rfl rfl q2235 q2235 (Or.inl rfl) (Or.inl rfl) (fun _ h => stW_get h heL rfl) rfl rfl dJ24_getKey_1 4 rfl ?_
  exact r_aret hC (v := (some (ky e))) (Or.inl ⟨_, rfl⟩) (Nat.le_of_ble_eq_true rfl) (Nat.le_of_ble_eq_true rfl) (fun V9 h => hQ _ _ ⟨_, ⟨rfl, rfl⟩, by rw [← hV0, ← hF]; exact h⟩) dJ24_getKey_4
set_option maxHeartbeats 4000000 in
set_option maxRecDepth 100000 in
theorem metJ24_getValue (l : Launch) (G : xG) (hG : xGood G) (L : List Nat) (kd : Nat → Bool) (hs : Nat → Int32) (ky vl : Nat → Nat) (nx bf af pa lf rt pv : Nat → Option Nat) (rd : Nat → Int32) (e : Nat) (heL : e ∈ L) : xWm l G yJ24_getValue (Cond.code yJ24_getValue cJ24_getValue 1 (some (.object "java/lang/Object"))) { frames := 0, locals := 0, cells := 0, slots := 0 } [.ref e] (stW L (ndX kd hs ky vl nx bf af pa lf rt pv rd)) (fun v w' => v = some (.ref (vl e)) ∧ w' = stW L (ndX kd hs ky vl nx bf af pa lf rt pv rd)) (fun _ _ => False) := by
  intro V hV
  refine xMet_ofT RJ24 hG rfl (by decide) (Nat.le_of_ble_eq_true rfl) fun C hC hQ hX hl hg _ hTab => ?_
  subst hl hg
  obtain ⟨V0, hV0⟩ : ∃ V0, V0 = V := ⟨_, rfl⟩
  obtain ⟨F, hF⟩ : ∃ F, F = xF (stW L (ndX kd hs ky vl nx bf af pa lf rt pv rd)) := ⟨_, rfl⟩
  refine rn.mono (J := xSt F V0 ([] ++ stW L (ndX kd hs ky vl nx bf af pa lf rt pv rd))) (fun V9 h => by rw [h, hV0, hF]; exact hV.st) ?_
  show rn C (xSt F V0 ([] ++ stW L (ndX kd hs ky vl nx bf af pa lf rt pv rd))) 0 0 0 [(0, .ref e)] []
  refine r_aload_n hC 0 dJ24_getValue_0 rfl 1 rfl ?_
  refine r_getX (v := .ref (vl e)) hC 2 rfl rfl q2241 q2241 (Or.inl rfl) (Or.inl rfl) (fun _ h => stW_get h heL rfl) rfl rfl dJ24_getValue_1 4 rfl ?_
  exact r_aret hC (v := (some (vl e))) (Or.inl ⟨_, rfl⟩) (Nat.le_of_ble_eq_true rfl) (Nat.le_of_ble_eq_true rfl) (fun V9 h => hQ _ _ ⟨_, ⟨rfl, rfl⟩, by rw [← hV0, ← hF]; exact h⟩) dJ24_getValue_4
