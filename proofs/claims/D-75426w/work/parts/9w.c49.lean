/-! ===== the JDK: StringBuilder.append(char), toString ===== -/
set_option maxRecDepth 100000
set_option maxHeartbeats 4000000 in
set_option maxRecDepth 100000 in
theorem metJ6_appendA (l : Launch) (G : xG) (hG : xGood G) (sb sv cap n : Nat) (f : Nat → Int32) (ml : Int32) (c : Int32) (hc : c ≤ 255) (hcap : cap < 65536) (hn : n < cap) : xWm l G yJ6_append (Cond.code yJ6_append cJ6_append 2 (some (.object "java/lang/StringBuilder"))) { frames := 2, locals := 43, cells := 0, slots := 0 } [.ref sb, .int c] [(sb, .inr (20, [.ref sv, .int 0, .int ml, .int (nI n)])), (sv, .inl (2, cap, .inl f))] (fun v w' => v = some (.ref sb) ∧ w' = [(sb, .inr (20, [.ref sv, .int 0, .int ml, .int (nI (n + 1))])), (sv, .inl (2, cap, .inl (va_up f n c.toInt8.toInt32)))]) (fun _ _ => False) := by
  intro V hV
  refine xMet_ofT RJ6 hG rfl (by decide) (Nat.le_of_ble_eq_true rfl) fun C hC hQ hX hl hg _ hTab => ?_
  subst hl hg
  obtain ⟨V0, hV0⟩ : ∃ V0, V0 = V := ⟨_, rfl⟩
  obtain ⟨F, hF⟩ : ∃ F, F = xF [(sb, .inr (20, [.ref sv, .int 0, .int ml, .int (nI n)])), (sv, .inl (2, cap, .inl f))] := ⟨_, rfl⟩
  refine rn.mono (J := xSt F V0 [(sb, .inr (20, [.ref sv, .int 0, .int ml, .int (nI n)])), (sv, .inl (2, cap, .inl f))]) (fun V9 h => by rw [h, hV0, hF]; exact hV.st) ?_
  show rn C (xSt F V0 [(sb, .inr (20, [.ref sv, .int 0, .int ml, .int (nI n)])), (sv, .inl (2, cap, .inl f))]) 0 0 0 [(0, .ref sb), (1, .int c)] []
  refine r_aload_n hC 0 dJ6_append_0 rfl 1 rfl ?_
  refine r_iload_n hC 1 dJ6_append_1 rfl 2 rfl ?_
  refine xCall.w (wr := []) (r_cU hC kJ6 sb [.int c] mUJ5_append_J6 q994 (fun _ h => ⟨_, h.get 0 rfl⟩) (fun V9 h9 => (metJ5_appendA _ _ hG sb sv cap n f ml c hc (by omega) (by omega)) V9 (h9.in.sub [0, 1] rfl rfl)) ⟨rfl, rfl⟩ (Nat.le_of_ble_eq_true rfl) (Nat.le_of_ble_eq_true rfl) rfl (Nat.le_of_ble_eq_true rfl) dJ6_append_2) [0, 1] [] rfl rfl rfl (by decide) 0 0 5 rfl rfl rfl (fun v1 w2 h3 => ?_) (fun _ _ h => h.elim)
  obtain ⟨rfl, rfl⟩ := h3
  show rn C (xSt F V0 [(sb, .inr (20, [.ref sv, .int 0, .int ml, .int (nI (n + 1))])), (sv, .inl (2, cap, .inl (va_up f n c.toInt8.toInt32)))]) 0 0 5 [(0, .ref sb), (1, .int c)] [.ref sb]
  refine r_pop hC dJ6_append_5 rfl 6 rfl ?_
  refine r_aload_n hC 0 dJ6_append_6 rfl 7 rfl ?_
  exact r_aret hC (v := (some sb)) (Or.inl ⟨_, rfl⟩) (Nat.le_of_ble_eq_true rfl) (Nat.le_of_ble_eq_true rfl) (fun V9 h => hQ _ _ ⟨[(sb, .inr (20, [.ref sv, .int 0, .int ml, .int (nI (n + 1))])), (sv, .inl (2, cap, .inl (va_up f n c.toInt8.toInt32)))], ⟨rfl, rfl⟩, by rw [← hV0, ← hF]; exact h⟩) dJ6_append_7
set_option maxHeartbeats 4000000 in
set_option maxRecDepth 100000 in
theorem metJ6_appendB (l : Launch) (G : xG) (hG : xGood G) (sb sv cap n : Nat) (f : Nat → Int32) (ml : Int32) (c : Int32) (hc : c ≤ 255) (hcap : cap < 30000) (hn : n = cap) (hfb : fB f cap) : xWm l G yJ6_append (Cond.code yJ6_append cJ6_append 2 (some (.object "java/lang/StringBuilder"))) { frames := 5, locals := 125, cells := 1, slots := 2 * cap + 2 } [.ref sb, .int c] [(sb, .inr (20, [.ref sv, .int 0, .int ml, .int (nI n)])), (sv, .inl (2, cap, .inl f))] (fun v w' => ∃ q : Nat, v = some (.ref sb) ∧ w' = [(sb, .inr (20, [.ref q, .int 0, .int ml, .int (nI (n + 1))])), (q, .inl (2, 2 * cap + 2, .inl (va_up (va_cpy f zI 0 0 cap) n c.toInt8.toInt32)))]) (fun _ _ => False) := by
  intro V hV
  refine xMet_ofT RJ6 hG rfl (by decide) (Nat.le_of_ble_eq_true rfl) fun C hC hQ hX hl hg _ hTab => ?_
  subst hl hg
  obtain ⟨V0, hV0⟩ : ∃ V0, V0 = V := ⟨_, rfl⟩
  obtain ⟨F, hF⟩ : ∃ F, F = xF [(sb, .inr (20, [.ref sv, .int 0, .int ml, .int (nI n)])), (sv, .inl (2, cap, .inl f))] := ⟨_, rfl⟩
  refine rn.mono (J := xSt F V0 [(sb, .inr (20, [.ref sv, .int 0, .int ml, .int (nI n)])), (sv, .inl (2, cap, .inl f))]) (fun V9 h => by rw [h, hV0, hF]; exact hV.st) ?_
  show rn C (xSt F V0 [(sb, .inr (20, [.ref sv, .int 0, .int ml, .int (nI n)])), (sv, .inl (2, cap, .inl f))]) 0 0 0 [(0, .ref sb), (1, .int c)] []
  refine r_aload_n hC 0 dJ6_append_0 rfl 1 rfl ?_
  refine r_iload_n hC 1 dJ6_append_1 rfl 2 rfl ?_
  refine xCall.w (wr := []) (r_cU hC kJ6 sb [.int c] mUJ5_append_J6 q994 (fun _ h => ⟨_, h.get 0 rfl⟩) (fun V9 h9 => (metJ5_appendB _ _ hG sb sv cap n f ml c hc (by omega) (by omega) hfb) V9 (h9.in.sub [0, 1] rfl rfl)) ⟨rfl, rfl⟩ (Nat.le_of_ble_eq_true rfl) (by first | omega | (dsimp only; omega)) rfl (Nat.le_of_ble_eq_true rfl) dJ6_append_2) [0, 1] [] rfl rfl rfl (by decide) 1 (0 + (2 * cap + 2)) 5 rfl rfl rfl (fun v2 w3 h4 => ?_) (fun _ _ h => h.elim)
  obtain ⟨q1, rfl, rfl⟩ := h4
  show rn C (xSt F V0 [(sb, .inr (20, [.ref q1, .int 0, .int ml, .int (nI (n + 1))])), (q1, .inl (2, 2 * cap + 2, .inl (va_up (va_cpy f zI 0 0 cap) n c.toInt8.toInt32)))]) 1 (0 + (2 * cap + 2)) 5 [(0, .ref sb), (1, .int c)] [.ref sb]
  refine r_pop hC dJ6_append_5 rfl 6 rfl ?_
  refine r_aload_n hC 0 dJ6_append_6 rfl 7 rfl ?_
  exact r_aret hC (v := (some sb)) (Or.inl ⟨_, rfl⟩) (Nat.le_of_ble_eq_true rfl) (by first | omega | (dsimp only; omega)) (fun V9 h => hQ _ _ ⟨[(sb, .inr (20, [.ref q1, .int 0, .int ml, .int (nI (n + 1))])), (q1, .inl (2, 2 * cap + 2, .inl (va_up (va_cpy f zI 0 0 cap) n c.toInt8.toInt32)))], ⟨q1, rfl, rfl⟩, by rw [← hV0, ← hF]; exact h⟩) dJ6_append_7
set_option maxHeartbeats 4000000 in
set_option maxRecDepth 100000 in
theorem metJ5_getValue (l : Launch) (G : xG) (hG : xGood G) (sb sv cap n : Nat) (f : Nat → Int32) (ml : Int32) : xRm l G yJ5_getValue (Cond.code yJ5_getValue cJ5_getValue 1 (some (.array .byte))) { frames := 0, locals := 0, cells := 0, slots := 0 } [.ref sb] [(sb, .inr (20, [.ref sv, .int 0, .int ml, .int (nI n)])), (sv, .inl (2, cap, .inl f))] (some (.ref sv)) := by
  intro V hV
  refine xMet_ofT RJ5 hG rfl (by decide) (Nat.le_of_ble_eq_true rfl) fun C hC hQ hX hl hg _ hTab => ?_
  subst hl hg
  refine rn.mono (J := xRo [(sb, .inr (20, [.ref sv, .int 0, .int ml, .int (nI n)])), (sv, .inl (2, cap, .inl f))] V) (fun V9 h => ⟨h, hV⟩) ?_
  show rn C (xRo [(sb, .inr (20, [.ref sv, .int 0, .int ml, .int (nI n)])), (sv, .inl (2, cap, .inl f))] V) 0 0 0 [(0, .ref sb)] []
  refine r_aload_n hC 0 dJ5_getValue_0 rfl 1 rfl ?_
  refine r_get (v := .ref sv) hC kJ6 0 rfl q485 (fun _ h => h.get 0 rfl) rfl dJ5_getValue_1 4 rfl ?_
  exact r_aret hC (v := (some sv)) (Or.inr ⟨_, rfl⟩) (Nat.le_of_ble_eq_true rfl) (Nat.le_of_ble_eq_true rfl) (fun V9 h => hQ _ _ ⟨rfl, h.1⟩) dJ5_getValue_4
set_option maxHeartbeats 4000000 in
set_option maxRecDepth 100000 in
theorem metJ5_length (l : Launch) (G : xG) (hG : xGood G) (sb sv cap n : Nat) (f : Nat → Int32) (ml : Int32) : xRm l G yJ5_length (Cond.code yJ5_length cJ5_length 1 (some .int)) { frames := 0, locals := 0, cells := 0, slots := 0 } [.ref sb] [(sb, .inr (20, [.ref sv, .int 0, .int ml, .int (nI n)])), (sv, .inl (2, cap, .inl f))] (some (.int (nI n))) := by
  intro V hV
  refine xMet_ofT RJ5 hG rfl (by decide) (Nat.le_of_ble_eq_true rfl) fun C hC hQ hX hl hg _ hTab => ?_
  subst hl hg
  refine rn.mono (J := xRo [(sb, .inr (20, [.ref sv, .int 0, .int ml, .int (nI n)])), (sv, .inl (2, cap, .inl f))] V) (fun V9 h => ⟨h, hV⟩) ?_
  show rn C (xRo [(sb, .inr (20, [.ref sv, .int 0, .int ml, .int (nI n)])), (sv, .inl (2, cap, .inl f))] V) 0 0 0 [(0, .ref sb)] []
  refine r_aload_n hC 0 dJ5_length_0 rfl 1 rfl ?_
  refine r_get (v := .int (nI n)) hC kJ6 3 rfl q489 (fun _ h => h.get 0 rfl) rfl dJ5_length_1 4 rfl ?_
  exact r_iret hC (Nat.le_of_ble_eq_true rfl) (Nat.le_of_ble_eq_true rfl) (fun V9 h => hQ _ _ ⟨rfl, h.1⟩) dJ5_length_4
set_option maxHeartbeats 4000000 in
set_option maxRecDepth 100000 in
theorem metJ6_length (l : Launch) (G : xG) (hG : xGood G) (sb sv cap n : Nat) (f : Nat → Int32) (ml : Int32) : xRm l G yJ6_length (Cond.code yJ6_length cJ6_length 1 (some .int)) { frames := 1, locals := 20, cells := 0, slots := 0 } [.ref sb] [(sb, .inr (20, [.ref sv, .int 0, .int ml, .int (nI n)])), (sv, .inl (2, cap, .inl f))] (some (.int (nI n))) := by
  intro V hV
  refine xMet_ofT RJ6 hG rfl (by decide) (Nat.le_of_ble_eq_true rfl) fun C hC hQ hX hl hg _ hTab => ?_
  subst hl hg
  refine rn.mono (J := xRo [(sb, .inr (20, [.ref sv, .int 0, .int ml, .int (nI n)])), (sv, .inl (2, cap, .inl f))] V) (fun V9 h => ⟨h, hV⟩) ?_
  show rn C (xRo [(sb, .inr (20, [.ref sv, .int 0, .int ml, .int (nI n)])), (sv, .inl (2, cap, .inl f))] V) 0 0 0 [(0, .ref sb)] []
  refine r_aload_n hC 0 dJ6_length_0 rfl 1 rfl ?_
  refine xCall.r (r := some (.int (nI n))) (r_cU hC kJ6 sb [] mUJ5_length_J6 q869 (fun _ h => ⟨_, h.get 0 rfl⟩) (fun V9 h9 => (metJ5_length _ _ hG sb sv cap n f ml) V9 (h9.in.sub [0, 1] rfl rfl)) ⟨rfl, rfl⟩ (Nat.le_of_ble_eq_true rfl) (Nat.le_of_ble_eq_true rfl) rfl (Nat.le_of_ble_eq_true rfl) dJ6_length_1) 0 0 4 rfl rfl rfl ?_
  exact r_iret hC (Nat.le_of_ble_eq_true rfl) (Nat.le_of_ble_eq_true rfl) (fun V9 h => hQ _ _ ⟨rfl, h.1⟩) dJ6_length_4
