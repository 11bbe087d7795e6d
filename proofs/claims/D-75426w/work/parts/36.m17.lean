/-! ===== the reference: a body as text ===== -/
set_option maxRecDepth 100000
set_option maxHeartbeats 4000000 in
set_option maxRecDepth 100000 in
theorem metX6_says (l : Launch) (G : xG) (hG : xGood G) (b : Nat → Nat) (i : Nat → Int32) (j : Nat → Int64) (tx : Nat → Int32) (n : Nat) (hn : n < 80) (c : Int32) : xWm l G yX6_says (Cond.code yX6_says cX6_says 2 none) { frames := 0, locals := 0, cells := 0, slots := 0 } [.ref (b 0), .int c] [(b 0, .inr (5, mF b (va_up i 32 (nI n)) j)), (b 31, .inl (2, 80, .inl tx))] (fun v w' => v = none ∧ w' = [(b 0, .inr (5, mF b (va_up i 32 (nI (n + 1))) j)), (b 31, .inl (2, 80, .inl (va_up tx n c.toInt8.toInt32.toInt8.toInt32)))]) (fun _ _ => False) := by
  intro V hV
  refine xMet_of RX6 hG rfl (by decide) (Nat.le_of_ble_eq_true rfl) fun C hC hQ hX hl hg _ => ?_
  subst hl hg
  obtain ⟨V0, hV0⟩ : ∃ V0, V0 = V := ⟨_, rfl⟩
  obtain ⟨F, hF⟩ : ∃ F, F = xF [(b 0, .inr (5, mF b (va_up i 32 (nI n)) j)), (b 31, .inl (2, 80, .inl tx))] := ⟨_, rfl⟩
  refine rn.mono (J := xSt F V0 [(b 0, .inr (5, mF b (va_up i 32 (nI n)) j)), (b 31, .inl (2, 80, .inl tx))]) (fun V9 h => by rw [h, hV0, hF]; exact hV.st) ?_
  show rn C (xSt F V0 [(b 0, .inr (5, mF b (va_up i 32 (nI n)) j)), (b 31, .inl (2, 80, .inl tx))]) 0 0 0 [(0, .ref (b 0)), (1, .int c)] []
  refine r_aload_n hC 0 dX6_says_0 rfl 1 rfl ?_
  refine r_get (v := .ref (b 31)) hC kX6 31 rfl q2784 (fun _ h => h.get 0 rfl) rfl dX6_says_1 4 rfl ?_
  refine r_aload_n hC 0 dX6_says_4 rfl 5 rfl ?_
  refine r_get (v := .int (nI n)) hC kX6 32 rfl q2785 (fun _ h => h.get 0 rfl) rfl dX6_says_5 8 rfl ?_
  refine r_iload_n hC 1 dX6_says_8 rfl 9 rfl ?_
  refine r_i2b hC c.toInt8.toInt32 dX6_says_9 (rfl) 10 rfl ?_
  refine r_bast (J := xSt F V0 [(b 0, .inr (5, mF b (va_up i 32 (nI n)) j)), (b 31, .inl (2, 80, .inl (va_up tx n c.toInt8.toInt32.toInt8.toInt32)))]) hC n (xix_n n (by omega) (Nat.le_of_ble_eq_true rfl)) (fun _ h => h.get 1 rfl) dX6_says_10 (fun _ h => h.set 1 _ rfl) 11 rfl ?_
  generalize hu1 : va_up tx n c.toInt8.toInt32.toInt8.toInt32 = u1
  refine r_aload_n hC 0 dX6_says_11 rfl 12 rfl ?_
  refine r_dup hC dX6_says_12 rfl 13 rfl ?_
  refine r_get (v := .int (nI n)) hC kX6 32 rfl q2785 (fun _ h => h.get 0 rfl) rfl dX6_says_13 16 rfl ?_
  refine r_iconst hC 1 dX6_says_16 ic_1 17 rfl ?_
  refine r_iadd hC (nI (n + 1)) dX6_says_17  (nI_add n 1) 18 rfl ?_
  refine r_put (J := xSt F V0 [(b 0, .inr (5, mF b (va_up (va_up i 32 (nI n)) 32 (nI (n + 1))) j)), (b 31, .inl (2, 80, .inl u1))]) hC kX6 32 rfl q2785 rfl (fun _ h => h.get 0 rfl) (Nat.le_of_ble_eq_true rfl) rfl rfl dX6_says_18 (fun _ h => h.set 0 _ rfl) 21 rfl ?_
  subst hu1
  exact r_vret hC (Nat.le_of_ble_eq_true rfl) (Nat.le_of_ble_eq_true rfl) (fun V9 h => hQ _ _ ⟨[(b 0, .inr (5, mF b (va_up (va_up i 32 (nI n)) 32 (nI (n + 1))) j)), (b 31, .inl (2, 80, .inl (va_up tx n c.toInt8.toInt32.toInt8.toInt32)))], ⟨rfl, by rw [bx_uu]⟩, by rw [← hV0, ← hF]; exact h⟩) dX6_says_21
