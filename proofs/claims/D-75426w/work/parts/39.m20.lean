/-! ===== the reference: formattedByte ===== -/
set_option maxRecDepth 100000
set_option maxHeartbeats 4000000 in
set_option maxRecDepth 100000 in
theorem metX6_formattedByteG (l : Launch) (G : xG) (hG : xGood G) (b : Nat → Nat) (i : Nat → Int32) (j : Nat → Int64) (tx : Nat → Int32) (n p : Nat) (hn : n ≤ 80) (hp : p < n) : xWm l G yX6_formattedByte (Cond.code yX6_formattedByte cX6_formattedByte 2 (some .int)) { frames := 1, locals := 25, cells := 0, slots := 0 } [.ref (b 0), .int (nI p)] [(b 0, .inr (5, mF b (va_up i 32 (nI n)) j)), (b 31, .inl (2, 80, .inl tx))] (fun v w' => v = some (.int (tx p)) ∧ w' = [(b 0, .inr (5, mF b (va_up (va_up i 32 (nI n)) 0 0) j)), (b 31, .inl (2, 80, .inl tx))]) (fun _ _ => False) := by
  intro V hV
  refine xMet_of RX6 hG rfl (by decide) (Nat.le_of_ble_eq_true rfl) fun C hC hQ hX hl hg _ => ?_
  subst hl hg
  obtain ⟨V0, hV0⟩ : ∃ V0, V0 = V := ⟨_, rfl⟩
  obtain ⟨F, hF⟩ : ∃ F, F = xF [(b 0, .inr (5, mF b (va_up i 32 (nI n)) j)), (b 31, .inl (2, 80, .inl tx))] := ⟨_, rfl⟩
  refine rn.mono (J := xSt F V0 [(b 0, .inr (5, mF b (va_up i 32 (nI n)) j)), (b 31, .inl (2, 80, .inl tx))]) (fun V9 h => by rw [h, hV0, hF]; exact hV.st) ?_
  show rn C (xSt F V0 [(b 0, .inr (5, mF b (va_up i 32 (nI n)) j)), (b 31, .inl (2, 80, .inl tx))]) 0 0 0 [(0, .ref (b 0)), (1, .int (nI p))] []
  refine r_aload_n hC 0 dX6_formattedByte_0 rfl 1 rfl ?_
  refine r_iconst hC 0 dX6_formattedByte_1 ic_0 2 rfl ?_
  refine r_put (J := xSt F V0 [(b 0, .inr (5, mF b (va_up (va_up i 32 (nI n)) 0 0) j)), (b 31, .inl (2, 80, .inl tx))]) hC kX6 0 rfl q2753 rfl (fun _ h => h.get 0 rfl) (Nat.le_of_ble_eq_true rfl) rfl rfl dX6_formattedByte_2 (fun _ h => h.set 0 _ rfl) 5 rfl ?_
  refine r_iload_n hC 1 dX6_formattedByte_5 rfl 6 rfl ?_
  refine r_i2l hC ((nI p).toInt64) dX6_formattedByte_6 (rfl) 7 rfl ?_
  refine r_lconst hC 0 dX6_formattedByte_7 lc_0 8 rfl ?_
  refine r_aload_n hC 0 dX6_formattedByte_8 rfl 9 rfl ?_
  refine r_get (v := .int (nI n)) hC kX6 32 rfl q2785 (fun _ h => h.get 0 rfl) rfl dX6_formattedByte_9 12 rfl ?_
  refine r_iconst hC 1 dX6_formattedByte_12 ic_1 13 rfl ?_
  refine r_isub hC (nI (n - 1)) dX6_formattedByte_13  (pk_sub (a := n) (b := 1) (by omega)) 14 rfl ?_
  refine r_i2l hC ((nI (n - 1)).toInt64) dX6_formattedByte_14 (rfl) 15 rfl ?_
  refine r_invSr hC [.long ((nI p).toInt64), .long 0, .long ((nI (n - 1)).toInt64)] (.int 1) mSX6_in q2891 (metX6_inB _ _ hG ((nI p).toInt64) 0 ((nI (n - 1)).toInt64) 1 (in_n (N := n - 1) (by omega) (nIl_toInt (by omega)) (by omega))) (fun _ _ => xIn.nil) ⟨rfl, rfl⟩ 0 0 rfl rfl (Nat.le_of_ble_eq_true rfl) (Nat.le_of_ble_eq_true rfl) rfl (Nat.le_of_ble_eq_true rfl) dX6_formattedByte_15 18 rfl ?_
  refine r_ifeq hC 30 dX6_formattedByte_18 (by decide) 21 rfl (fun h => absurd h (by decide)) (fun _ => ?_)
  refine r_aload_n hC 0 dX6_formattedByte_21 rfl 22 rfl ?_
  refine r_get (v := .ref (b 31)) hC kX6 31 rfl q2784 (fun _ h => h.get 0 rfl) rfl dX6_formattedByte_22 25 rfl ?_
  refine r_iload_n hC 1 dX6_formattedByte_25 rfl 26 rfl ?_
  refine r_bald hC p (xix_n p (by omega) (Nat.le_of_ble_eq_true rfl)) (fun _ h => h.get 1 rfl) (tx p) (rfl) dX6_formattedByte_26 27 rfl ?_
  refine r_goto hC 31 dX6_formattedByte_27 (by decide) ?_
  exact r_iret hC (Nat.le_of_ble_eq_true rfl) (Nat.le_of_ble_eq_true rfl) (fun V9 h => hQ _ _ ⟨[(b 0, .inr (5, mF b (va_up (va_up i 32 (nI n)) 0 0) j)), (b 31, .inl (2, 80, .inl tx))], ⟨rfl, rfl⟩, by rw [← hV0, ← hF]; exact h⟩) dX6_formattedByte_31
set_option maxHeartbeats 4000000 in
set_option maxRecDepth 100000 in
theorem metX6_formattedByteB (l : Launch) (G : xG) (hG : xGood G) (b : Nat → Nat) (i : Nat → Int32) (j : Nat → Int64) (tx : Nat → Int32) (n : Nat) (x : Int32) (hx : bI (m_in x.toInt64 0 (nI n - 1).toInt64) = 0) : xWm l G yX6_formattedByte (Cond.code yX6_formattedByte cX6_formattedByte 2 (some .int)) { frames := 1, locals := 25, cells := 0, slots := 0 } [.ref (b 0), .int x] [(b 0, .inr (5, mF b (va_up i 32 (nI n)) j)), (b 31, .inl (2, 80, .inl tx))] (fun v w' => v = some (.int (-1)) ∧ w' = [(b 0, .inr (5, mF b (va_up (va_up i 32 (nI n)) 0 0) j)), (b 31, .inl (2, 80, .inl tx))]) (fun _ _ => False) := by
  intro V hV
  refine xMet_of RX6 hG rfl (by decide) (Nat.le_of_ble_eq_true rfl) fun C hC hQ hX hl hg _ => ?_
  subst hl hg
  obtain ⟨V0, hV0⟩ : ∃ V0, V0 = V := ⟨_, rfl⟩
  obtain ⟨F, hF⟩ : ∃ F, F = xF [(b 0, .inr (5, mF b (va_up i 32 (nI n)) j)), (b 31, .inl (2, 80, .inl tx))] := ⟨_, rfl⟩
  refine rn.mono (J := xSt F V0 [(b 0, .inr (5, mF b (va_up i 32 (nI n)) j)), (b 31, .inl (2, 80, .inl tx))]) (fun V9 h => by rw [h, hV0, hF]; exact hV.st) ?_
  show rn C (xSt F V0 [(b 0, .inr (5, mF b (va_up i 32 (nI n)) j)), (b 31, .inl (2, 80, .inl tx))]) 0 0 0 [(0, .ref (b 0)), (1, .int x)] []
  refine r_aload_n hC 0 dX6_formattedByte_0 rfl 1 rfl ?_
  refine r_iconst hC 0 dX6_formattedByte_1 ic_0 2 rfl ?_
  refine r_put (J := xSt F V0 [(b 0, .inr (5, mF b (va_up (va_up i 32 (nI n)) 0 0) j)), (b 31, .inl (2, 80, .inl tx))]) hC kX6 0 rfl q2753 rfl (fun _ h => h.get 0 rfl) (Nat.le_of_ble_eq_true rfl) rfl rfl dX6_formattedByte_2 (fun _ h => h.set 0 _ rfl) 5 rfl ?_
  refine r_iload_n hC 1 dX6_formattedByte_5 rfl 6 rfl ?_
  refine r_i2l hC x.toInt64 dX6_formattedByte_6 (rfl) 7 rfl ?_
  refine r_lconst hC 0 dX6_formattedByte_7 lc_0 8 rfl ?_
  refine r_aload_n hC 0 dX6_formattedByte_8 rfl 9 rfl ?_
  refine r_get (v := .int (nI n)) hC kX6 32 rfl q2785 (fun _ h => h.get 0 rfl) rfl dX6_formattedByte_9 12 rfl ?_
  refine r_iconst hC 1 dX6_formattedByte_12 ic_1 13 rfl ?_
  refine r_isub hC ((nI n) - 1) dX6_formattedByte_13  (rfl) 14 rfl ?_
  refine r_i2l hC (((nI n) - 1).toInt64) dX6_formattedByte_14 (rfl) 15 rfl ?_
  refine r_invSr hC [.long x.toInt64, .long 0, .long (((nI n) - 1).toInt64)] (.int 0) mSX6_in q2891 (metX6_inB _ _ hG x.toInt64 0 (((nI n) - 1).toInt64) 0 (hx)) (fun _ _ => xIn.nil) ⟨rfl, rfl⟩ 0 0 rfl rfl (Nat.le_of_ble_eq_true rfl) (Nat.le_of_ble_eq_true rfl) rfl (Nat.le_of_ble_eq_true rfl) dX6_formattedByte_15 18 rfl ?_
  refine r_ifeq hC 30 dX6_formattedByte_18 (by decide) 21 rfl (fun _ => ?_) (fun h => absurd h (by decide))
  refine r_iconst hC (-1) dX6_formattedByte_30 ic_m1 31 rfl ?_
  exact r_iret hC (Nat.le_of_ble_eq_true rfl) (Nat.le_of_ble_eq_true rfl) (fun V9 h => hQ _ _ ⟨[(b 0, .inr (5, mF b (va_up (va_up i 32 (nI n)) 0 0) j)), (b 31, .inl (2, 80, .inl tx))], ⟨rfl, rfl⟩, by rw [← hV0, ← hF]; exact h⟩) dX6_formattedByte_31
