/-! ===== the reference: feed ===== -/
set_option maxRecDepth 100000
theorem up_comm {α : Type} {f : Nat → α} {a b : Nat} {x y : α} (h : a ≠ b) : va_up (va_up f a x) b y = va_up (va_up f b y) a x := by
  funext n
  by_cases h1 : n = b
  · subst h1
    rw [up_same, up_ne (Ne.symm h), up_same]
  · rw [up_ne h1]
    by_cases h2 : n = a
    · subst h2; rw [up_same, up_same]
    · rw [up_ne h2, up_ne h2, up_ne h1]
set_option maxHeartbeats 4000000 in
set_option maxRecDepth 100000 in
theorem metX6_feedG (l : Launch) (G : xG) (hG : xGood G) (b : Nat → Nat) (i : Nat → Int32) (j : Nat → Int64) (bf : Nat → Int32) (n : Nat) (hn : n + 20 ≤ 600) (c1 c2 c3 c4 c5 : Int32) : xWm l G yX6_feed (Cond.code yX6_feed cX6_feed 6 (some .int)) { frames := 1, locals := 22, cells := 0, slots := 0 } [.ref (b 0), .int c1, .int c2, .int c3, .int c4, .int c5] [(b 0, .inr (5, mF b (va_up i 14 (nI n)) j)), (b 13, .inl (0, 600, .inl bf))] (fun v w' => v = some (.int (nI (n + 20))) ∧ w' = [(b 0, .inr (5, mF b (va_up (va_up i 0 0) 14 (nI (n + 1 + 1 + 1 + 1 + 1 + 1 + 1 + 1 + 1 + 1 + 1 + 1 + 1 + 1 + 1 + 1 + 1 + 1 + 1 + 1))) j)), (b 13, .inl (0, 600, .inl (va_up (va_up (va_up (va_up (va_up (va_up (va_up (va_up (va_up (va_up (va_up (va_up (va_up (va_up (va_up (va_up (va_up (va_up (va_up (va_up bf n (layB c1 24)) (n + 1) (layB c1 16)) (n + 1 + 1) (layB c1 8)) (n + 1 + 1 + 1) (layB c1 0)) (n + 1 + 1 + 1 + 1) (layB c2 24)) (n + 1 + 1 + 1 + 1 + 1) (layB c2 16)) (n + 1 + 1 + 1 + 1 + 1 + 1) (layB c2 8)) (n + 1 + 1 + 1 + 1 + 1 + 1 + 1) (layB c2 0)) (n + 1 + 1 + 1 + 1 + 1 + 1 + 1 + 1) (layB c3 24)) (n + 1 + 1 + 1 + 1 + 1 + 1 + 1 + 1 + 1) (layB c3 16)) (n + 1 + 1 + 1 + 1 + 1 + 1 + 1 + 1 + 1 + 1) (layB c3 8)) (n + 1 + 1 + 1 + 1 + 1 + 1 + 1 + 1 + 1 + 1 + 1) (layB c3 0)) (n + 1 + 1 + 1 + 1 + 1 + 1 + 1 + 1 + 1 + 1 + 1 + 1) (layB c4 24)) (n + 1 + 1 + 1 + 1 + 1 + 1 + 1 + 1 + 1 + 1 + 1 + 1 + 1) (layB c4 16)) (n + 1 + 1 + 1 + 1 + 1 + 1 + 1 + 1 + 1 + 1 + 1 + 1 + 1 + 1) (layB c4 8)) (n + 1 + 1 + 1 + 1 + 1 + 1 + 1 + 1 + 1 + 1 + 1 + 1 + 1 + 1 + 1) (layB c4 0)) (n + 1 + 1 + 1 + 1 + 1 + 1 + 1 + 1 + 1 + 1 + 1 + 1 + 1 + 1 + 1 + 1) (layB c5 24)) (n + 1 + 1 + 1 + 1 + 1 + 1 + 1 + 1 + 1 + 1 + 1 + 1 + 1 + 1 + 1 + 1 + 1) (layB c5 16)) (n + 1 + 1 + 1 + 1 + 1 + 1 + 1 + 1 + 1 + 1 + 1 + 1 + 1 + 1 + 1 + 1 + 1 + 1) (layB c5 8)) (n + 1 + 1 + 1 + 1 + 1 + 1 + 1 + 1 + 1 + 1 + 1 + 1 + 1 + 1 + 1 + 1 + 1 + 1 + 1) (layB c5 0))))]) (fun _ _ => False) := by
  intro V hV
  refine xMet_of RX6 hG rfl (by decide) (Nat.le_of_ble_eq_true rfl) fun C hC hQ hX hl hg _ => ?_
  subst hl hg
  obtain ⟨V0, hV0⟩ : ∃ V0, V0 = V := ⟨_, rfl⟩
  obtain ⟨F, hF⟩ : ∃ F, F = xF [(b 0, .inr (5, mF b (va_up i 14 (nI n)) j)), (b 13, .inl (0, 600, .inl bf))] := ⟨_, rfl⟩
  refine rn.mono (J := xSt F V0 [(b 0, .inr (5, mF b (va_up i 14 (nI n)) j)), (b 13, .inl (0, 600, .inl bf))]) (fun V9 h => by rw [h, hV0, hF]; exact hV.st) ?_
  show rn C (xSt F V0 [(b 0, .inr (5, mF b (va_up i 14 (nI n)) j)), (b 13, .inl (0, 600, .inl bf))]) 0 0 0 [(0, .ref (b 0)), (1, .int c1), (2, .int c2), (3, .int c3), (4, .int c4), (5, .int c5)] []
  refine r_aload_n hC 0 dX6_feed_0 rfl 1 rfl ?_
  refine r_iconst hC 0 dX6_feed_1 ic_0 2 rfl ?_
  refine r_put (J := xSt F V0 [(b 0, .inr (5, mF b (va_up (va_up i 14 (nI n)) 0 0) j)), (b 13, .inl (0, 600, .inl bf))]) hC kX6 0 rfl q2753 rfl (fun _ h => h.get 0 rfl) (Nat.le_of_ble_eq_true rfl) rfl rfl dX6_feed_2 (fun _ h => h.set 0 _ rfl) 5 rfl ?_
  refine rn.mono (J := xSt F V0 [(b 0, .inr (5, mF b (va_up (va_up i 0 0) 14 (nI n)) j)), (b 13, .inl (0, 600, .inl bf))]) (fun _ h => by rw [up_comm (by decide)] at h; exact h) ?_
  refine r_aload_n hC 0 dX6_feed_5 rfl 6 rfl ?_
  refine r_get (v := .int (nI n)) hC kX6 14 rfl q2767 (fun _ h => h.get 0 rfl) rfl dX6_feed_6 9 rfl ?_
  refine r_bipush hC 20 dX6_feed_9 bp_20 11 rfl ?_
  refine r_iadd hC (nI (n + 20)) dX6_feed_11  (nI_add n 20) 12 rfl ?_
  refine r_sipush hC 600 dX6_feed_12 sp_600 15 rfl ?_
  refine r_icle hC 20 dX6_feed_15 (by decide) 18 rfl (fun _ => ?_) (fun h => absurd (nI_le (a := n + 20) (b := 600) (by omega) (by decide)) h)
  refine r_aload_n hC 0 dX6_feed_20 rfl 21 rfl ?_
  refine r_iload_n hC 1 dX6_feed_21 rfl 22 rfl ?_
  refine r_invVw hC kX6 (b 0) [.int c1] [] mVX6_lays q2879 0 rfl (metX6_lays _ _ hG b (va_up i 0 0) j _ n (by omega) c1) [0, 1] [] rfl rfl rfl rfl (by decide) ⟨rfl, rfl⟩ 0 0 rfl rfl (Nat.le_of_ble_eq_true rfl) (Nat.le_of_ble_eq_true rfl) rfl (Nat.le_of_ble_eq_true rfl) dX6_feed_22 25 rfl (fun v2 w3 h4 => ?_) (fun _ _ h => h.elim)
  obtain ⟨rfl, rfl⟩ := h4
  show rn C (xSt F V0 [(b 0, .inr (5, mF b (va_up (va_up i 0 0) 14 (nI (n + 1 + 1 + 1 + 1))) j)), (b 13, .inl (0, 600, .inl (va_up (va_up (va_up (va_up bf n (layB c1 24)) (n + 1) (layB c1 16)) (n + 1 + 1) (layB c1 8)) (n + 1 + 1 + 1) (layB c1 0))))]) 0 0 25 [(0, .ref (b 0)), (1, .int c1), (2, .int c2), (3, .int c3), (4, .int c4), (5, .int c5)] []
  refine r_aload_n hC 0 dX6_feed_25 rfl 26 rfl ?_
  refine r_iload_n hC 2 dX6_feed_26 rfl 27 rfl ?_
  refine r_invVw hC kX6 (b 0) [.int c2] [] mVX6_lays q2879 0 rfl (metX6_lays _ _ hG b (va_up i 0 0) j _ (n + 1 + 1 + 1 + 1) (by omega) c2) [0, 1] [] rfl rfl rfl rfl (by decide) ⟨rfl, rfl⟩ 0 0 rfl rfl (Nat.le_of_ble_eq_true rfl) (Nat.le_of_ble_eq_true rfl) rfl (Nat.le_of_ble_eq_true rfl) dX6_feed_27 30 rfl (fun v6 w7 h8 => ?_) (fun _ _ h => h.elim)
  obtain ⟨rfl, rfl⟩ := h8
  show rn C (xSt F V0 [(b 0, .inr (5, mF b (va_up (va_up i 0 0) 14 (nI (n + 1 + 1 + 1 + 1 + 1 + 1 + 1 + 1))) j)), (b 13, .inl (0, 600, .inl (va_up (va_up (va_up (va_up (va_up (va_up (va_up (va_up bf n (layB c1 24)) (n + 1) (layB c1 16)) (n + 1 + 1) (layB c1 8)) (n + 1 + 1 + 1) (layB c1 0)) (n + 1 + 1 + 1 + 1) (layB c2 24)) (n + 1 + 1 + 1 + 1 + 1) (layB c2 16)) (n + 1 + 1 + 1 + 1 + 1 + 1) (layB c2 8)) (n + 1 + 1 + 1 + 1 + 1 + 1 + 1) (layB c2 0))))]) 0 0 30 [(0, .ref (b 0)), (1, .int c1), (2, .int c2), (3, .int c3), (4, .int c4), (5, .int c5)] []
  refine r_aload_n hC 0 dX6_feed_30 rfl 31 rfl ?_
  refine r_iload_n hC 3 dX6_feed_31 rfl 32 rfl ?_
  refine r_invVw hC kX6 (b 0) [.int c3] [] mVX6_lays q2879 0 rfl (metX6_lays _ _ hG b (va_up i 0 0) j _ (n + 1 + 1 + 1 + 1 + 1 + 1 + 1 + 1) (by omega) c3) [0, 1] [] rfl rfl rfl rfl (by decide) ⟨rfl, rfl⟩ 0 0 rfl rfl (Nat.le_of_ble_eq_true rfl) (Nat.le_of_ble_eq_true rfl) rfl (Nat.le_of_ble_eq_true rfl) dX6_feed_32 35 rfl (fun v10 w11 h12 => ?_) (fun _ _ h => h.elim)
  obtain ⟨rfl, rfl⟩ := h12
  show rn C (xSt F V0 [(b 0, .inr (5, mF b (va_up (va_up i 0 0) 14 (nI (n + 1 + 1 + 1 + 1 + 1 + 1 + 1 + 1 + 1 + 1 + 1 + 1))) j)), (b 13, .inl (0, 600, .inl (va_up (va_up (va_up (va_up (va_up (va_up (va_up (va_up (va_up (va_up (va_up (va_up bf n (layB c1 24)) (n + 1) (layB c1 16)) (n + 1 + 1) (layB c1 8)) (n + 1 + 1 + 1) (layB c1 0)) (n + 1 + 1 + 1 + 1) (layB c2 24)) (n + 1 + 1 + 1 + 1 + 1) (layB c2 16)) (n + 1 + 1 + 1 + 1 + 1 + 1) (layB c2 8)) (n + 1 + 1 + 1 + 1 + 1 + 1 + 1) (layB c2 0)) (n + 1 + 1 + 1 + 1 + 1 + 1 + 1 + 1) (layB c3 24)) (n + 1 + 1 + 1 + 1 + 1 + 1 + 1 + 1 + 1) (layB c3 16)) (n + 1 + 1 + 1 + 1 + 1 + 1 + 1 + 1 + 1 + 1) (layB c3 8)) (n + 1 + 1 + 1 + 1 + 1 + 1 + 1 + 1 + 1 + 1 + 1) (layB c3 0))))]) 0 0 35 [(0, .ref (b 0)), (1, .int c1), (2, .int c2), (3, .int c3), (4, .int c4), (5, .int c5)] []
  refine r_aload_n hC 0 dX6_feed_35 rfl 36 rfl ?_
  refine r_iload hC 4 dX6_feed_36 rfl 38 rfl ?_
  refine r_invVw hC kX6 (b 0) [.int c4] [] mVX6_lays q2879 0 rfl (metX6_lays _ _ hG b (va_up i 0 0) j _ (n + 1 + 1 + 1 + 1 + 1 + 1 + 1 + 1 + 1 + 1 + 1 + 1) (by omega) c4) [0, 1] [] rfl rfl rfl rfl (by decide) ⟨rfl, rfl⟩ 0 0 rfl rfl (Nat.le_of_ble_eq_true rfl) (Nat.le_of_ble_eq_true rfl) rfl (Nat.le_of_ble_eq_true rfl) dX6_feed_38 41 rfl (fun v14 w15 h16 => ?_) (fun _ _ h => h.elim)
  obtain ⟨rfl, rfl⟩ := h16
  show rn C (xSt F V0 [(b 0, .inr (5, mF b (va_up (va_up i 0 0) 14 (nI (n + 1 + 1 + 1 + 1 + 1 + 1 + 1 + 1 + 1 + 1 + 1 + 1 + 1 + 1 + 1 + 1))) j)), (b 13, .inl (0, 600, .inl (va_up (va_up (va_up (va_up (va_up (va_up (va_up (va_up (va_up (va_up (va_up (va_up (va_up (va_up (va_up (va_up bf n (layB c1 24)) (n + 1) (layB c1 16)) (n + 1 + 1) (layB c1 8)) (n + 1 + 1 + 1) (layB c1 0)) (n + 1 + 1 + 1 + 1) (layB c2 24)) (n + 1 + 1 + 1 + 1 + 1) (layB c2 16)) (n + 1 + 1 + 1 + 1 + 1 + 1) (layB c2 8)) (n + 1 + 1 + 1 + 1 + 1 + 1 + 1) (layB c2 0)) (n + 1 + 1 + 1 + 1 + 1 + 1 + 1 + 1) (layB c3 24)) (n + 1 + 1 + 1 + 1 + 1 + 1 + 1 + 1 + 1) (layB c3 16)) (n + 1 + 1 + 1 + 1 + 1 + 1 + 1 + 1 + 1 + 1) (layB c3 8)) (n + 1 + 1 + 1 + 1 + 1 + 1 + 1 + 1 + 1 + 1 + 1) (layB c3 0)) (n + 1 + 1 + 1 + 1 + 1 + 1 + 1 + 1 + 1 + 1 + 1 + 1) (layB c4 24)) (n + 1 + 1 + 1 + 1 + 1 + 1 + 1 + 1 + 1 + 1 + 1 + 1 + 1) (layB c4 16)) (n + 1 + 1 + 1 + 1 + 1 + 1 + 1 + 1 + 1 + 1 + 1 + 1 + 1 + 1) (layB c4 8)) (n + 1 + 1 + 1 + 1 + 1 + 1 + 1 + 1 + 1 + 1 + 1 + 1 + 1 + 1 + 1) (layB c4 0))))]) 0 0 41 [(0, .ref (b 0)), (1, .int c1), (2, .int c2), (3, .int c3), (4, .int c4), (5, .int c5)] []
  refine r_aload_n hC 0 dX6_feed_41 rfl 42 rfl ?_
  refine r_iload hC 5 dX6_feed_42 rfl 44 rfl ?_
  refine r_invVw hC kX6 (b 0) [.int c5] [] mVX6_lays q2879 0 rfl (metX6_lays _ _ hG b (va_up i 0 0) j _ (n + 1 + 1 + 1 + 1 + 1 + 1 + 1 + 1 + 1 + 1 + 1 + 1 + 1 + 1 + 1 + 1) (by omega) c5) [0, 1] [] rfl rfl rfl rfl (by decide) ⟨rfl, rfl⟩ 0 0 rfl rfl (Nat.le_of_ble_eq_true rfl) (Nat.le_of_ble_eq_true rfl) rfl (Nat.le_of_ble_eq_true rfl) dX6_feed_44 47 rfl (fun v18 w19 h20 => ?_) (fun _ _ h => h.elim)
  obtain ⟨rfl, rfl⟩ := h20
  show rn C (xSt F V0 [(b 0, .inr (5, mF b (va_up (va_up i 0 0) 14 (nI (n + 1 + 1 + 1 + 1 + 1 + 1 + 1 + 1 + 1 + 1 + 1 + 1 + 1 + 1 + 1 + 1 + 1 + 1 + 1 + 1))) j)), (b 13, .inl (0, 600, .inl (va_up (va_up (va_up (va_up (va_up (va_up (va_up (va_up (va_up (va_up (va_up (va_up (va_up (va_up (va_up (va_up (va_up (va_up (va_up (va_up bf n (layB c1 24)) (n + 1) (layB c1 16)) (n + 1 + 1) (layB c1 8)) (n + 1 + 1 + 1) (layB c1 0)) (n + 1 + 1 + 1 + 1) (layB c2 24)) (n + 1 + 1 + 1 + 1 + 1) (layB c2 16)) (n + 1 + 1 + 1 + 1 + 1 + 1) (layB c2 8)) (n + 1 + 1 + 1 + 1 + 1 + 1 + 1) (layB c2 0)) (n + 1 + 1 + 1 + 1 + 1 + 1 + 1 + 1) (layB c3 24)) (n + 1 + 1 + 1 + 1 + 1 + 1 + 1 + 1 + 1) (layB c3 16)) (n + 1 + 1 + 1 + 1 + 1 + 1 + 1 + 1 + 1 + 1) (layB c3 8)) (n + 1 + 1 + 1 + 1 + 1 + 1 + 1 + 1 + 1 + 1 + 1) (layB c3 0)) (n + 1 + 1 + 1 + 1 + 1 + 1 + 1 + 1 + 1 + 1 + 1 + 1) (layB c4 24)) (n + 1 + 1 + 1 + 1 + 1 + 1 + 1 + 1 + 1 + 1 + 1 + 1 + 1) (layB c4 16)) (n + 1 + 1 + 1 + 1 + 1 + 1 + 1 + 1 + 1 + 1 + 1 + 1 + 1 + 1) (layB c4 8)) (n + 1 + 1 + 1 + 1 + 1 + 1 + 1 + 1 + 1 + 1 + 1 + 1 + 1 + 1 + 1) (layB c4 0)) (n + 1 + 1 + 1 + 1 + 1 + 1 + 1 + 1 + 1 + 1 + 1 + 1 + 1 + 1 + 1 + 1) (layB c5 24)) (n + 1 + 1 + 1 + 1 + 1 + 1 + 1 + 1 + 1 + 1 + 1 + 1 + 1 + 1 + 1 + 1 + 1) (layB c5 16)) (n + 1 + 1 + 1 + 1 + 1 + 1 + 1 + 1 + 1 + 1 + 1 + 1 + 1 + 1 + 1 + 1 + 1 + 1) (layB c5 8)) (n + 1 + 1 + 1 + 1 + 1 + 1 + 1 + 1 + 1 + 1 + 1 + 1 + 1 + 1 + 1 + 1 + 1 + 1 + 1) (layB c5 0))))]) 0 0 47 [(0, .ref (b 0)), (1, .int c1), (2, .int c2), (3, .int c3), (4, .int c4), (5, .int c5)] []
  refine r_aload_n hC 0 dX6_feed_47 rfl 48 rfl ?_
  refine r_get (v := .int (nI (n + 1 + 1 + 1 + 1 + 1 + 1 + 1 + 1 + 1 + 1 + 1 + 1 + 1 + 1 + 1 + 1 + 1 + 1 + 1 + 1))) hC kX6 14 rfl q2767 (fun _ h => h.get 0 rfl) rfl dX6_feed_48 51 rfl ?_
  exact r_iret hC (Nat.le_of_ble_eq_true rfl) (Nat.le_of_ble_eq_true rfl) (fun V9 h => hQ _ _ ⟨[(b 0, .inr (5, mF b (va_up (va_up i 0 0) 14 (nI (n + 1 + 1 + 1 + 1 + 1 + 1 + 1 + 1 + 1 + 1 + 1 + 1 + 1 + 1 + 1 + 1 + 1 + 1 + 1 + 1))) j)), (b 13, .inl (0, 600, .inl (va_up (va_up (va_up (va_up (va_up (va_up (va_up (va_up (va_up (va_up (va_up (va_up (va_up (va_up (va_up (va_up (va_up (va_up (va_up (va_up bf n (layB c1 24)) (n + 1) (layB c1 16)) (n + 1 + 1) (layB c1 8)) (n + 1 + 1 + 1) (layB c1 0)) (n + 1 + 1 + 1 + 1) (layB c2 24)) (n + 1 + 1 + 1 + 1 + 1) (layB c2 16)) (n + 1 + 1 + 1 + 1 + 1 + 1) (layB c2 8)) (n + 1 + 1 + 1 + 1 + 1 + 1 + 1) (layB c2 0)) (n + 1 + 1 + 1 + 1 + 1 + 1 + 1 + 1) (layB c3 24)) (n + 1 + 1 + 1 + 1 + 1 + 1 + 1 + 1 + 1) (layB c3 16)) (n + 1 + 1 + 1 + 1 + 1 + 1 + 1 + 1 + 1 + 1) (layB c3 8)) (n + 1 + 1 + 1 + 1 + 1 + 1 + 1 + 1 + 1 + 1 + 1) (layB c3 0)) (n + 1 + 1 + 1 + 1 + 1 + 1 + 1 + 1 + 1 + 1 + 1 + 1) (layB c4 24)) (n + 1 + 1 + 1 + 1 + 1 + 1 + 1 + 1 + 1 + 1 + 1 + 1 + 1) (layB c4 16)) (n + 1 + 1 + 1 + 1 + 1 + 1 + 1 + 1 + 1 + 1 + 1 + 1 + 1 + 1) (layB c4 8)) (n + 1 + 1 + 1 + 1 + 1 + 1 + 1 + 1 + 1 + 1 + 1 + 1 + 1 + 1 + 1) (layB c4 0)) (n + 1 + 1 + 1 + 1 + 1 + 1 + 1 + 1 + 1 + 1 + 1 + 1 + 1 + 1 + 1 + 1) (layB c5 24)) (n + 1 + 1 + 1 + 1 + 1 + 1 + 1 + 1 + 1 + 1 + 1 + 1 + 1 + 1 + 1 + 1 + 1) (layB c5 16)) (n + 1 + 1 + 1 + 1 + 1 + 1 + 1 + 1 + 1 + 1 + 1 + 1 + 1 + 1 + 1 + 1 + 1 + 1) (layB c5 8)) (n + 1 + 1 + 1 + 1 + 1 + 1 + 1 + 1 + 1 + 1 + 1 + 1 + 1 + 1 + 1 + 1 + 1 + 1 + 1) (layB c5 0))))], ⟨rfl, rfl⟩, by rw [← hV0, ← hF]; exact h⟩) dX6_feed_51
set_option maxHeartbeats 4000000 in
set_option maxRecDepth 100000 in
theorem metX6_feedB (l : Launch) (G : xG) (hG : xGood G) (b : Nat → Nat) (i : Nat → Int32) (j : Nat → Int64) (bf : Nat → Int32) (n : Nat) (hn : ¬ n + 20 ≤ 600) (hn2 : n ≤ 600) (c1 c2 c3 c4 c5 : Int32) : xWm l G yX6_feed (Cond.code yX6_feed cX6_feed 6 (some .int)) { frames := 0, locals := 0, cells := 0, slots := 0 } [.ref (b 0), .int c1, .int c2, .int c3, .int c4, .int c5] [(b 0, .inr (5, mF b (va_up i 14 (nI n)) j)), (b 13, .inl (0, 600, .inl bf))] (fun v w' => v = some (.int (-1)) ∧ w' = [(b 0, .inr (5, mF b (va_up (va_up i 14 (nI n)) 0 0) j)), (b 13, .inl (0, 600, .inl bf))]) (fun _ _ => False) := by
  intro V hV
  refine xMet_of RX6 hG rfl (by decide) (Nat.le_of_ble_eq_true rfl) fun C hC hQ hX hl hg _ => ?_
  subst hl hg
  obtain ⟨V0, hV0⟩ : ∃ V0, V0 = V := ⟨_, rfl⟩
  obtain ⟨F, hF⟩ : ∃ F, F = xF [(b 0, .inr (5, mF b (va_up i 14 (nI n)) j)), (b 13, .inl (0, 600, .inl bf))] := ⟨_, rfl⟩
  refine rn.mono (J := xSt F V0 [(b 0, .inr (5, mF b (va_up i 14 (nI n)) j)), (b 13, .inl (0, 600, .inl bf))]) (fun V9 h => by rw [h, hV0, hF]; exact hV.st) ?_
  show rn C (xSt F V0 [(b 0, .inr (5, mF b (va_up i 14 (nI n)) j)), (b 13, .inl (0, 600, .inl bf))]) 0 0 0 [(0, .ref (b 0)), (1, .int c1), (2, .int c2), (3, .int c3), (4, .int c4), (5, .int c5)] []
  refine r_aload_n hC 0 dX6_feed_0 rfl 1 rfl ?_
  refine r_iconst hC 0 dX6_feed_1 ic_0 2 rfl ?_
  refine r_put (J := xSt F V0 [(b 0, .inr (5, mF b (va_up (va_up i 14 (nI n)) 0 0) j)), (b 13, .inl (0, 600, .inl bf))]) hC kX6 0 rfl q2753 rfl (fun _ h => h.get 0 rfl) (Nat.le_of_ble_eq_true rfl) rfl rfl dX6_feed_2 (fun _ h => h.set 0 _ rfl) 5 rfl ?_
  refine r_aload_n hC 0 dX6_feed_5 rfl 6 rfl ?_
  refine r_get (v := .int (nI n)) hC kX6 14 rfl q2767 (fun _ h => h.get 0 rfl) rfl dX6_feed_6 9 rfl ?_
  refine r_bipush hC 20 dX6_feed_9 bp_20 11 rfl ?_
  refine r_iadd hC (nI (n + 20)) dX6_feed_11  (nI_add n 20) 12 rfl ?_
  refine r_sipush hC 600 dX6_feed_12 sp_600 15 rfl ?_
  refine r_icle hC 20 dX6_feed_15 (by decide) 18 rfl (fun h => absurd h (nI_ge (a := 600) (b := n + 20) (by omega) (by omega))) (fun _ => ?_)
  refine r_iconst hC (-1) dX6_feed_18 ic_m1 19 rfl ?_
  exact r_iret hC (Nat.le_of_ble_eq_true rfl) (Nat.le_of_ble_eq_true rfl) (fun V9 h => hQ _ _ ⟨[(b 0, .inr (5, mF b (va_up (va_up i 14 (nI n)) 0 0) j)), (b 13, .inl (0, 600, .inl bf))], ⟨rfl, rfl⟩, by rw [← hV0, ← hF]; exact h⟩) dX6_feed_19
