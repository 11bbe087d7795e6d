/-! ===== the reference: letters, figures, lays, adds ===== -/
set_option maxRecDepth 100000
def letQ (c : Int32) : Bool := decide (97 ≤ c) && decide (c ≤ 122)
def figQ (c : Int32) : Bool := decide (48 ≤ c) && decide (c ≤ 57)
def layB (c s : Int32) : Int32 := (c >>> (s &&& 31)) &&& 255
theorem nlt_le {a b : Int32} (h : ¬ a < b) : b ≤ a := Int32.not_lt.mp h
theorem lt_nle {a b : Int32} (h : a < b) : ¬ b ≤ a := Int32.not_le.mpr h
set_option maxHeartbeats 4000000 in
set_option maxRecDepth 100000 in
theorem metX6_isLetter (l : Launch) (G : xG) (hG : xGood G) (c z : Int32) (hz : bI (letQ c) = z) : xRm l G yX6_isLetter (Cond.code yX6_isLetter cX6_isLetter 1 (some .boolean)) { frames := 0, locals := 0, cells := 0, slots := 0 } [.int c] [] (some (.int z)) := by
  intro V hV
  refine xMet_of RX6 hG rfl (by decide) (Nat.le_of_ble_eq_true rfl) fun C hC hQ hX hl hg _ => ?_
  subst hl hg
  refine rn.mono (J := xRo [] V) (fun V9 h => ⟨h, hV⟩) ?_
  show rn C (xRo [] V) 0 0 0 [(0, .int c)] []
  refine r_iload_n hC 0 dX6_isLetter_0 rfl 1 rfl ?_
  refine r_bipush hC 97 dX6_isLetter_1 bp_97 3 rfl ?_
  refine r_iclt hC 16 dX6_isLetter_3 (by decide) 6 rfl (fun c1 => ?_) (fun c1 => ?_)
  · skip
    refine r_iconst hC 0 dX6_isLetter_16 ic_0 17 rfl ?_
    exact r_zret hC (by decide) (Nat.le_of_ble_eq_true rfl) (Nat.le_of_ble_eq_true rfl) (fun V9 h => hQ _ _ ⟨by rw [← hz, letQ, decide_eq_false (lt_nle c1)]; simp [bI], h.1⟩) dX6_isLetter_17
  · skip
    refine r_iload_n hC 0 dX6_isLetter_6 rfl 7 rfl ?_
    refine r_bipush hC 122 dX6_isLetter_7 bp_122 9 rfl ?_
    refine r_icgt hC 16 dX6_isLetter_9 (by decide) 12 rfl (fun c2 => ?_) (fun c2 => ?_)
    · skip
      refine r_iconst hC 0 dX6_isLetter_16 ic_0 17 rfl ?_
      exact r_zret hC (by decide) (Nat.le_of_ble_eq_true rfl) (Nat.le_of_ble_eq_true rfl) (fun V9 h => hQ _ _ ⟨by rw [← hz, letQ, decide_eq_true (nlt_le c1), decide_eq_false (lt_nle c2)]; simp [bI], h.1⟩) dX6_isLetter_17
    · skip
      refine r_iconst hC 1 dX6_isLetter_12 ic_1 13 rfl ?_
      refine r_goto hC 17 dX6_isLetter_13 (by decide) ?_
      exact r_zret hC (by decide) (Nat.le_of_ble_eq_true rfl) (Nat.le_of_ble_eq_true rfl) (fun V9 h => hQ _ _ ⟨by rw [← hz, letQ, decide_eq_true (nlt_le c1), decide_eq_true (nlt_le c2)]; simp [bI], h.1⟩) dX6_isLetter_17
set_option maxHeartbeats 4000000 in
set_option maxRecDepth 100000 in
theorem metX6_isFigure (l : Launch) (G : xG) (hG : xGood G) (c z : Int32) (hz : bI (figQ c) = z) : xRm l G yX6_isFigure (Cond.code yX6_isFigure cX6_isFigure 1 (some .boolean)) { frames := 0, locals := 0, cells := 0, slots := 0 } [.int c] [] (some (.int z)) := by
  intro V hV
  refine xMet_of RX6 hG rfl (by decide) (Nat.le_of_ble_eq_true rfl) fun C hC hQ hX hl hg _ => ?_
  subst hl hg
  refine rn.mono (J := xRo [] V) (fun V9 h => ⟨h, hV⟩) ?_
  show rn C (xRo [] V) 0 0 0 [(0, .int c)] []
  refine r_iload_n hC 0 dX6_isFigure_0 rfl 1 rfl ?_
  refine r_bipush hC 48 dX6_isFigure_1 bp_48 3 rfl ?_
  refine r_iclt hC 16 dX6_isFigure_3 (by decide) 6 rfl (fun c1 => ?_) (fun c1 => ?_)
  · skip
    refine r_iconst hC 0 dX6_isFigure_16 ic_0 17 rfl ?_
    exact r_zret hC (by decide) (Nat.le_of_ble_eq_true rfl) (Nat.le_of_ble_eq_true rfl) (fun V9 h => hQ _ _ ⟨by rw [← hz, figQ, decide_eq_false (lt_nle c1)]; simp [bI], h.1⟩) dX6_isFigure_17
  · skip
    refine r_iload_n hC 0 dX6_isFigure_6 rfl 7 rfl ?_
    refine r_bipush hC 57 dX6_isFigure_7 bp_57 9 rfl ?_
    refine r_icgt hC 16 dX6_isFigure_9 (by decide) 12 rfl (fun c2 => ?_) (fun c2 => ?_)
    · skip
      refine r_iconst hC 0 dX6_isFigure_16 ic_0 17 rfl ?_
      exact r_zret hC (by decide) (Nat.le_of_ble_eq_true rfl) (Nat.le_of_ble_eq_true rfl) (fun V9 h => hQ _ _ ⟨by rw [← hz, figQ, decide_eq_true (nlt_le c1), decide_eq_false (lt_nle c2)]; simp [bI], h.1⟩) dX6_isFigure_17
    · skip
      refine r_iconst hC 1 dX6_isFigure_12 ic_1 13 rfl ?_
      refine r_goto hC 17 dX6_isFigure_13 (by decide) ?_
      exact r_zret hC (by decide) (Nat.le_of_ble_eq_true rfl) (Nat.le_of_ble_eq_true rfl) (fun V9 h => hQ _ _ ⟨by rw [← hz, figQ, decide_eq_true (nlt_le c1), decide_eq_true (nlt_le c2)]; simp [bI], h.1⟩) dX6_isFigure_17
set_option maxHeartbeats 4000000 in
set_option maxRecDepth 100000 in
theorem metX6_lays (l : Launch) (G : xG) (hG : xGood G) (b : Nat → Nat) (i : Nat → Int32) (j : Nat → Int64) (bf : Nat → Int32) (n : Nat) (hn : n + 4 ≤ 600) (c : Int32) : xWm l G yX6_lays (Cond.code yX6_lays cX6_lays 3 none) { frames := 0, locals := 0, cells := 0, slots := 0 } [.ref (b 0), .int c] [(b 0, .inr (5, mF b (va_up i 14 (nI n)) j)), (b 13, .inl (0, 600, .inl bf))] (fun v w' => v = none ∧ w' = [(b 0, .inr (5, mF b (va_up i 14 (nI (n + 1 + 1 + 1 + 1))) j)), (b 13, .inl (0, 600, .inl (va_up (va_up (va_up (va_up bf n (layB c 24)) (n + 1) (layB c 16)) (n + 1 + 1) (layB c 8)) (n + 1 + 1 + 1) (layB c 0))))]) (fun _ _ => False) := by
  intro V hV
  refine xMet_of RX6 hG rfl (by decide) (Nat.le_of_ble_eq_true rfl) fun C hC hQ hX hl hg _ => ?_
  subst hl hg
  obtain ⟨V0, hV0⟩ : ∃ V0, V0 = V := ⟨_, rfl⟩
  obtain ⟨F, hF⟩ : ∃ F, F = xF [(b 0, .inr (5, mF b (va_up i 14 (nI n)) j)), (b 13, .inl (0, 600, .inl bf))] := ⟨_, rfl⟩
  refine rn.mono (J := xSt F V0 [(b 0, .inr (5, mF b (va_up i 14 (nI n)) j)), (b 13, .inl (0, 600, .inl bf))]) (fun V9 h => by rw [h, hV0, hF]; exact hV.st) ?_
  show rn C (xSt F V0 [(b 0, .inr (5, mF b (va_up i 14 (nI n)) j)), (b 13, .inl (0, 600, .inl bf))]) 0 0 0 [(0, .ref (b 0)), (1, .int c)] []
  refine r_bipush hC 24 dX6_lays_0 bp_24 2 rfl ?_
  refine r_istore_n hC 2 [(2, .int 24), (0, .ref (b 0)), (1, .int c)] dX6_lays_2 rfl (Nat.le_of_ble_eq_true rfl) rfl 3 rfl ?_
  refine r_iload_n hC 0 dX6_lays_3 rfl 4 rfl ?_
  refine r_iflt hC 39 dX6_lays_4 (by decide) 7 rfl (fun h => absurd h (by decide)) (fun _ => ?_)
  refine r_aload_n hC 1 dX6_lays_7 rfl 8 rfl ?_
  refine r_get (v := .ref (b 13)) hC kX6 13 rfl q2766 (fun _ h => h.get 0 rfl) rfl dX6_lays_8 11 rfl ?_
  refine r_aload_n hC 1 dX6_lays_11 rfl 12 rfl ?_
  refine r_get (v := .int (nI n)) hC kX6 14 rfl q2767 (fun _ h => h.get 0 rfl) rfl dX6_lays_12 15 rfl ?_
  refine r_iload_n hC 2 dX6_lays_15 rfl 16 rfl ?_
  refine r_iload_n hC 0 dX6_lays_16 rfl 17 rfl ?_
  refine r_ishr hC (c >>> ((24 : Int32) &&& 31)) dX6_lays_17  (rfl) 18 rfl ?_
  refine r_sipush hC 255 dX6_lays_18 sp_255 21 rfl ?_
  refine r_iand hC ((c >>> ((24 : Int32) &&& 31)) &&& (255 : Int32)) dX6_lays_21  (rfl) 22 rfl ?_
  refine r_iast (J := xSt F V0 [(b 0, .inr (5, mF b (va_up i 14 (nI n)) j)), (b 13, .inl (0, 600, .inl (va_up bf n ((c >>> ((24 : Int32) &&& 31)) &&& (255 : Int32)))))]) hC n (xix_n n (by omega) (Nat.le_of_ble_eq_true rfl)) (fun _ h => h.get 1 rfl) dX6_lays_22 (fun _ h => h.set 1 _ rfl) 23 rfl ?_
  generalize hu1 : va_up bf n ((c >>> ((24 : Int32) &&& 31)) &&& (255 : Int32)) = u1
  refine r_aload_n hC 1 dX6_lays_23 rfl 24 rfl ?_
  refine r_dup hC dX6_lays_24 rfl 25 rfl ?_
  refine r_get (v := .int (nI n)) hC kX6 14 rfl q2767 (fun _ h => h.get 0 rfl) rfl dX6_lays_25 28 rfl ?_
  refine r_iconst hC 1 dX6_lays_28 ic_1 29 rfl ?_
  refine r_iadd hC (nI (n + 1)) dX6_lays_29  (nI_add n 1) 30 rfl ?_
  refine r_put (J := xSt F V0 [(b 0, .inr (5, mF b (va_up (va_up i 14 (nI n)) 14 (nI (n + 1))) j)), (b 13, .inl (0, 600, .inl u1))]) hC kX6 14 rfl q2767 rfl (fun _ h => h.get 0 rfl) (Nat.le_of_ble_eq_true rfl) rfl rfl dX6_lays_30 (fun _ h => h.set 0 _ rfl) 33 rfl ?_
  refine r_iinc hC 16 2 0 [(2, .int 16), (0, .ref (b 0)), (1, .int c)] dX6_lays_33 rfl (by decide) (Nat.le_of_ble_eq_true rfl) rfl 36 rfl ?_
  refine r_goto hC 3 dX6_lays_36 (by decide) ?_
  refine r_iload_n hC 0 dX6_lays_3 rfl 4 rfl ?_
  refine r_iflt hC 39 dX6_lays_4 (by decide) 7 rfl (fun h => absurd h (by decide)) (fun _ => ?_)
  refine r_aload_n hC 1 dX6_lays_7 rfl 8 rfl ?_
  refine r_get (v := .ref (b 13)) hC kX6 13 rfl q2766 (fun _ h => h.get 0 rfl) rfl dX6_lays_8 11 rfl ?_
  refine r_aload_n hC 1 dX6_lays_11 rfl 12 rfl ?_
  refine r_get (v := .int (nI (n + 1))) hC kX6 14 rfl q2767 (fun _ h => h.get 0 rfl) rfl dX6_lays_12 15 rfl ?_
  refine r_iload_n hC 2 dX6_lays_15 rfl 16 rfl ?_
  refine r_iload_n hC 0 dX6_lays_16 rfl 17 rfl ?_
  refine r_ishr hC (c >>> ((16 : Int32) &&& 31)) dX6_lays_17  (rfl) 18 rfl ?_
  refine r_sipush hC 255 dX6_lays_18 sp_255 21 rfl ?_
  refine r_iand hC ((c >>> ((16 : Int32) &&& 31)) &&& (255 : Int32)) dX6_lays_21  (rfl) 22 rfl ?_
  refine r_iast (J := xSt F V0 [(b 0, .inr (5, mF b (va_up (va_up i 14 (nI n)) 14 (nI (n + 1))) j)), (b 13, .inl (0, 600, .inl (va_up u1 (n + 1) ((c >>> ((16 : Int32) &&& 31)) &&& (255 : Int32)))))]) hC (n + 1) (xix_n (n + 1) (by omega) (Nat.le_of_ble_eq_true rfl)) (fun _ h => h.get 1 rfl) dX6_lays_22 (fun _ h => h.set 1 _ rfl) 23 rfl ?_
  generalize hu2 : va_up u1 (n + 1) ((c >>> ((16 : Int32) &&& 31)) &&& (255 : Int32)) = u2
  refine r_aload_n hC 1 dX6_lays_23 rfl 24 rfl ?_
  refine r_dup hC dX6_lays_24 rfl 25 rfl ?_
  refine r_get (v := .int (nI (n + 1))) hC kX6 14 rfl q2767 (fun _ h => h.get 0 rfl) rfl dX6_lays_25 28 rfl ?_
  refine r_iconst hC 1 dX6_lays_28 ic_1 29 rfl ?_
  refine r_iadd hC (nI (n + 1 + 1)) dX6_lays_29  (nI_add (n + 1) 1) 30 rfl ?_
  refine r_put (J := xSt F V0 [(b 0, .inr (5, mF b (va_up (va_up (va_up i 14 (nI n)) 14 (nI (n + 1))) 14 (nI (n + 1 + 1))) j)), (b 13, .inl (0, 600, .inl u2))]) hC kX6 14 rfl q2767 rfl (fun _ h => h.get 0 rfl) (Nat.le_of_ble_eq_true rfl) rfl rfl dX6_lays_30 (fun _ h => h.set 0 _ rfl) 33 rfl ?_
  refine r_iinc hC 8 2 0 [(2, .int 8), (0, .ref (b 0)), (1, .int c)] dX6_lays_33 rfl (by decide) (Nat.le_of_ble_eq_true rfl) rfl 36 rfl ?_
  refine r_goto hC 3 dX6_lays_36 (by decide) ?_
  refine r_iload_n hC 0 dX6_lays_3 rfl 4 rfl ?_
  refine r_iflt hC 39 dX6_lays_4 (by decide) 7 rfl (fun h => absurd h (by decide)) (fun _ => ?_)
  refine r_aload_n hC 1 dX6_lays_7 rfl 8 rfl ?_
  refine r_get (v := .ref (b 13)) hC kX6 13 rfl q2766 (fun _ h => h.get 0 rfl) rfl dX6_lays_8 11 rfl ?_
  refine r_aload_n hC 1 dX6_lays_11 rfl 12 rfl ?_
  refine r_get (v := .int (nI (n + 1 + 1))) hC kX6 14 rfl q2767 (fun _ h => h.get 0 rfl) rfl dX6_lays_12 15 rfl ?_
  refine r_iload_n hC 2 dX6_lays_15 rfl 16 rfl ?_
  refine r_iload_n hC 0 dX6_lays_16 rfl 17 rfl ?_
  refine r_ishr hC (c >>> ((8 : Int32) &&& 31)) dX6_lays_17  (rfl) 18 rfl ?_
  refine r_sipush hC 255 dX6_lays_18 sp_255 21 rfl ?_
  refine r_iand hC ((c >>> ((8 : Int32) &&& 31)) &&& (255 : Int32)) dX6_lays_21  (rfl) 22 rfl ?_
  refine r_iast (J := xSt F V0 [(b 0, .inr (5, mF b (va_up (va_up (va_up i 14 (nI n)) 14 (nI (n + 1))) 14 (nI (n + 1 + 1))) j)), (b 13, .inl (0, 600, .inl (va_up u2 (n + 1 + 1) ((c >>> ((8 : Int32) &&& 31)) &&& (255 : Int32)))))]) hC (n + 1 + 1) (xix_n (n + 1 + 1) (by omega) (Nat.le_of_ble_eq_true rfl)) (fun _ h => h.get 1 rfl) dX6_lays_22 (fun _ h => h.set 1 _ rfl) 23 rfl ?_
  generalize hu3 : va_up u2 (n + 1 + 1) ((c >>> ((8 : Int32) &&& 31)) &&& (255 : Int32)) = u3
  refine r_aload_n hC 1 dX6_lays_23 rfl 24 rfl ?_
  refine r_dup hC dX6_lays_24 rfl 25 rfl ?_
  refine r_get (v := .int (nI (n + 1 + 1))) hC kX6 14 rfl q2767 (fun _ h => h.get 0 rfl) rfl dX6_lays_25 28 rfl ?_
  refine r_iconst hC 1 dX6_lays_28 ic_1 29 rfl ?_
  refine r_iadd hC (nI (n + 1 + 1 + 1)) dX6_lays_29  (nI_add (n + 1 + 1) 1) 30 rfl ?_
  refine r_put (J := xSt F V0 [(b 0, .inr (5, mF b (va_up (va_up (va_up (va_up i 14 (nI n)) 14 (nI (n + 1))) 14 (nI (n + 1 + 1))) 14 (nI (n + 1 + 1 + 1))) j)), (b 13, .inl (0, 600, .inl u3))]) hC kX6 14 rfl q2767 rfl (fun _ h => h.get 0 rfl) (Nat.le_of_ble_eq_true rfl) rfl rfl dX6_lays_30 (fun _ h => h.set 0 _ rfl) 33 rfl ?_
  refine r_iinc hC 0 2 0 [(2, .int 0), (0, .ref (b 0)), (1, .int c)] dX6_lays_33 rfl (by decide) (Nat.le_of_ble_eq_true rfl) rfl 36 rfl ?_
  refine r_goto hC 3 dX6_lays_36 (by decide) ?_
  refine r_iload_n hC 0 dX6_lays_3 rfl 4 rfl ?_
  refine r_iflt hC 39 dX6_lays_4 (by decide) 7 rfl (fun h => absurd h (by decide)) (fun _ => ?_)
  refine r_aload_n hC 1 dX6_lays_7 rfl 8 rfl ?_
  refine r_get (v := .ref (b 13)) hC kX6 13 rfl q2766 (fun _ h => h.get 0 rfl) rfl dX6_lays_8 11 rfl ?_
  refine r_aload_n hC 1 dX6_lays_11 rfl 12 rfl ?_
  refine r_get (v := .int (nI (n + 1 + 1 + 1))) hC kX6 14 rfl q2767 (fun _ h => h.get 0 rfl) rfl dX6_lays_12 15 rfl ?_
  refine r_iload_n hC 2 dX6_lays_15 rfl 16 rfl ?_
  refine r_iload_n hC 0 dX6_lays_16 rfl 17 rfl ?_
  refine r_ishr hC (c >>> ((0 : Int32) &&& 31)) dX6_lays_17  (rfl) 18 rfl ?_
  refine r_sipush hC 255 dX6_lays_18 sp_255 21 rfl ?_
  refine r_iand hC ((c >>> ((0 : Int32) &&& 31)) &&& (255 : Int32)) dX6_lays_21  (rfl) 22 rfl ?_
  refine r_iast (J := xSt F V0 [(b 0, .inr (5, mF b (va_up (va_up (va_up (va_up i 14 (nI n)) 14 (nI (n + 1))) 14 (nI (n + 1 + 1))) 14 (nI (n + 1 + 1 + 1))) j)), (b 13, .inl (0, 600, .inl (va_up u3 (n + 1 + 1 + 1) ((c >>> ((0 : Int32) &&& 31)) &&& (255 : Int32)))))]) hC (n + 1 + 1 + 1) (xix_n (n + 1 + 1 + 1) (by omega) (Nat.le_of_ble_eq_true rfl)) (fun _ h => h.get 1 rfl) dX6_lays_22 (fun _ h => h.set 1 _ rfl) 23 rfl ?_
  generalize hu4 : va_up u3 (n + 1 + 1 + 1) ((c >>> ((0 : Int32) &&& 31)) &&& (255 : Int32)) = u4
  refine r_aload_n hC 1 dX6_lays_23 rfl 24 rfl ?_
  refine r_dup hC dX6_lays_24 rfl 25 rfl ?_
  refine r_get (v := .int (nI (n + 1 + 1 + 1))) hC kX6 14 rfl q2767 (fun _ h => h.get 0 rfl) rfl dX6_lays_25 28 rfl ?_
  refine r_iconst hC 1 dX6_lays_28 ic_1 29 rfl ?_
  refine r_iadd hC (nI (n + 1 + 1 + 1 + 1)) dX6_lays_29  (nI_add (n + 1 + 1 + 1) 1) 30 rfl ?_
  refine r_put (J := xSt F V0 [(b 0, .inr (5, mF b (va_up (va_up (va_up (va_up (va_up i 14 (nI n)) 14 (nI (n + 1))) 14 (nI (n + 1 + 1))) 14 (nI (n + 1 + 1 + 1))) 14 (nI (n + 1 + 1 + 1 + 1))) j)), (b 13, .inl (0, 600, .inl u4))]) hC kX6 14 rfl q2767 rfl (fun _ h => h.get 0 rfl) (Nat.le_of_ble_eq_true rfl) rfl rfl dX6_lays_30 (fun _ h => h.set 0 _ rfl) 33 rfl ?_
  refine r_iinc hC (-8) 2 0 [(2, .int (-8)), (0, .ref (b 0)), (1, .int c)] dX6_lays_33 rfl (by decide) (Nat.le_of_ble_eq_true rfl) rfl 36 rfl ?_
  refine r_goto hC 3 dX6_lays_36 (by decide) ?_
  refine r_iload_n hC 0 dX6_lays_3 rfl 4 rfl ?_
  refine r_iflt hC 39 dX6_lays_4 (by decide) 7 rfl (fun _ => ?_) (fun h => absurd h (by decide))
  subst hu4
  subst hu3
  subst hu2
  subst hu1
  exact r_vret hC (Nat.le_of_ble_eq_true rfl) (Nat.le_of_ble_eq_true rfl) (fun V9 h => hQ _ _ ⟨[(b 0, .inr (5, mF b (va_up (va_up (va_up (va_up (va_up i 14 (nI n)) 14 (nI (n + 1))) 14 (nI (n + 1 + 1))) 14 (nI (n + 1 + 1 + 1))) 14 (nI (n + 1 + 1 + 1 + 1))) j)), (b 13, .inl (0, 600, .inl (va_up (va_up (va_up (va_up bf n ((c >>> ((24 : Int32) &&& 31)) &&& (255 : Int32))) (n + 1) ((c >>> ((16 : Int32) &&& 31)) &&& (255 : Int32))) (n + 1 + 1) ((c >>> ((8 : Int32) &&& 31)) &&& (255 : Int32))) (n + 1 + 1 + 1) ((c >>> ((0 : Int32) &&& 31)) &&& (255 : Int32)))))], ⟨rfl, by simp only [bx_uu]; rfl⟩, by rw [← hV0, ← hF]; exact h⟩) dX6_lays_39
set_option maxHeartbeats 4000000 in
set_option maxRecDepth 100000 in
theorem metX6_adds (l : Launch) (G : xG) (hG : xGood G) (b : Nat → Nat) (i : Nat → Int32) (j : Nat → Int64) (co : Nat → Int32) (n : Nat) (hn : n < 200) (c : Int32) : xWm l G yX6_adds (Cond.code yX6_adds cX6_adds 2 none) { frames := 0, locals := 0, cells := 0, slots := 0 } [.ref (b 0), .int c] [(b 0, .inr (5, mF b (va_up i 36 (nI n)) j)), (b 33, .inl (0, 200, .inl co))] (fun v w' => v = none ∧ w' = [(b 0, .inr (5, mF b (va_up i 36 (nI (n + 1))) j)), (b 33, .inl (0, 200, .inl (va_up co n c)))]) (fun _ _ => False) := by
  intro V hV
  refine xMet_of RX6 hG rfl (by decide) (Nat.le_of_ble_eq_true rfl) fun C hC hQ hX hl hg _ => ?_
  subst hl hg
  obtain ⟨V0, hV0⟩ : ∃ V0, V0 = V := ⟨_, rfl⟩
  obtain ⟨F, hF⟩ : ∃ F, F = xF [(b 0, .inr (5, mF b (va_up i 36 (nI n)) j)), (b 33, .inl (0, 200, .inl co))] := ⟨_, rfl⟩
  refine rn.mono (J := xSt F V0 [(b 0, .inr (5, mF b (va_up i 36 (nI n)) j)), (b 33, .inl (0, 200, .inl co))]) (fun V9 h => by rw [h, hV0, hF]; exact hV.st) ?_
  show rn C (xSt F V0 [(b 0, .inr (5, mF b (va_up i 36 (nI n)) j)), (b 33, .inl (0, 200, .inl co))]) 0 0 0 [(0, .ref (b 0)), (1, .int c)] []
  refine r_aload_n hC 0 dX6_adds_0 rfl 1 rfl ?_
  refine r_get (v := .ref (b 33)) hC kX6 33 rfl q2786 (fun _ h => h.get 0 rfl) rfl dX6_adds_1 4 rfl ?_
  refine r_aload_n hC 0 dX6_adds_4 rfl 5 rfl ?_
  refine r_get (v := .int (nI n)) hC kX6 36 rfl q2789 (fun _ h => h.get 0 rfl) rfl dX6_adds_5 8 rfl ?_
  refine r_iload_n hC 1 dX6_adds_8 rfl 9 rfl ?_
  refine r_iast (J := xSt F V0 [(b 0, .inr (5, mF b (va_up i 36 (nI n)) j)), (b 33, .inl (0, 200, .inl (va_up co n c)))]) hC n (xix_n n (by omega) (Nat.le_of_ble_eq_true rfl)) (fun _ h => h.get 1 rfl) dX6_adds_9 (fun _ h => h.set 1 _ rfl) 10 rfl ?_
  generalize hu1 : va_up co n c = u1
  refine r_aload_n hC 0 dX6_adds_10 rfl 11 rfl ?_
  refine r_dup hC dX6_adds_11 rfl 12 rfl ?_
  refine r_get (v := .int (nI n)) hC kX6 36 rfl q2789 (fun _ h => h.get 0 rfl) rfl dX6_adds_12 15 rfl ?_
  refine r_iconst hC 1 dX6_adds_15 ic_1 16 rfl ?_
  refine r_iadd hC (nI (n + 1)) dX6_adds_16  (nI_add n 1) 17 rfl ?_
  refine r_put (J := xSt F V0 [(b 0, .inr (5, mF b (va_up (va_up i 36 (nI n)) 36 (nI (n + 1))) j)), (b 33, .inl (0, 200, .inl u1))]) hC kX6 36 rfl q2789 rfl (fun _ h => h.get 0 rfl) (Nat.le_of_ble_eq_true rfl) rfl rfl dX6_adds_17 (fun _ h => h.set 0 _ rfl) 20 rfl ?_
  subst hu1
  exact r_vret hC (Nat.le_of_ble_eq_true rfl) (Nat.le_of_ble_eq_true rfl) (fun V9 h => hQ _ _ ⟨[(b 0, .inr (5, mF b (va_up (va_up i 36 (nI n)) 36 (nI (n + 1))) j)), (b 33, .inl (0, 200, .inl (va_up co n c)))], ⟨rfl, by simp only [bx_uu]⟩, by rw [← hV0, ← hF]; exact h⟩) dX6_adds_20
