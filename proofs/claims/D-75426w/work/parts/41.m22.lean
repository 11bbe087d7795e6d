/-! ===== the reference: byteAt, feed ===== -/
set_option maxRecDepth 100000
def byteQ (bf : Nat → Int32) (e k : Nat) : Int32 := if k < e then bf k else -1
def lay4 (bf : Nat → Int32) (n : Nat) (c : Int32) : Nat → Int32 := va_up (va_up (va_up (va_up bf n (layB c 24)) (n + 1) (layB c 16)) (n + 1 + 1) (layB c 8)) (n + 1 + 1 + 1) (layB c 0)
set_option maxHeartbeats 4000000 in
set_option maxRecDepth 100000 in
theorem metX6_byteAt1 (l : Launch) (G : xG) (hG : xGood G) (b : Nat → Nat) (i : Nat → Int32) (j : Nat → Int64) (bf : Nat → Int32) (e k : Nat) (he : e ≤ 600) (hk : k ≤ 600) (hq : k < e) : xRm l G yX6_byteAt (Cond.code yX6_byteAt cX6_byteAt 2 (some .int)) { frames := 0, locals := 0, cells := 0, slots := 0 } [.ref (b 0), .int (nI k)] [(b 0, .inr (5, mF b (va_up i 15 (nI e)) j)), (b 13, .inl (0, 600, .inl bf))] (some (.int (byteQ bf e k))) := by
  intro V hV
  refine xMet_of RX6 hG rfl (by decide) (Nat.le_of_ble_eq_true rfl) fun C hC hQ hX hl hg _ => ?_
  subst hl hg
  refine rn.mono (J := xRo [(b 0, .inr (5, mF b (va_up i 15 (nI e)) j)), (b 13, .inl (0, 600, .inl bf))] V) (fun V9 h => ⟨h, hV⟩) ?_
  show rn C (xRo [(b 0, .inr (5, mF b (va_up i 15 (nI e)) j)), (b 13, .inl (0, 600, .inl bf))] V) 0 0 0 [(0, .ref (b 0)), (1, .int (nI k))] []
  refine r_iload_n hC 1 dX6_byteAt_0 rfl 1 rfl ?_
  refine r_aload_n hC 0 dX6_byteAt_1 rfl 2 rfl ?_
  refine r_get (v := .int (nI e)) hC kX6 15 rfl q2768 (fun _ h => h.get 0 rfl) rfl dX6_byteAt_2 5 rfl ?_
  refine r_icge hC 17 dX6_byteAt_5 (by decide) 8 rfl (fun h => absurd h (nI_ge (a := k) (b := e) (by omega) (by omega))) (fun _ => ?_)
  refine r_aload_n hC 0 dX6_byteAt_8 rfl 9 rfl ?_
  refine r_get (v := .ref (b 13)) hC kX6 13 rfl q2766 (fun _ h => h.get 0 rfl) rfl dX6_byteAt_9 12 rfl ?_
  refine r_iload_n hC 1 dX6_byteAt_12 rfl 13 rfl ?_
  refine r_iald hC k (xix_n k (by omega) (Nat.le_of_ble_eq_true rfl)) (fun _ h => h.get 1 rfl) (bf k) (rfl) dX6_byteAt_13 14 rfl ?_
  refine r_goto hC 18 dX6_byteAt_14 (by decide) ?_
  exact r_iret hC (Nat.le_of_ble_eq_true rfl) (Nat.le_of_ble_eq_true rfl) (fun V9 h => hQ _ _ ⟨by rw [byteQ, if_pos hq], h.1⟩) dX6_byteAt_18
set_option maxHeartbeats 4000000 in
set_option maxRecDepth 100000 in
theorem metX6_byteAt0 (l : Launch) (G : xG) (hG : xGood G) (b : Nat → Nat) (i : Nat → Int32) (j : Nat → Int64) (bf : Nat → Int32) (e k : Nat) (he : e ≤ 600) (hk : k ≤ 600) (hq : ¬ k < e) : xRm l G yX6_byteAt (Cond.code yX6_byteAt cX6_byteAt 2 (some .int)) { frames := 0, locals := 0, cells := 0, slots := 0 } [.ref (b 0), .int (nI k)] [(b 0, .inr (5, mF b (va_up i 15 (nI e)) j)), (b 13, .inl (0, 600, .inl bf))] (some (.int (byteQ bf e k))) := by
  intro V hV
  refine xMet_of RX6 hG rfl (by decide) (Nat.le_of_ble_eq_true rfl) fun C hC hQ hX hl hg _ => ?_
  subst hl hg
  refine rn.mono (J := xRo [(b 0, .inr (5, mF b (va_up i 15 (nI e)) j)), (b 13, .inl (0, 600, .inl bf))] V) (fun V9 h => ⟨h, hV⟩) ?_
  show rn C (xRo [(b 0, .inr (5, mF b (va_up i 15 (nI e)) j)), (b 13, .inl (0, 600, .inl bf))] V) 0 0 0 [(0, .ref (b 0)), (1, .int (nI k))] []
  refine r_iload_n hC 1 dX6_byteAt_0 rfl 1 rfl ?_
  refine r_aload_n hC 0 dX6_byteAt_1 rfl 2 rfl ?_
  refine r_get (v := .int (nI e)) hC kX6 15 rfl q2768 (fun _ h => h.get 0 rfl) rfl dX6_byteAt_2 5 rfl ?_
  refine r_icge hC 17 dX6_byteAt_5 (by decide) 8 rfl (fun _ => ?_) (fun h => absurd (nI_le (a := e) (b := k) (by omega) (by omega)) h)
  refine r_iconst hC (-1) dX6_byteAt_17 ic_m1 18 rfl ?_
  exact r_iret hC (Nat.le_of_ble_eq_true rfl) (Nat.le_of_ble_eq_true rfl) (fun V9 h => hQ _ _ ⟨by rw [byteQ, if_neg hq], h.1⟩) dX6_byteAt_18
