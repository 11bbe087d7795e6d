/-! ===== the reference: isGood, wrongs ===== -/
set_option maxRecDepth 100000
def goodQ (i : Nat → Int32) : Bool := decide (i 21 = 0)
def wrongsQ (i : Nat → Int32) (w : Int32) : Nat → Int32 := if i 21 = 0 then va_up (va_up i 21 w) 22 (i 17) else i
set_option maxHeartbeats 4000000 in
set_option maxRecDepth 100000 in
theorem metX6_isGood (l : Launch) (G : xG) (hG : xGood G) (b : Nat → Nat) (i : Nat → Int32) (j : Nat → Int64) (z : Int32) (hz : bI (goodQ i) = z) : xRm l G yX6_isGood (Cond.code yX6_isGood cX6_isGood 1 (some .boolean)) { frames := 0, locals := 0, cells := 0, slots := 0 } [.ref (b 0)] [(b 0, .inr (5, mF b i j))] (some (.int z)) := by
  intro V hV
  refine xMet_of RX6 hG rfl (by decide) (Nat.le_of_ble_eq_true rfl) fun C hC hQ hX hl hg _ => ?_
  subst hl hg
  refine rn.mono (J := xRo [(b 0, .inr (5, mF b i j))] V) (fun V9 h => ⟨h, hV⟩) ?_
  show rn C (xRo [(b 0, .inr (5, mF b i j))] V) 0 0 0 [(0, .ref (b 0))] []
  refine r_aload_n hC 0 dX6_isGood_0 rfl 1 rfl ?_
  refine r_get (v := .int (i 21)) hC kX6 21 rfl q2774 (fun _ h => h.get 0 rfl) rfl dX6_isGood_1 4 rfl ?_
  refine r_ifne hC 11 dX6_isGood_4 (by decide) 7 rfl (fun c1 => ?_) (fun c1 => ?_)
  · skip
    refine r_iconst hC 0 dX6_isGood_11 ic_0 12 rfl ?_
    exact r_zret hC (by decide) (Nat.le_of_ble_eq_true rfl) (Nat.le_of_ble_eq_true rfl) (fun V9 h => hQ _ _ ⟨by rw [← hz, goodQ, decide_eq_false c1]; rfl, h.1⟩) dX6_isGood_12
  · skip
    refine r_iconst hC 1 dX6_isGood_7 ic_1 8 rfl ?_
    refine r_goto hC 12 dX6_isGood_8 (by decide) ?_
    exact r_zret hC (by decide) (Nat.le_of_ble_eq_true rfl) (Nat.le_of_ble_eq_true rfl) (fun V9 h => hQ _ _ ⟨by rw [← hz, goodQ, decide_eq_true c1]; rfl, h.1⟩) dX6_isGood_12
set_option maxHeartbeats 4000000 in
set_option maxRecDepth 100000 in
theorem metX6_wrongs (l : Launch) (G : xG) (hG : xGood G) (b : Nat → Nat) (i : Nat → Int32) (j : Nat → Int64) (x : Int32) : xWm l G yX6_wrongs (Cond.code yX6_wrongs cX6_wrongs 2 (some .boolean)) { frames := 0, locals := 0, cells := 0, slots := 0 } [.ref (b 0), .int x] [(b 0, .inr (5, mF b i j))] (fun v w' => v = some (.int 0) ∧ w' = [(b 0, .inr (5, mF b (wrongsQ i x) j))]) (fun _ _ => False) := by
  intro V hV
  refine xMet_of RX6 hG rfl (by decide) (Nat.le_of_ble_eq_true rfl) fun C hC hQ hX hl hg _ => ?_
  subst hl hg
  obtain ⟨V0, hV0⟩ : ∃ V0, V0 = V := ⟨_, rfl⟩
  obtain ⟨F, hF⟩ : ∃ F, F = xF [(b 0, .inr (5, mF b i j))] := ⟨_, rfl⟩
  refine rn.mono (J := xSt F V0 [(b 0, .inr (5, mF b i j))]) (fun V9 h => by rw [h, hV0, hF]; exact hV.st) ?_
  show rn C (xSt F V0 [(b 0, .inr (5, mF b i j))]) 0 0 0 [(0, .ref (b 0)), (1, .int x)] []
  refine r_aload_n hC 0 dX6_wrongs_0 rfl 1 rfl ?_
  refine r_get (v := .int (i 21)) hC kX6 21 rfl q2774 (fun _ h => h.get 0 rfl) rfl dX6_wrongs_1 4 rfl ?_
  refine r_ifne hC 20 dX6_wrongs_4 (by decide) 7 rfl (fun c1 => ?_) (fun c1 => ?_)
  · skip
    refine r_iconst hC 0 dX6_wrongs_20 ic_0 21 rfl ?_
    exact r_zret hC (by decide) (Nat.le_of_ble_eq_true rfl) (Nat.le_of_ble_eq_true rfl) (fun V9 h => hQ _ _ ⟨[(b 0, .inr (5, mF b i j))], ⟨rfl, by rw [wrongsQ, if_neg c1]⟩, by rw [← hV0, ← hF]; exact h⟩) dX6_wrongs_21
  · skip
    refine r_aload_n hC 0 dX6_wrongs_7 rfl 8 rfl ?_
    refine r_iload_n hC 1 dX6_wrongs_8 rfl 9 rfl ?_
    refine r_put (J := xSt F V0 [(b 0, .inr (5, mF b (va_up i 21 x) j))]) hC kX6 21 rfl q2774 rfl (fun _ h => h.get 0 rfl) (Nat.le_of_ble_eq_true rfl) rfl rfl dX6_wrongs_9 (fun _ h => h.set 0 _ rfl) 12 rfl ?_
    refine r_aload_n hC 0 dX6_wrongs_12 rfl 13 rfl ?_
    refine r_aload_n hC 0 dX6_wrongs_13 rfl 14 rfl ?_
    refine r_get (v := .int (i 17)) hC kX6 17 rfl q2770 (fun _ h => h.get 0 rfl) rfl dX6_wrongs_14 17 rfl ?_
    refine r_put (J := xSt F V0 [(b 0, .inr (5, mF b (va_up (va_up i 21 x) 22 (i 17)) j))]) hC kX6 22 rfl q2775 rfl (fun _ h => h.get 0 rfl) (Nat.le_of_ble_eq_true rfl) rfl rfl dX6_wrongs_17 (fun _ h => h.set 0 _ rfl) 20 rfl ?_
    refine r_iconst hC 0 dX6_wrongs_20 ic_0 21 rfl ?_
    exact r_zret hC (by decide) (Nat.le_of_ble_eq_true rfl) (Nat.le_of_ble_eq_true rfl) (fun V9 h => hQ _ _ ⟨[(b 0, .inr (5, mF b (va_up (va_up i 21 x) 22 (i 17)) j))], ⟨rfl, by rw [wrongsQ, if_pos c1]⟩, by rw [← hV0, ← hF]; exact h⟩) dX6_wrongs_21
