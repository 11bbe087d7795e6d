/-! ===== the class: Scanner: numbers ===== -/
set_option maxRecDepth 100000
/-- digits from p on, at most f of them: where they end and what they say -/
def dgQ (T : Nat → Int32) (en : Nat) : Nat → Nat → Int32 → Nat × Int32
  | 0, p, v => (p, v)
  | f + 1, p, v => if btQ T en p 48 57 then dgQ T en f (p + 1) (x_minL 2000000000 (10 * v.toInt64 + (T p).toInt64 - 48)).toInt32 else (p, v)
theorem bt_lt {T : Nat → Int32} {en i : Nat} {lo hi : Int32} (h : btQ T en i lo hi = true) : i < en := by
  unfold btQ at h
  simp only [Bool.and_eq_true, decide_eq_true_eq] at h
  exact h.1.1
set_option maxHeartbeats 4000000 in
set_option maxRecDepth 100000 in
theorem metX8_isAtN (l : Launch) (G : xG) (hG : xGood G) (sc tx sy en bg nx : Nat) (kd vl : Int32) (wd : Option Nat) (T : Nat → Int32) (hen : en ≤ 600) (ch : Int32) (hk : ¬ kd = 3) : xRm l G yX8_isAt (Cond.code yX8_isAt cX8_isAt 2 (some .boolean)) { frames := 0, locals := 0, cells := 0, slots := 0 } [.ref sc, .int ch] [(sc, .inr (7, [.ref tx, .int (nI en), .ref sy, .int kd, .int (nI bg), .int (nI nx), .int vl, va_rf wd])), (tx, .inl (2, 600, .inl T))] (some (.int 0)) := by
  intro V hV
  refine xMet_ofT RX8 hG rfl (by decide) (Nat.le_of_ble_eq_true rfl) fun C hC hQ hX hl hg _ hTab => ?_
  subst hl hg
  refine rn.mono (J := xRo [(sc, .inr (7, [.ref tx, .int (nI en), .ref sy, .int kd, .int (nI bg), .int (nI nx), .int vl, va_rf wd])), (tx, .inl (2, 600, .inl T))] V) (fun V9 h => ⟨h, hV⟩) ?_
  show rn C (xRo [(sc, .inr (7, [.ref tx, .int (nI en), .ref sy, .int kd, .int (nI bg), .int (nI nx), .int vl, va_rf wd])), (tx, .inl (2, 600, .inl T))] V) 0 0 0 [(0, .ref sc), (1, .int ch)] []
  refine r_aload_n hC 0 dX8_isAt_0 rfl 1 rfl ?_
  refine r_get (v := .int kd) hC kX8 3 rfl q1267 (fun _ h => h.get 0 rfl) rfl dX8_isAt_1 4 rfl ?_
  refine r_iconst hC 3 dX8_isAt_4 ic_3 5 rfl ?_
  refine r_icne hC 25 dX8_isAt_5 (by decide) 8 rfl (fun _ => ?_) (fun h => absurd h (hk))
  refine r_iconst hC 0 dX8_isAt_25 ic_0 26 rfl ?_
  exact r_zret hC (by decide) (Nat.le_of_ble_eq_true rfl) (Nat.le_of_ble_eq_true rfl) (fun V9 h => hQ _ _ ⟨rfl, h.1⟩) dX8_isAt_26
