/-! ===== the class: Scanner over a token: isAt, isWord, look ===== -/
set_option maxRecDepth 100000
theorem isB_ck {T B : Nat → Int32} {en m g : Nat} {ch : Int32} (hs : syQ B m ch = true) (hl : letQ ch = false) (hf : figQ ch = false) : isB T en ch (.ok g) = (decide (ckQ T en B m g = 3) && decide (T g = ch)) := by
  show (decide (tKind T en g = 3) && decide (T g = ch)) = _
  by_cases h : T g = ch
  · have e : (tKind T en g = 3) ↔ (ckQ T en B m g = 3) := by
      unfold tKind ckQ
      rw [h, hs, hl, hf]
      by_cases hg : g < en
      · simp [hg]
      · simp [hg]
    rw [decide_eq_true h, Bool.and_true, Bool.and_true]
    exact decide_eq_decide.mpr e
  · rw [decide_eq_false h, Bool.and_false, Bool.and_false]
theorem ck_lt {T B : Nat → Int32} {en m g : Nat} (h : ¬ ckQ T en B m g = 0) : g < en := by
  unfold ckQ at h
  split at h
  · assumption
  · exact absurd rfl h
theorem ck_1 {T B : Nat → Int32} {en m g : Nat} : tKind T en g = 1 ↔ ckQ T en B m g = 1 := by
  unfold tKind ckQ
  by_cases hg : g < en
  · rw [if_pos hg, if_pos hg]
    cases hl : letQ (T g) with
    | true => simp
    | false =>
      cases hf : figQ (T g) with
      | true => simp
      | false => cases hs : syQ B m (T g) <;> simp
  · rw [if_neg hg, if_neg hg]
theorem ck_2 {T B : Nat → Int32} {en m g : Nat} : tKind T en g = 2 ↔ ckQ T en B m g = 2 := by
  unfold tKind ckQ
  by_cases hg : g < en
  · rw [if_pos hg, if_pos hg]
    cases hl : letQ (T g) with
    | true => simp
    | false =>
      cases hf : figQ (T g) with
      | true => simp
      | false => cases hs : syQ B m (T g) <;> simp
  · rw [if_neg hg, if_neg hg]
theorem ck_0 {T B : Nat → Int32} {en m g : Nat} : tKind T en g = 0 ↔ ckQ T en B m g = 0 := by
  unfold tKind ckQ
  by_cases hg : g < en
  · rw [if_pos hg, if_pos hg]
    cases hl : letQ (T g) with
    | true => simp
    | false =>
      cases hf : figQ (T g) with
      | true => simp
      | false => cases hs : syQ B m (T g) <;> simp
  · rw [if_neg hg, if_neg hg]
/-- the constant CB is the word of code w -/
def kwQ (CB : Nat → Int32) (cm : Nat) (w : Int64) : Prop := ∀ (T : Nat → Int32) (g n : Nat), (∀ j, j < n → letQ (T (g + j)) = true) → eqS (fun j => T (g + j)) n CB cm = (decide (n ≤ 8) && decide (wval T g n = w))
theorem eqN_congr {f f' B : Nat → Int32} : ∀ {n : Nat}, (∀ j, j < n → f j = f' j) → eqN f B n = eqN f' B n := by
  intro n
  induction n with
  | zero => intro _; rfl
  | succ n ih => intro h; rw [eqN, eqN, ih (fun j hj => h j (by omega)), h n (by omega)]
theorem eqS_congr {f f' B : Nat → Int32} {n m : Nat} (h : ∀ j, j < n → f j = f' j) : eqS f n B m = eqS f' n B m := by unfold eqS; rw [eqN_congr h]
theorem tok_let {T : Nat → Int32} {en g : Nat} (hg : g < en) (hl : letQ (T g) = true) : ∀ j, j < tEnd T en g - g → letQ (T (g + j)) = true := by
  intro j hj
  unfold tEnd at hj
  rw [if_pos hg, if_pos hl] at hj
  exact run_in _ _ _ (by omega) (show g + j < runE letQ T en g by omega)
theorem ck_let {T B : Nat → Int32} {en m g : Nat} (h : ckQ T en B m g = 1) : g < en ∧ letQ (T g) = true := by
  have hg := ck_lt (by rw [h]; decide)
  refine ⟨hg, ?_⟩
  cases hl : letQ (T g) with
  | true => rfl
  | false =>
    unfold ckQ at h
    rw [if_pos hg, if_neg (by rw [hl]; decide)] at h
    split at h
    · exact absurd h (by decide)
    · split at h <;> exact absurd h (by decide)
/-! numbers on both sides -/
theorem fig_rg {c : Int32} (h : figQ c = true) : 48 ≤ c.toInt ∧ c.toInt ≤ 57 := by
  unfold figQ at h
  simp only [Bool.and_eq_true, decide_eq_true_eq] at h
  exact ⟨Int32.le_iff_toInt_le.mp h.1, Int32.le_iff_toInt_le.mp h.2⟩
theorem cn_rel {T : Nat → Int32} {g : Nat} : ∀ {n : Nat}, (∀ j, j < n → figQ (T (g + j)) = true) → (0 ≤ (nval T g n).toInt ∧ (nval T g n).toInt ≤ 20000000000) ∧ (0 ≤ (cval T g n).toInt ∧ (cval T g n).toInt ≤ 2000000000) ∧ ((nval T g n).toInt ≤ 1000000000 → (cval T g n).toInt = (nval T g n).toInt) ∧ (1000000000 < (nval T g n).toInt → 1000000000 < (cval T g n).toInt) := by
  intro n
  induction n with
  | zero =>
    intro _
    have e1 : (nval T g 0).toInt = 0 := rfl
    have e2 : (cval T g 0).toInt = 0 := rfl
    rw [e1, e2]
    exact ⟨by decide, by decide, fun _ => rfl, fun h => absurd h (by decide)⟩
  | succ n ih =>
    intro h
    obtain ⟨⟨h1, h2⟩, ⟨h3, h4⟩, h5, h6⟩ := ih (fun j hj => h j (by omega))
    obtain ⟨d1, d2⟩ := fig_rg (h n (by omega))
    have e10 : (10 : Int64).toInt = 10 := rfl
    have e48 : (48 : Int64).toInt = 48 := rfl
    have eN : (1000000000 : Int64).toInt = 1000000000 := rfl
    have e2 : (2000000000 : Int64).toInt = 2000000000 := rfl
    -- the class's next number
    have ec : (10 * (cval T g n).toInt64 + (T (g + n)).toInt64 - 48).toInt = 10 * (cval T g n).toInt + (T (g + n)).toInt - 48 := by
      rw [Int64.toInt_sub, Int64.toInt_add, Int64.toInt_mul, Int32.toInt_toInt64, Int32.toInt_toInt64, e10, e48, Int.bmod_eq_of_le (n := 10 * (cval T g n).toInt) (by omega) (by omega), Int.bmod_eq_of_le (n := 10 * (cval T g n).toInt + (T (g + n)).toInt) (by omega) (by omega), Int.bmod_eq_of_le (by omega) (by omega)]
    have hc : (cval T g (n + 1)).toInt = min 2000000000 (10 * (cval T g n).toInt + (T (g + n)).toInt - 48) := by
      rw [cval]
      unfold x_minL
      split
      · rename_i hle
        rw [Int64.lt_iff_toInt_lt, ec, e2] at hle
        rw [i32_i (by rw [ec]; omega) (by rw [ec]; omega), ec]
        omega
      · rename_i hle
        rw [Int64.lt_iff_toInt_lt, ec, e2] at hle
        rw [show ((2000000000 : Int64).toInt32).toInt = 2000000000 from rfl]
        omega
    by_cases ha : (nval T g n).toInt ≤ 1000000000
    · have en' : (nval T g (n + 1)).toInt = 10 * (nval T g n).toInt + (T (g + n)).toInt - 48 := by
        rw [nval, if_pos (by rw [Int64.le_iff_toInt_le, eN]; exact ha), Int64.toInt_sub, Int64.toInt_add, Int64.toInt_mul, Int32.toInt_toInt64, e10, e48, Int.bmod_eq_of_le (n := 10 * (nval T g n).toInt) (by omega) (by omega), Int.bmod_eq_of_le (n := 10 * (nval T g n).toInt + (T (g + n)).toInt) (by omega) (by omega), Int.bmod_eq_of_le (by omega) (by omega)]
      have := h5 ha
      rw [en', hc]
      refine ⟨by omega, by omega, fun _ => by omega, fun _ => by omega⟩
    · have en' : nval T g (n + 1) = nval T g n := by rw [nval, if_neg (by rw [Int64.le_iff_toInt_le, eN]; exact ha)]
      have := h6 (by omega)
      rw [en', hc]
      refine ⟨by omega, by omega, fun h9 => by omega, fun _ => by omega⟩
theorem cn_in {T : Nat → Int32} {g n : Nat} (h : ∀ j, j < n → figQ (T (g + j)) = true) {lo hi : Int32} (h0 : 0 ≤ lo.toInt) (h1 : hi.toInt ≤ 1000000000) : m_in (nval T g n) lo.toInt64 hi.toInt64 = true ↔ lo ≤ cval T g n ∧ cval T g n ≤ hi := by
  obtain ⟨⟨h1', h2⟩, ⟨h3, h4⟩, h5, h6⟩ := cn_rel h
  rw [in_iff, Int32.toInt_toInt64, Int32.toInt_toInt64, Int32.le_iff_toInt_le, Int32.le_iff_toInt_le]
  by_cases ha : (nval T g n).toInt ≤ 1000000000
  · rw [h5 ha]
  · have := h6 (by omega)
    constructor
    · intro h9; omega
    · intro h9; omega
theorem cn_val {T : Nat → Int32} {g n : Nat} (h : ∀ j, j < n → figQ (T (g + j)) = true) {lo hi : Int32} (h1 : hi.toInt ≤ 1000000000) (h2 : cval T g n ≤ hi) : (cval T g n).toInt64 = nval T g n := by
  obtain ⟨-, -, h5, h6⟩ := cn_rel h
  apply Int64.toInt_inj.mp
  rw [Int32.toInt_toInt64]
  have h2 := Int32.le_iff_toInt_le.mp h2
  by_cases ha : (nval T g n).toInt ≤ 1000000000
  · exact h5 ha
  · have := h6 (by omega)
    omega
theorem tok_fig {T B : Nat → Int32} {en m g : Nat} (h : ckQ T en B m g = 2) : ∀ j, j < tEnd T en g - g → figQ (T (g + j)) = true := by
  have hg := ck_lt (by rw [h]; decide)
  unfold ckQ at h
  rw [if_pos hg] at h
  intro j hj
  unfold tEnd at hj
  rw [if_pos hg] at hj
  cases hl : letQ (T g) with
  | true => rw [hl, if_pos rfl] at h; exact absurd h (by decide)
  | false =>
    rw [if_neg (by rw [hl]; decide)] at h hj
    cases hf : figQ (T g) with
    | true =>
      rw [if_pos hf] at hj
      exact run_in _ _ _ (by omega) (show g + j < runE figQ T en g by omega)
    | false =>
      rw [if_neg (by rw [hf]; decide)] at h
      split at h <;> exact absurd h (by decide)
set_option maxHeartbeats 4000000 in
set_option maxRecDepth 100000 in
theorem metX8_isAt (l : Launch) (G : xG) (hG : xGood G) (sc tx sy en : Nat) (T B : Nat → Int32) (m : Nat) (hE : scE G sy en T B m) (g : Nat) (tw : xW) (htw : tokW sc tx sy en T B m g tw) (ch : Int32) (hs : syQ B m ch = true) (hl : letQ ch = false) (hf : figQ ch = false) : xRm l G yX8_isAt (Cond.code yX8_isAt cX8_isAt 2 (some .boolean)) { frames := 0, locals := 0, cells := 0, slots := 0 } [.ref sc, .int ch] tw (some (.int (bI (isB T en ch (.ok g))))) := by
  obtain ⟨vl, wd, ex, rfl, hge, -, -⟩ := htw
  rw [isB_ck hs hl hf]
  by_cases h3 : ckQ T en B m g = 3
  · have hg := ck_lt (T := T) (B := B) (m := m) (by rw [h3]; decide)
    have hen := hE.1
    rw [decide_eq_true h3, Bool.true_and, h3]
    exact (metX8_isAt3 l G hG sc tx sy en g (tEnd T en g) vl wd T (by omega) ch).left (ex := ex)
  · rw [decide_eq_false h3, Bool.false_and]
    exact (metX8_isAt0 l G hG sc tx sy en g (tEnd T en g) _ vl wd ch h3).left (ex := _ :: ex)
set_option maxHeartbeats 4000000 in
set_option maxRecDepth 100000 in
theorem metX8_isWord (l : Launch) (G : xG) (hG : xGood G) (sc tx sy en : Nat) (T B : Nat → Int32) (m : Nat) (hE : scE G sy en T B m) (g : Nat) (tw : xW) (htw : tokW sc tx sy en T B m g tw) (ka kv cm : Nat) (CB : Nat → Int32) (hst : xStr G ka kv cm CB) (w : Int64) (hkw : kwQ CB cm w) : xRm l G yX8_isWord (Cond.code yX8_isWord cX8_isWord 2 (some .boolean)) { frames := 2, locals := 44, cells := 0, slots := 0 } [.ref sc, .ref ka] tw (some (.int (bI (isW T en w (.ok g))))) := by
  obtain ⟨vl, wd, ex, rfl, hge, -, hw⟩ := htw
  have hen := hE.1
  show xRm l G yX8_isWord _ _ _ _ (some (.int (bI (decide (tKind T en g = 1) && (decide (tEnd T en g - g ≤ 8) && decide (tWord T en g = w))))))
  by_cases h1 : ckQ T en B m g = 1
  · obtain ⟨q, v2, f2, rfl, rfl, hag⟩ := hw h1
    have hle := tEnd_le (bf := T) hge
    rw [decide_eq_true (ck_1.mpr h1), Bool.true_and]
    have h9 := metX8_isWord1 l G hG sc tx sy en g (tEnd T en g) vl q v2 (tEnd T en g - g) f2 (by omega) ka kv cm CB hst
    rw [eqS_congr (f' := fun j => T (g + j)) hag, hkw T g _ (tok_let (ck_let h1).1 (ck_let h1).2)] at h9
    rw [h1]
    exact fun V hV => h9 V (hV.sub [0, 2, 3] rfl rfl)
  · rw [decide_eq_false (fun e => h1 (ck_1.mp e)), Bool.false_and]
    exact (metX8_isWord0 l G hG sc tx sy en g (tEnd T en g) _ vl wd h1 ka).left (ex := _ :: ex)
