/-! ===== words: constants and codes ===== -/
set_option maxRecDepth 100000
def wI (T : Nat → Int32) (g : Nat) : Nat → Int
  | 0 => 0
  | n + 1 => 27 * wI T g n + (T (g + n)).toInt - 96
theorem let_rg {c : Int32} (h : letQ c = true) : 97 ≤ c.toInt ∧ c.toInt ≤ 122 := by
  unfold letQ at h
  simp only [Bool.and_eq_true, decide_eq_true_eq] at h
  exact ⟨Int32.le_iff_toInt_le.mp h.1, Int32.le_iff_toInt_le.mp h.2⟩
theorem wI_pos {T : Nat → Int32} {g : Nat} : ∀ {n : Nat}, (∀ j, j < n → letQ (T (g + j)) = true) → 0 ≤ wI T g n := by
  intro n
  induction n with
  | zero => intro _; exact Int.le_refl 0
  | succ n ih =>
    intro h
    have h1 := ih (fun j hj => h j (by omega))
    have h2 := let_rg (h n (by omega))
    rw [wI]
    omega
theorem wv_I {T : Nat → Int32} {g : Nat} : ∀ {n : Nat}, n ≤ 8 → (∀ j, j < n → letQ (T (g + j)) = true) → (wval T g n).toInt = wI T g n ∧ wI T g n < 27 ^ n := by
  intro n
  induction n with
  | zero => intro _ _; exact ⟨rfl, by show (0 : Int) < 27 ^ 0; decide⟩
  | succ n ih =>
    intro hn h
    obtain ⟨h1, h3⟩ := ih (by omega) (fun j hj => h j (by omega))
    have h0 := wI_pos (fun j hj => h j (Nat.lt_succ_of_lt hj))
    have h2 := let_rg (h n (by omega))
    have hp : (27 : Int) ^ n ≤ 27 ^ 7 := by
      rcases (show n = 0 ∨ n = 1 ∨ n = 2 ∨ n = 3 ∨ n = 4 ∨ n = 5 ∨ n = 6 ∨ n = 7 by omega) with rfl | rfl | rfl | rfl | rfl | rfl | rfl | rfl <;> decide
    have hp7 : (27 : Int) ^ 7 = 10460353203 := by decide
    have e27 : (27 : Int64).toInt = 27 := rfl
    have e96 : (96 : Int64).toInt = 96 := rfl
    constructor
    · rw [wval, if_pos (by omega), wI, Int64.toInt_sub, Int64.toInt_add, Int64.toInt_mul, Int32.toInt_toInt64, e27, e96, h1, Int.bmod_eq_of_le (n := 27 * wI T g n) (by omega) (by omega), Int.bmod_eq_of_le (n := 27 * wI T g n + (T (g + n)).toInt) (by omega) (by omega), Int.bmod_eq_of_le (by omega) (by omega)]
    · rw [wI, Int.pow_succ]
      omega
theorem wI_inj {T T' : Nat → Int32} {g g' : Nat} : ∀ {n n' : Nat}, (∀ j, j < n → letQ (T (g + j)) = true) → (∀ j, j < n' → letQ (T' (g' + j)) = true) → (wI T g n = wI T' g' n' ↔ n = n' ∧ ∀ j, j < n → T (g + j) = T' (g' + j)) := by
  intro n
  induction n with
  | zero =>
    intro n' h h'
    cases n' with
    | zero => exact ⟨fun _ => ⟨rfl, fun j hj => absurd hj (by omega)⟩, fun _ => rfl⟩
    | succ n' =>
      have h2 := let_rg (h' n' (by omega))
      have h3 := wI_pos (fun j hj => h' j (Nat.lt_succ_of_lt hj))
      constructor
      · intro e
        rw [wI, wI] at e
        omega
      · rintro ⟨e, -⟩
        omega
  | succ n ih =>
    intro n' h h'
    cases n' with
    | zero =>
      have h2 := let_rg (h n (by omega))
      have h3 := wI_pos (fun j hj => h j (Nat.lt_succ_of_lt hj))
      constructor
      · intro e
        rw [wI, wI] at e
        omega
      · rintro ⟨e, -⟩
        omega
    | succ n' =>
      have h2 := let_rg (h n (by omega))
      have h2' := let_rg (h' n' (by omega))
      have ih' := ih (n' := n') (fun j hj => h j (by omega)) (fun j hj => h' j (by omega))
      rw [wI, wI]
      constructor
      · intro e
        have e1 : wI T g n = wI T' g' n' := by omega
        have e2 : (T (g + n)).toInt = (T' (g' + n')).toInt := by omega
        obtain ⟨rfl, hj⟩ := ih'.mp e1
        refine ⟨rfl, fun j hj9 => ?_⟩
        by_cases ej : j = n
        · subst ej; exact Int32.toInt_inj.mp e2
        · exact hj j (by omega)
      · rintro ⟨e, hj⟩
        have e0 : n = n' := by omega
        subst e0
        rw [ih'.mpr ⟨rfl, fun j hj9 => hj j (by omega)⟩, hj n (by omega)]
theorem kw_of {CB : Nat → Int32} {cm : Nat} {w : Int64} (hm : cm ≤ 8) (hl : ∀ j, j < cm → letQ (CB (0 + j)) = true) (hw : wval CB 0 cm = w) : kwQ CB cm w := by
  intro T g n h
  by_cases hn : n ≤ 8
  · rw [decide_eq_true hn, Bool.true_and]
    have e : (wval T g n = w) ↔ (n = cm ∧ ∀ j, j < n → T (g + j) = CB (0 + j)) := by
      rw [← wI_inj h hl, ← hw, ← Int64.toInt_inj, (wv_I hn h).1, (wv_I hm hl).1]
    unfold eqS
    by_cases h9 : wval T g n = w
    · obtain ⟨e1, e2⟩ := e.mp h9
      rw [decide_eq_true h9, decide_eq_true e1, Bool.true_and]
      exact eqN_iff.mpr (fun j hj => by have := e2 j hj; rwa [Nat.zero_add] at this)
    · rw [decide_eq_false h9]
      by_cases e1 : n = cm
      · rw [decide_eq_true e1, Bool.true_and]
        cases h8 : eqN (fun j => T (g + j)) CB n with
        | false => rfl
        | true => exact absurd (e.mpr ⟨e1, fun j hj => by rw [Nat.zero_add]; exact eqN_iff.mp h8 j hj⟩) h9
      · rw [decide_eq_false e1, Bool.false_and]
  · rw [decide_eq_false hn, Bool.false_and]
    unfold eqS
    rw [decide_eq_false (by omega), Bool.false_and]
theorem kw_X1_74 : kwQ (fun j => ([110, 117, 109, 98, 101, 114] : List Int32).getD j 0) 6 212302449 := kw_of (by decide) (fun j hj => match j, hj with | 0, _ => by decide | 1, _ => by decide | 2, _ => by decide | 3, _ => by decide | 4, _ => by decide | 5, _ => by decide | m + 6, h => absurd h (by omega)) (by decide)
theorem kw_X1_80 : kwQ (fun j => ([99, 108, 111, 99, 107] : List Int32).getD j 0) 5 1841546 := kw_of (by decide) (fun j hj => match j, hj with | 0, _ => by decide | 1, _ => by decide | 2, _ => by decide | 3, _ => by decide | 4, _ => by decide | m + 5, h => absurd h (by omega)) (by decide)
theorem kw_X1_82 : kwQ (fun j => ([112, 97, 105, 114] : List Int32).getD j 0) 4 315918 := kw_of (by decide) (fun j hj => match j, hj with | 0, _ => by decide | 1, _ => by decide | 2, _ => by decide | 3, _ => by decide | m + 4, h => absurd h (by omega)) (by decide)
theorem kw_X1_84 : kwQ (fun j => ([100, 105, 115, 116, 97, 110, 99, 101] : List Int32).getD j 0) 8 45611485241 := kw_of (by decide) (fun j hj => match j, hj with | 0, _ => by decide | 1, _ => by decide | 2, _ => by decide | 3, _ => by decide | 4, _ => by decide | 5, _ => by decide | 6, _ => by decide | 7, _ => by decide | m + 8, h => absurd h (by omega)) (by decide)
theorem kw_X18_30 : kwQ (fun j => ([102, 105, 114, 115, 116] : List Int32).getD j 0) 5 3379448 := kw_of (by decide) (fun j hj => match j, hj with | 0, _ => by decide | 1, _ => by decide | 2, _ => by decide | 3, _ => by decide | 4, _ => by decide | m + 5, h => absurd h (by omega)) (by decide)
theorem kw_X18_41 : kwQ (fun j => ([109, 97, 110, 121] : List Int32).getD j 0) 4 257011 := kw_of (by decide) (fun j hj => match j, hj with | 0, _ => by decide | 1, _ => by decide | 2, _ => by decide | 3, _ => by decide | m + 4, h => absurd h (by omega)) (by decide)
theorem kw_X18_88 : kwQ (fun j => ([110, 111, 116] : List Int32).getD j 0) 3 10631 := kw_of (by decide) (fun j hj => match j, hj with | 0, _ => by decide | 1, _ => by decide | 2, _ => by decide | m + 3, h => absurd h (by omega)) (by decide)
theorem kw_X18_77 : kwQ (fun j => ([97, 110, 100] : List Int32).getD j 0) 3 1111 := kw_of (by decide) (fun j hj => match j, hj with | 0, _ => by decide | 1, _ => by decide | 2, _ => by decide | m + 3, h => absurd h (by omega)) (by decide)
theorem kw_X18_69 : kwQ (fun j => ([111, 114] : List Int32).getD j 0) 2 423 := kw_of (by decide) (fun j hj => match j, hj with | 0, _ => by decide | 1, _ => by decide | m + 2, h => absurd h (by omega)) (by decide)
theorem kw_X7_54 : kwQ (fun j => ([102, 111, 114, 99, 101] : List Int32).getD j 0) 5 3497099 := kw_of (by decide) (fun j hj => match j, hj with | 0, _ => by decide | 1, _ => by decide | 2, _ => by decide | 3, _ => by decide | 4, _ => by decide | m + 5, h => absurd h (by omega)) (by decide)
theorem kw_X7_63 : kwQ (fun j => ([115, 111, 102, 116] : List Int32).getD j 0) 4 385094 := kw_of (by decide) (fun j hj => match j, hj with | 0, _ => by decide | 1, _ => by decide | 2, _ => by decide | 3, _ => by decide | m + 4, h => absurd h (by omega)) (by decide)
theorem kw_X7_65 : kwQ (fun j => ([116, 105, 109, 101] : List Int32).getD j 0) 4 400577 := kw_of (by decide) (fun j hj => match j, hj with | 0, _ => by decide | 1, _ => by decide | 2, _ => by decide | 3, _ => by decide | m + 4, h => absurd h (by omega)) (by decide)
theorem kw_X7_67 : kwQ (fun j => ([110, 101, 97, 114] : List Int32).getD j 0) 4 279252 := kw_of (by decide) (fun j hj => match j, hj with | 0, _ => by decide | 1, _ => by decide | 2, _ => by decide | 3, _ => by decide | m + 4, h => absurd h (by omega)) (by decide)
theorem kw_X7_70 : kwQ (fun j => ([98, 97, 110, 100] : List Int32).getD j 0) 4 40477 := kw_of (by decide) (fun j hj => match j, hj with | 0, _ => by decide | 1, _ => by decide | 2, _ => by decide | 3, _ => by decide | m + 4, h => absurd h (by omega)) (by decide)
theorem kw_X7_72 : kwQ (fun j => ([115, 99, 104, 101, 109, 101] : List Int32).getD j 0) 6 274385021 := kw_of (by decide) (fun j hj => match j, hj with | 0, _ => by decide | 1, _ => by decide | 2, _ => by decide | 3, _ => by decide | 4, _ => by decide | 5, _ => by decide | m + 6, h => absurd h (by omega)) (by decide)
theorem kw_X7_40 : kwQ (fun j => ([101, 117, 108, 101, 114] : List Int32).getD j 0) 5 3079449 := kw_of (by decide) (fun j hj => match j, hj with | 0, _ => by decide | 1, _ => by decide | 2, _ => by decide | 3, _ => by decide | 4, _ => by decide | m + 5, h => absurd h (by omega)) (by decide)
theorem kw_X7_46 : kwQ (fun j => ([108, 101, 97, 112] : List Int32).getD j 0) 4 239884 := kw_of (by decide) (fun j hj => match j, hj with | 0, _ => by decide | 1, _ => by decide | 2, _ => by decide | 3, _ => by decide | m + 4, h => absurd h (by omega)) (by decide)
theorem kw_X7_48 : kwQ (fun j => ([118, 101, 114, 108, 101, 116] : List Int32).getD j 0) 6 318696356 := kw_of (by decide) (fun j hj => match j, hj with | 0, _ => by decide | 1, _ => by decide | 2, _ => by decide | 3, _ => by decide | 4, _ => by decide | 5, _ => by decide | m + 6, h => absurd h (by omega)) (by decide)
theorem kw_X7_81 : kwQ (fun j => ([98, 111, 100, 121] : List Int32).getD j 0) 4 50434 := kw_of (by decide) (fun j hj => match j, hj with | 0, _ => by decide | 1, _ => by decide | 2, _ => by decide | 3, _ => by decide | m + 4, h => absurd h (by omega)) (by decide)
