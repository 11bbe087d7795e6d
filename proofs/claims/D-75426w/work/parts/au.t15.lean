/-! ===== plain: floorDiv on 32 bits, cells' places ===== -/
set_option maxRecDepth 100000
theorem fdi {a b : Int} (hb : 0 < b) : a / b = if 0 ≤ a.tmod b then a.tdiv b else a.tdiv b - 1 := by
  have hdm := Int.tmod_add_tdiv_mul a b
  have h3 : (a.tmod b).natAbs < b.natAbs := by rw [Int.natAbs_tmod]; exact Nat.mod_lt _ (by omega)
  split
  · rename_i h
    exact ((Int.ediv_emod_unique hb).mpr ⟨by rw [Int.mul_comm]; exact hdm, h, by omega⟩).1
  · rename_i h
    refine ((Int.ediv_emod_unique (r := a.tmod b + b) hb).mpr ⟨?_, by omega, by omega⟩).1
    rw [Int.mul_sub, Int.mul_comm b]
    omega
theorem sm32 {a b : Int32} (hb : 0 < b.toInt) (ha : -100000 ≤ a.toInt ∧ a.toInt ≤ 100000) (hb2 : b.toInt ≤ 100000) : (a / b).toInt = a.toInt.tdiv b.toInt ∧ (a / b * b).toInt = a.toInt - a.toInt.tmod b.toInt ∧ (a - a / b * b).toInt = a.toInt.tmod b.toInt := by
  have hdm := Int.tmod_add_tdiv_mul a.toInt b.toInt
  have h1 : (a.toInt.tdiv b.toInt).natAbs ≤ a.toInt.natAbs := by rw [Int.natAbs_tdiv]; exact Nat.div_le_self _ _
  have h3 : (a.toInt.tmod b.toInt).natAbs < b.toInt.natAbs := by rw [Int.natAbs_tmod]; exact Nat.mod_lt _ (by omega)
  have hq : (a / b).toInt = a.toInt.tdiv b.toInt := by
    rw [Int32.toInt_div]
    exact Int.bmod_eq_of_le (by omega) (by omega)
  have hmul : (a / b * b).toInt = a.toInt - a.toInt.tmod b.toInt := by
    rw [Int32.toInt_mul, hq]
    have : a.toInt.tdiv b.toInt * b.toInt = a.toInt - a.toInt.tmod b.toInt := by omega
    rw [this]
    exact Int.bmod_eq_of_le (by omega) (by omega)
  refine ⟨hq, hmul, ?_⟩
  rw [Int32.toInt_sub, hmul]
  have : a.toInt - (a.toInt - a.toInt.tmod b.toInt) = a.toInt.tmod b.toInt := by omega
  rw [this]
  exact Int.bmod_eq_of_le (by omega) (by omega)
theorem sm64 {a b : Int64} (hb : 0 < b.toInt) (ha : -100000 ≤ a.toInt ∧ a.toInt ≤ 100000) (hb2 : b.toInt ≤ 100000) : (a / b).toInt = a.toInt.tdiv b.toInt ∧ (a / b * b).toInt = a.toInt - a.toInt.tmod b.toInt ∧ (a - a / b * b).toInt = a.toInt.tmod b.toInt := by
  have hdm := Int.tmod_add_tdiv_mul a.toInt b.toInt
  have h1 : (a.toInt.tdiv b.toInt).natAbs ≤ a.toInt.natAbs := by rw [Int.natAbs_tdiv]; exact Nat.div_le_self _ _
  have h3 : (a.toInt.tmod b.toInt).natAbs < b.toInt.natAbs := by rw [Int.natAbs_tmod]; exact Nat.mod_lt _ (by omega)
  have hq : (a / b).toInt = a.toInt.tdiv b.toInt := by
    rw [Int64.toInt_div]
    exact Int.bmod_eq_of_le (by omega) (by omega)
  have hmul : (a / b * b).toInt = a.toInt - a.toInt.tmod b.toInt := by
    rw [Int64.toInt_mul, hq]
    have : a.toInt.tdiv b.toInt * b.toInt = a.toInt - a.toInt.tmod b.toInt := by omega
    rw [this]
    exact Int.bmod_eq_of_le (by omega) (by omega)
  refine ⟨hq, hmul, ?_⟩
  rw [Int64.toInt_sub, hmul]
  have : a.toInt - (a.toInt - a.toInt.tmod b.toInt) = a.toInt.tmod b.toInt := by omega
  rw [this]
  exact Int.bmod_eq_of_le (by omega) (by omega)
theorem fl64 {A B : Int64} (hb : 0 < B.toInt) (ha : -100000 ≤ A.toInt ∧ A.toInt ≤ 100000) (hb2 : B.toInt ≤ 100000) : (m_floored A B).toInt = A.toInt / B.toInt := by
  obtain ⟨h1, h2, h3⟩ := sm64 hb ha hb2
  have h4 : (A.toInt.tdiv B.toInt).natAbs ≤ A.toInt.natAbs := by rw [Int.natAbs_tdiv]; exact Nat.div_le_self _ _
  have e0 : (0 : Int64).toInt = 0 := rfl
  have e1 : (1 : Int64).toInt = 1 := rfl
  rw [fdi hb]
  unfold m_floored
  by_cases h : 0 ≤ A.toInt.tmod B.toInt
  · rw [if_pos h, if_pos (by rw [Int64.le_iff_toInt_le, e0, h3]; exact h), h1]
  · rw [if_neg h, if_neg (by rw [Int64.le_iff_toInt_le, e0, h3]; exact h), Int64.toInt_sub, h1, e1]
    exact Int.bmod_eq_of_le (by omega) (by omega)
theorem fd32 {a b : Int32} (hb : 0 < b.toInt) (ha : -100000 ≤ a.toInt ∧ a.toInt ≤ 100000) (hb2 : b.toInt ≤ 100000) : (x_fd a b).toInt = a.toInt / b.toInt := by
  obtain ⟨h1, h2, h3⟩ := sm32 hb ha hb2
  have h4 : (a.toInt.tdiv b.toInt).natAbs ≤ a.toInt.natAbs := by rw [Int.natAbs_tdiv]; exact Nat.div_le_self _ _
  have h5 : 0 ≤ a.toInt → 0 ≤ a.toInt.tmod b.toInt := Int.tmod_nonneg _
  have h6 : a.toInt ≤ 0 → a.toInt.tmod b.toInt ≤ 0 := fun h => by
    have := Int.tmod_nonneg b.toInt (a := -a.toInt) (by omega)
    rw [Int.neg_tmod] at this
    omega
  have e0 : (0 : Int32).toInt = 0 := rfl
  have e1 : (1 : Int32).toInt = 1 := rfl
  have hxor : (0 ≤ a ^^^ b) ↔ 0 ≤ a.toInt := by
    rw [Int32.le_iff_toInt_le, e0]
    have hx : 0 ≤ (a ^^^ b).toInt ↔ (a ^^^ b).toBitVec.msb = false := by
      show 0 ≤ (a ^^^ b).toBitVec.toInt ↔ _
      rw [BitVec.msb_eq_toInt, decide_eq_false_iff_not, Int.not_lt]
    have ha9 : 0 ≤ a.toInt ↔ a.toBitVec.msb = false := by
      show 0 ≤ a.toBitVec.toInt ↔ _
      rw [BitVec.msb_eq_toInt, decide_eq_false_iff_not, Int.not_lt]
    have hbm : b.toBitVec.msb = false := by
      have : 0 ≤ b.toBitVec.toInt := by show 0 ≤ b.toInt; omega
      rw [BitVec.msb_eq_toInt, decide_eq_false_iff_not, Int.not_lt]; exact this
    rw [hx, ha9, Int32.toBitVec_xor, BitVec.msb_xor, hbm, Bool.xor_false]
  rw [fdi hb]
  unfold x_fd
  by_cases h : 0 ≤ a.toInt
  · rw [if_pos (hxor.mpr h), if_pos (h5 h), h1]
  · rw [if_neg (fun q => h (hxor.mp q))]
    have h7 := h6 (by omega)
    have hm : a / b * b = a ↔ a.toInt.tmod b.toInt = 0 := by
      rw [← Int32.toInt_inj, h2]
      omega
    by_cases hz : a.toInt.tmod b.toInt = 0
    · rw [if_pos (hm.mpr hz), if_pos (by omega), h1]
    · rw [if_neg (fun q => hz (hm.mp q)), if_neg (by omega), Int32.toInt_sub, h1, e1]
      exact Int.bmod_eq_of_le (by omega) (by omega)
theorem fl_in {A B : Int64} (hb : 1000 ≤ B.toInt) (ha : -100000 ≤ A.toInt ∧ A.toInt ≤ 100000) (hb2 : B.toInt ≤ 100000) : inC (m_floored A B) := by
  unfold inC
  rw [fl64 (by omega) ha hb2]
  constructor
  · rw [Int.le_ediv_iff_mul_le (by omega)]; omega
  · have : A.toInt / B.toInt < 401 := by rw [Int.ediv_lt_iff_lt_mul (by omega)]; omega
    omega
theorem fd_eq {A : Int64} {w : Nat} (hw : 1000 ≤ w ∧ w ≤ 100000) (ha : -100000 ≤ A.toInt ∧ A.toInt ≤ 100000) : x_fd A.toInt32 (nI w) = (m_floored A (nI w).toInt64).toInt32 ∧ inC (m_floored A (nI w).toInt64) := by
  have hw1 : (nI w).toInt = (w : Int) := nI_toInt (by omega)
  have hw2 : ((nI w).toInt64).toInt = (w : Int) := by rw [Int32.toInt_toInt64, hw1]
  have hA : A.toInt32.toInt = A.toInt := i32_i (by omega) (by omega)
  have hin := fl_in (A := A) (B := (nI w).toInt64) (by omega) ha (by omega)
  refine ⟨Int32.toInt_inj.mp ?_, hin⟩
  rw [fd32 (by omega) (by omega) (by omega), hin.i32, fl64 (by omega) ha (by omega), hA, hw1, hw2]
