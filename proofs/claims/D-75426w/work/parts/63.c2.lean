/-! ===== plain: the class's numbers against the row ===== -/
set_option maxRecDepth 100000
def seF (t r : Nat → Int64) : Nat → Int32 := fun k => if k = 0 then (t 0).toInt32 else if k = 1 then (t 1).toInt32 else if k = 2 then (t 2).toInt32 else if k = 3 then (r 1).toInt32 else if k = 4 then (t 3).toInt32 else (t 4).toInt32
def maF (r : Nat → Int64) : Nat → Int32 := fun k => (r (6 + 5 * k)).toInt32
def plX (r : Nat → Int64) : Nat → Int32 := fun k => (r (6 + 5 * k + 1)).toInt32
def plY (r : Nat → Int64) : Nat → Int32 := fun k => (r (6 + 5 * k + 2)).toInt32
def moX (r : Nat → Int64) : Nat → Int64 := fun k => r (6 + 5 * k + 3)
def moY (r : Nat → Int64) : Nat → Int64 := fun k => r (6 + 5 * k + 4)
def plR (r : Nat → Int64) : Prop := ∀ k, k < 3 → (-100000 ≤ (r (6 + 5 * k + 1)).toInt ∧ (r (6 + 5 * k + 1)).toInt ≤ 100000) ∧ -100000 ≤ (r (6 + 5 * k + 2)).toInt ∧ (r (6 + 5 * k + 2)).toInt ≤ 100000
def moR (r : Nat → Int64) : Prop := ∀ k, k < 3 → (-1000000000 ≤ (r (6 + 5 * k + 3)).toInt ∧ (r (6 + 5 * k + 3)).toInt ≤ 1000000000) ∧ -1000000000 ≤ (r (6 + 5 * k + 4)).toInt ∧ (r (6 + 5 * k + 4)).toInt ≤ 1000000000
def ckR (r : Nat → Int64) : Prop := -1000000 ≤ (r 0).toInt ∧ (r 0).toInt ≤ 1000000
def scR (r : Nat → Int64) : Prop := r 1 = 0 ∨ r 1 = 1 ∨ r 1 = 2
theorem i32_i {v : Int64} (h1 : -2147483648 ≤ v.toInt) (h2 : v.toInt ≤ 2147483647) : v.toInt32.toInt = v.toInt := by
  rw [Int64.toInt_toInt32]
  exact Int.bmod_eq_of_le (by omega) (by omega)
section PLN
variable {t r : Nat → Int64} {j a b p : Nat}
theorem plX_i (h : plR r) (hj : j < 3) : (plX r j).toInt = (r (6 + 5 * j + 1)).toInt := i32_i (by have := (h j hj).1; omega) (by have := (h j hj).1; omega)
theorem plY_i (h : plR r) (hj : j < 3) : (plY r j).toInt = (r (6 + 5 * j + 2)).toInt := i32_i (by have := (h j hj).2; omega) (by have := (h j hj).2; omega)
theorem plX_l (h : plR r) (hj : j < 3) : (plX r j).toInt64 = r (6 + 5 * j + 1) := i64_of (by have := (h j hj).1; omega) (by have := (h j hj).1; omega)
theorem plY_l (h : plR r) (hj : j < 3) : (plY r j).toInt64 = r (6 + 5 * j + 2) := i64_of (by have := (h j hj).2; omega) (by have := (h j hj).2; omega)
theorem mOK_at (h : mOK r) (hj : j < 3) : 1 ≤ (r (6 + 5 * j)).toInt ∧ (r (6 + 5 * j)).toInt ≤ 99 := by
  rcases (show j = 0 ∨ j = 1 ∨ j = 2 by omega) with rfl | rfl | rfl
  · exact h.1
  · exact h.2.1
  · exact h.2.2
theorem maF_i (h : mOK r) (hj : j < 3) : (maF r j).toInt = (r (6 + 5 * j)).toInt := i32_i (by have := mOK_at h hj; omega) (by have := mOK_at h hj; omega)
theorem maF_l (h : mOK r) (hj : j < 3) : (maF r j).toInt64 = r (6 + 5 * j + 0) := i64_of (by have := mOK_at h hj; omega) (by have := mOK_at h hj; omega)
theorem se0_l (h : tOK t) : (seF t r 0).toInt64 = t 0 := i64_of (v := t 0) (by have := h.1; omega) (by have := h.1; omega)
theorem se1_l (h : tOK t) : (seF t r 1).toInt64 = t 1 := i64_of (v := t 1) (by have := h.2.1; omega) (by have := h.2.1; omega)
theorem se1_i (h : tOK t) : (seF t r 1).toInt = (t 1).toInt := i32_i (v := t 1) (by have := h.2.1; omega) (by have := h.2.1; omega)
theorem se2_l (h : tOK t) : (seF t r 2).toInt64 = t 2 := i64_of (v := t 2) (by have := h.2.2.1; omega) (by have := h.2.2.1; omega)
theorem se4_l (h : tOK t) : (seF t r 4).toInt64 = t 3 := i64_of (v := t 3) (by have := h.2.2.2.1; omega) (by have := h.2.2.2.1; omega)
theorem se5_l (h : tOK t) : (seF t r 5).toInt64 = t 4 := i64_of (v := t 4) (by have := h.2.2.2.2; omega) (by have := h.2.2.2.2; omega)
theorem sub_ll {x y : Int32} {u v : Int64} (hx : x.toInt = u.toInt) (hy : y.toInt = v.toInt) (h1 : -1000000000 ≤ x.toInt ∧ x.toInt ≤ 1000000000) (h2 : -1000000000 ≤ y.toInt ∧ y.toInt ≤ 1000000000) : (x - y).toInt64 = u - v := by
  apply Int64.toInt_inj.mp
  rw [Int32.toInt_toInt64, Int32.toInt_sub, Int64.toInt_sub, ← hx, ← hy, Int.bmod_eq_of_le (by omega) (by omega), Int.bmod_eq_of_le (by omega) (by omega)]
theorem add_ll {x y : Int32} {u v : Int64} (hx : x.toInt = u.toInt) (hy : y.toInt = v.toInt) (h1 : -1000000000 ≤ x.toInt ∧ x.toInt ≤ 1000000000) (h2 : -1000000000 ≤ y.toInt ∧ y.toInt ≤ 1000000000) : (x + y).toInt64 = u + v := by
  apply Int64.toInt_inj.mp
  rw [Int32.toInt_toInt64, Int32.toInt_add, Int64.toInt_add, ← hx, ← hy, Int.bmod_eq_of_le (by omega) (by omega), Int.bmod_eq_of_le (by omega) (by omega)]
theorem dX_l (h : plR r) (ha : a < 3) (hb : b < 3) : (plX r a - plX r b).toInt64 = r (6 + 5 * a + 1) - r (6 + 5 * b + 1) :=
  sub_ll (plX_i h ha) (plX_i h hb) (by rw [plX_i h ha]; have := (h a ha).1; omega) (by rw [plX_i h hb]; have := (h b hb).1; omega)
theorem dY_l (h : plR r) (ha : a < 3) (hb : b < 3) : (plY r a - plY r b).toInt64 = r (6 + 5 * a + 2) - r (6 + 5 * b + 2) :=
  sub_ll (plY_i h ha) (plY_i h hb) (by rw [plY_i h ha]; have := (h a ha).2; omega) (by rw [plY_i h hb]; have := (h b hb).2; omega)
theorem dist_le : distQ r p ≤ 300000 := rootQ_le _
theorem reach_l (h : tOK t) : (nI (distQ r p) + seF t r 1).toInt64 = reachQ t r p := by
  have hd := @dist_le r p
  have h1 : (nI (distQ r p)).toInt = (distQ r p : Int) := nI_toInt (by omega)
  exact add_ll (u := lN (distQ r p)) (v := t 1) (by rw [h1, lN_toInt (by omega)]) (se1_i h) (by rw [h1]; omega) (by rw [se1_i h]; have := h.2.1; omega)
theorem away_sub (x y z w : Int64) : awayQ (x - y) (z - w) = awayQ (y - x) (w - z) := by
  have e : ∀ u v : Int64, (u - v) * (u - v) = (v - u) * (v - u) := fun u v => by
    rw [← Int64.neg_sub (a := v) (b := u), Int64.neg_mul, Int64.mul_neg, Int64.neg_neg]
  unfold awayQ
  rw [e x y, e z w]
end PLN
/-! floorDiv against the reference's floored -/
theorem fdL_eq {a b : Int64} (hb : 0 < b.toInt) : x_fdL a b = m_floored a b := by
  have hA := Int64.le_toInt a
  have hA2 := Int64.toInt_lt a
  have hq : (a / b).toInt = a.toInt.tdiv b.toInt := by
    rw [Int64.toInt_div]
    have h1 : (a.toInt.tdiv b.toInt).natAbs ≤ a.toInt.natAbs := by rw [Int.natAbs_tdiv]; exact Nat.div_le_self _ _
    by_cases hm : b.toInt = 1
    · rw [hm, Int.tdiv_one]; exact Int.bmod_eq_of_le (by omega) (by omega)
    · have h2 : (a.toInt.tdiv b.toInt).natAbs ≤ a.toInt.natAbs / 2 := by
        rw [Int.natAbs_tdiv]
        exact Nat.div_le_div_left (by omega) (by omega)
      exact Int.bmod_eq_of_le (by omega) (by omega)
  have hdm := Int.tmod_add_tdiv_mul a.toInt b.toInt
  have hmul : (a / b * b).toInt = a.toInt - a.toInt.tmod b.toInt := by
    rw [Int64.toInt_mul, hq]
    have : a.toInt.tdiv b.toInt * b.toInt = a.toInt - a.toInt.tmod b.toInt := by omega
    rw [this]
    have h3 : (a.toInt.tmod b.toInt).natAbs ≤ a.toInt.natAbs := by rw [Int.natAbs_tmod]; exact Nat.mod_le _ _
    have h4 : 0 ≤ a.toInt → 0 ≤ a.toInt.tmod b.toInt := Int.tmod_nonneg _
    have h5 : a.toInt ≤ 0 → a.toInt.tmod b.toInt ≤ 0 := fun h => by
      have := Int.tmod_nonneg b.toInt (a := -a.toInt) (by omega)
      rw [Int.neg_tmod] at this
      omega
    exact Int.bmod_eq_of_le (by omega) (by omega)
  have hrem : (a - a / b * b).toInt = a.toInt.tmod b.toInt := by
    rw [Int64.toInt_sub, hmul]
    have : a.toInt - (a.toInt - a.toInt.tmod b.toInt) = a.toInt.tmod b.toInt := by omega
    rw [this]
    have h3 : (a.toInt.tmod b.toInt).natAbs < b.toInt.natAbs := by rw [Int.natAbs_tmod]; exact Nat.mod_lt _ (by omega)
    have hB2 := Int64.toInt_lt b
    exact Int.bmod_eq_of_le (by omega) (by omega)
  have hxor : (0 ≤ a ^^^ b) ↔ 0 ≤ a.toInt := by
    have e0 : (0 : Int64).toInt = 0 := rfl
    rw [Int64.le_iff_toInt_le, e0]
    have hx : 0 ≤ (a ^^^ b).toInt ↔ (a ^^^ b).toBitVec.msb = false := by
      show 0 ≤ (a ^^^ b).toBitVec.toInt ↔ _
      rw [BitVec.msb_eq_toInt, decide_eq_false_iff_not, Int.not_lt]
    have ha : 0 ≤ a.toInt ↔ a.toBitVec.msb = false := by
      show 0 ≤ a.toBitVec.toInt ↔ _
      rw [BitVec.msb_eq_toInt, decide_eq_false_iff_not, Int.not_lt]
    have hbm : b.toBitVec.msb = false := by
      have : 0 ≤ b.toBitVec.toInt := by show 0 ≤ b.toInt; omega
      rw [BitVec.msb_eq_toInt, decide_eq_false_iff_not, Int.not_lt]; exact this
    rw [hx, ha, Int64.toBitVec_xor, BitVec.msb_xor, hbm, Bool.xor_false]
  have h0 : (0 ≤ a - a / b * b) ↔ 0 ≤ a.toInt.tmod b.toInt := by
    rw [Int64.le_iff_toInt_le, hrem]; rfl
  have heq : (a / b * b = a) ↔ a.toInt.tmod b.toInt = 0 := by
    rw [← Int64.toInt_inj, hmul]; omega
  unfold x_fdL m_floored
  by_cases hs : 0 ≤ a.toInt
  · rw [if_pos (hxor.mpr hs), if_pos (h0.mpr (Int.tmod_nonneg _ hs))]
  · rw [if_neg (fun h => hs (hxor.mp h))]
    have h5 : a.toInt.tmod b.toInt ≤ 0 := by
      have := Int.tmod_nonneg b.toInt (a := -a.toInt) (by omega)
      rw [Int.neg_tmod] at this
      omega
    by_cases hz : a.toInt.tmod b.toInt = 0
    · rw [if_pos (heq.mpr hz), if_pos (h0.mpr (by omega))]
    · rw [if_neg (fun h => hz (heq.mp h)), if_neg (fun h => hz (by have := h0.mp h; omega))]
theorem g00 (x : Int64) : (1 : Int64) * (x / 1) = x := by rw [Int64.one_mul, Int64.div_one]
theorem g01 (x : Int64) : (-1 : Int64) * (x / 1) = -x := by rw [Int64.neg_mul, Int64.one_mul, Int64.div_one]
theorem g10 (x : Int64) : (1 : Int64) * (x / 2) = x / 2 := by rw [Int64.one_mul]
theorem g11 (x : Int64) : (-1 : Int64) * (x / 2) = -(x / 2) := by rw [Int64.neg_mul, Int64.one_mul]
