/-! ===== lengths of numbers as text ===== -/
theorem digL_le {m : Nat} : ∀ {f d p n : Nat} {tx : Nat → Int32}, p < 10 ^ d → (digL m f p n tx).1 ≤ n + d := by
  intro f
  induction f with
  | zero => intro d p n tx _; rw [digL]; exact Nat.le_add_right n d
  | succ f ih =>
    intro d p n tx hp
    rw [digL]
    by_cases h : p = 0
    · rw [if_pos h]; exact Nat.le_add_right n d
    · rw [if_neg h]
      cases d with
      | zero => exact absurd (by omega) h
      | succ d =>
        have h1 : p / 10 < 10 ^ d := by rw [Nat.pow_succ] at hp; omega
        have := ih (n := n + 1) (tx := sayB tx n (lN (48 + m / p % 10)).toInt32) h1
        omega
theorem byL_ten {m d : Nat} (hm : m < 10 ^ d) : ∀ {f p : Nat}, 0 < p → p < 10 ^ d → byL m f p < 10 ^ d := by
  intro f
  induction f with
  | zero => intro p _ h; exact h
  | succ f ih =>
    intro p hp hpb
    rw [byL]
    by_cases hq : m / p ≤ 9
    · rw [if_pos hq]; exact hpb
    · rw [if_neg hq]
      have h1 : 10 * p ≤ m := (Nat.le_div_iff_mul_le hp).mp (by omega)
      exact ih (by omega) (by omega)
theorem sayN_le {f1 f2 d : Nat} {v : Int64} {m n : Nat} {tx : Nat → Int32} (hm : m < 10 ^ d) (hd : 1 < 10 ^ d) : (sayN f1 f2 v m n tx).1 ≤ n + d + 1 := by
  have hb := byL_ten hm (f := f1) (p := 1) (by decide) hd
  by_cases h : 0 ≤ v
  · rw [sayN_p h]
    exact Nat.le_succ_of_le (digL_le hb)
  · rw [sayN_m h]
    have := digL_le (m := m) (f := f2) (n := n + 1) (tx := sayB tx n 45) hb
    omega
theorem sayN_lp {f1 f2 d : Nat} {v : Int64} {m n : Nat} {tx : Nat → Int32} (hm : m < 10 ^ d) (hd : 1 < 10 ^ d) (h : 0 ≤ v) : (sayN f1 f2 v m n tx).1 ≤ n + d := by
  rw [sayN_p h]
  exact digL_le (byL_ten hm (f := f1) (p := 1) (by decide) hd)
