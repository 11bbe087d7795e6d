/-! ===== plain: cells' hashes stay apart ===== -/
set_option maxRecDepth 100000
theorem shr16 (u : UInt32) : (u >>> 16) >>> 16 = 0 := by
  refine UInt32.toNat_inj.mp ?_
  have h := u.toNat_lt
  rw [UInt32.toNat_shiftRight, UInt32.toNat_shiftRight]
  show (u.toNat >>> 16) >>> 16 = 0
  rw [Nat.shiftRight_eq_div_pow, Nat.shiftRight_eq_div_pow]
  omega
def spU (u : UInt32) : UInt32 := u ^^^ (u >>> 16)
theorem spU2 (u : UInt32) : spU (spU u) = u := by
  unfold spU
  rw [UInt32.shiftRight_xor, shr16, UInt32.xor_zero, UInt32.xor_assoc, UInt32.xor_self, UInt32.xor_zero]
theorem hsp_u (x : Int32) : (hspQ x).toUInt32 = spU x.toUInt32 := rfl
theorem hsp_inj {x y : Int32} (h : hspQ x = hspQ y) : x = y := by
  have h1 : spU x.toUInt32 = spU y.toUInt32 := by rw [← hsp_u, ← hsp_u, h]
  have h2 : x.toUInt32 = y.toUInt32 := by rw [← spU2 x.toUInt32, h1, spU2]
  exact i32_ext h2
theorem cd_val {c d : Int32} (hc : -400 ≤ c.toInt ∧ c.toInt ≤ 400) (hd : -400 ≤ d.toInt ∧ d.toInt ≤ 400) : (1000 * c + d).toInt = 1000 * c.toInt + d.toInt := by
  have h0 : (1000 : Int32).toInt = 1000 := rfl
  rw [Int32.toInt_add, Int32.toInt_mul, h0, Int.bmod_eq_of_le (n := 1000 * c.toInt) (by omega) (by omega), Int.bmod_eq_of_le (by omega) (by omega)]
theorem hsh_inj {c d c' d' : Int32} (hc : -400 ≤ c.toInt ∧ c.toInt ≤ 400) (hd : -400 ≤ d.toInt ∧ d.toInt ≤ 400) (hc' : -400 ≤ c'.toInt ∧ c'.toInt ≤ 400) (hd' : -400 ≤ d'.toInt ∧ d'.toInt ≤ 400) (h : hsh c d = hsh c' d') : c = c' ∧ d = d' := by
  have h1 := congrArg Int32.toInt (hsp_inj h)
  rw [cd_val hc hd, cd_val hc' hd'] at h1
  exact ⟨Int32.toInt_inj.mp (by omega), Int32.toInt_inj.mp (by omega)⟩
