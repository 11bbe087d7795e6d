/-! ===== quotients that are numbers ===== -/
theorem nea_ge {A B : Nat} (hB : 0 < B) (h : B ≤ A) : 1 ≤ Jvm.FP.Core.nearest A B := by
  have h1 : 0 < A / B := Nat.div_pos h hB
  unfold Jvm.FP.Core.nearest
  split
  · omega
  · split <;> omega
theorem i64_abs (a : Int64) : a.toInt.natAbs < 2 ^ 64 := by
  have h1 := a.toInt_lt
  have h2 := a.le_toInt
  omega
theorem p_64 : Jvm.FP.Core.b64.p = 53 := rfl
theorem ta_64 : Jvm.FP.Core.b64.tails = 4503599627370496 := by decide
theorem ex_64 : Jvm.FP.Core.b64.exps = 2048 := by decide
theorem qi_64 : Jvm.FP.Core.b64.qmin = (-1074) := by decide
theorem qa_64 : Jvm.FP.Core.b64.qmax = 971 := by decide
theorem shp_64 (s : Bool) (A B : Nat) (e : Int) : (∃ c q, Jvm.FP.Core.roundRatio Jvm.FP.Core.b64 s A B e = .fin s c q ∧ c < 2 ^ 53 ∧ (-1074) ≤ q ∧ q ≤ 971) ∨ Jvm.FP.Core.roundRatio Jvm.FP.Core.b64 s A B e = .inf s := by
  unfold Jvm.FP.Core.roundRatio
  by_cases h0 : A = 0
  · rw [if_pos h0, qi_64]
    exact Or.inl ⟨0, _, rfl, by decide, by decide, by decide⟩
  · rw [if_neg h0]
    have hq : (-1074) ≤ Jvm.FP.Core.quantum Jvm.FP.Core.b64 A B e := by
      unfold Jvm.FP.Core.quantum
      rw [qi_64]
      omega
    generalize Jvm.FP.Core.quantum Jvm.FP.Core.b64 A B e = q at hq
    unfold Jvm.FP.Core.roundAt Jvm.FP.Core.settle
    split
    · rename_i hc
      rw [p_64] at hc
      unfold Jvm.FP.Core.bound
      split
      · rename_i h; rw [qa_64] at h; exact Or.inl ⟨_, _, rfl, hc, hq, h⟩
      · exact Or.inr rfl
    · unfold Jvm.FP.Core.bound
      split
      · rename_i h; rw [qa_64] at h; exact Or.inl ⟨_, _, rfl, by rw [ta_64]; decide, by omega, h⟩
      · exact Or.inr rfl
theorem rr_64 (s : Bool) {A : Nat} (hA : A < 2 ^ 64) : ∃ c q, Jvm.FP.Core.roundRatio Jvm.FP.Core.b64 s A 1 0 = .fin s c q ∧ c < 2 ^ 53 ∧ (-1074) ≤ q ∧ q ≤ 971 ∧ (A ≠ 0 → c ≠ 0) := by
  unfold Jvm.FP.Core.roundRatio
  by_cases h0 : A = 0
  · rw [if_pos h0, qi_64]
    exact ⟨0, _, rfl, by decide, by decide, by decide, fun h => absurd h0 h⟩
  · rw [if_neg h0]
    have hlog : A.log2 < 64 := (Nat.log2_lt h0).mpr hA
    have hld : Jvm.FP.Core.leading A 1 ≤ (A.log2 : Int) := by
      unfold Jvm.FP.Core.leading
      simp only [show Nat.log2 1 = 0 from rfl]
      split <;> omega
    have hq : (-1074) ≤ Jvm.FP.Core.quantum Jvm.FP.Core.b64 A 1 0 ∧ Jvm.FP.Core.quantum Jvm.FP.Core.b64 A 1 0 ≤ 64 ∧ (0 < Jvm.FP.Core.quantum Jvm.FP.Core.b64 A 1 0 → Jvm.FP.Core.quantum Jvm.FP.Core.b64 A 1 0 ≤ (A.log2 : Int)) := by
      unfold Jvm.FP.Core.quantum
      rw [qi_64, p_64]
      omega
    generalize Jvm.FP.Core.quantum Jvm.FP.Core.b64 A 1 0 = q at hq
    have hc : 1 ≤ Jvm.FP.Core.nearest (Jvm.FP.Core.unitsNum A 0 q) (Jvm.FP.Core.unitsDen 1 0 q) := by
      unfold Jvm.FP.Core.unitsDen Jvm.FP.Core.unitsNum
      refine nea_ge (by rw [Nat.one_mul]; exact Nat.pow_pos (by decide)) ?_
      rw [Nat.one_mul]
      by_cases hq0 : 0 < q
      · have e1 : (0 - q).toNat = 0 := by omega
        have e2 : (q - 0).toNat ≤ A.log2 := by have := hq.2.2 hq0; omega
        rw [e1, Nat.pow_zero, Nat.mul_one]
        exact Nat.le_trans (Nat.pow_le_pow_right (by decide) e2) (Nat.log2_self_le h0)
      · have e1 : (q - 0).toNat = 0 := by omega
        rw [e1, Nat.pow_zero]
        exact Nat.mul_pos (Nat.pos_of_ne_zero h0) (Nat.pow_pos (by decide))
    unfold Jvm.FP.Core.roundAt Jvm.FP.Core.settle
    split
    · rename_i h
      rw [p_64] at h
      unfold Jvm.FP.Core.bound
      rw [if_pos (by rw [qa_64]; omega)]
      exact ⟨_, _, rfl, h, by omega, by omega, fun _ => by omega⟩
    · unfold Jvm.FP.Core.bound
      rw [if_pos (by rw [qa_64]; omega), ta_64]
      exact ⟨_, _, rfl, by decide, by omega, by omega, fun _ => by decide⟩
theorem enc_64 {s : Bool} {c : Nat} {q : Int} (hc : c < 2 ^ 53) (h1 : (-1074) ≤ q) (h2 : q ≤ 971) : ∃ e t, e < 2048 - 1 ∧ t < 4503599627370496 ∧ (c ≠ 0 → e = 0 → t ≠ 0) ∧ Jvm.FP.Core.encode Jvm.FP.Core.b64 (.fin s c q) = (s.toNat * 2048 + e) * 4503599627370496 + t := by
  unfold Jvm.FP.Core.encode Jvm.FP.Core.assemble
  rw [ta_64, ex_64, qi_64]
  dsimp only
  split
  · rename_i h
    exact ⟨0, c, by decide, h, fun h _ => h, rfl⟩
  · rename_i h
    exact ⟨(q - (-1074)).toNat + 1, c - 4503599627370496, by omega, by omega, fun _ h => by omega, rfl⟩
theorem dec_64 {n e t : Nat} {s : Bool} (he : e < 2048 - 1) (ht : t < 4503599627370496) (hn : n = (s.toNat * 2048 + e) * 4503599627370496 + t) : ∃ s' c q, Jvm.FP.Core.decode Jvm.FP.Core.b64 n = .fin s' c q ∧ ((e = 0 → t ≠ 0) → c ≠ 0) := by
  have hE : Jvm.FP.Core.fieldE Jvm.FP.Core.b64 n = e := by
    unfold Jvm.FP.Core.fieldE
    rw [ta_64, ex_64, hn]
    cases s <;> simp only [Bool.toNat_true, Bool.toNat_false] <;> omega
  have hT : Jvm.FP.Core.fieldT Jvm.FP.Core.b64 n = t := by
    unfold Jvm.FP.Core.fieldT
    rw [ta_64, hn]
    omega
  unfold Jvm.FP.Core.decode
  rw [hE, hT, ex_64, ta_64, if_neg (by omega)]
  split
  · rename_i h0
    exact ⟨_, _, _, rfl, fun h => h h0⟩
  · exact ⟨_, _, _, rfl, fun _ => by omega⟩
theorem nn_64 {n e t : Nat} {s : Bool} (he : e < 2048) (ht : t < 4503599627370496) (hx : e = 2048 - 1 → t = 0) (hn : n = (s.toNat * 2048 + e) * 4503599627370496 + t) : vf_n64 (UInt64.ofNat n) := by
  unfold vf_n64
  have hlt : n < 2 ^ 64 := by cases s <;> simp only [Bool.toNat_true, Bool.toNat_false] at hn <;> omega
  rw [UInt64.le_iff_toNat_le, UInt64.toNat_and, UInt64.toNat_ofNat_of_lt' (by simpa using hlt)]
  rw [show (0x7fffffffffffffff : UInt64).toNat = 2 ^ (64 - 1) - 1 from rfl, Nat.and_two_pow_sub_one_eq_mod]
  show n % 2 ^ (64 - 1) ≤ 9218868437227405312
  cases s <;> simp only [Bool.toNat_true, Bool.toNat_false] at hn <;> omega
theorem quo_64 {d1 d2 : Jvm.FP.Core.Datum} {s t : Bool} {c d : Nat} {q r : Int} (e1 : d1 = .fin s c q) (e2 : d2 = .fin t d r) (hd : d ≠ 0) : vf_n64 (UInt64.ofNat (Jvm.FP.Core.encode Jvm.FP.Core.b64 (Jvm.FP.Core.quotient Jvm.FP.Core.b64 d1 d2))) := by
  subst e1 e2
  unfold Jvm.FP.Core.quotient
  dsimp only
  rw [if_neg hd]
  rcases shp_64 (s != t) c d (q - r) with ⟨c', q', h, a1, a2, a3⟩ | h
  · rw [h]
    obtain ⟨e, u, b1, b2, -, b4⟩ := enc_64 (s := (s != t)) a1 a2 a3
    exact nn_64 (by omega) b2 (fun hh => by omega) b4
  · rw [h]
    refine nn_64 (e := 2048 - 1) (t := 0) (s := (s != t)) (by decide) (by decide) (fun _ => rfl) ?_
    unfold Jvm.FP.Core.encode Jvm.FP.Core.assemble
    rw [ta_64, ex_64]
theorem l2_64 (a : Int64) : ∃ s c q, Jvm.FP.Core.decode Jvm.FP.Core.b64 (FP.l2d a).toNat = .fin s c q ∧ (¬ a = 0 → c ≠ 0) := by
  obtain ⟨c, q, e1, h1, h2, h3, h4⟩ := rr_64 (decide (a.toInt < 0)) (i64_abs a)
  obtain ⟨e, t, b1, b2, b3, b4⟩ := enc_64 (s := decide (a.toInt < 0)) h1 h2 h3
  have hn : (FP.l2d a).toNat = ((decide (a.toInt < 0)).toNat * 2048 + e) * 4503599627370496 + t := by
    show (UInt64.ofNat (Jvm.FP.Core.encode Jvm.FP.Core.b64 (Jvm.FP.Core.roundRatio Jvm.FP.Core.b64 (decide (a.toInt < 0)) a.toInt.natAbs 1 0))).toNat = _
    rw [e1, b4, UInt64.toNat_ofNat_of_lt' ?_]
    show _ < 2 ^ 64
    cases decide (a.toInt < 0) <;> simp only [Bool.toNat_true, Bool.toNat_false] <;> omega
  obtain ⟨s', c', q', g1, g2⟩ := dec_64 b1 b2 hn
  exact ⟨s', c', q', g1, fun ha => g2 (b3 (h4 (fun h => ha (Int64.toInt_inj.mp (by rw [Int.natAbs_eq_zero.mp h]; rfl)))))⟩
theorem p_32 : Jvm.FP.Core.b32.p = 24 := rfl
theorem ta_32 : Jvm.FP.Core.b32.tails = 8388608 := by decide
theorem ex_32 : Jvm.FP.Core.b32.exps = 256 := by decide
theorem qi_32 : Jvm.FP.Core.b32.qmin = (-149) := by decide
theorem qa_32 : Jvm.FP.Core.b32.qmax = 104 := by decide
theorem shp_32 (s : Bool) (A B : Nat) (e : Int) : (∃ c q, Jvm.FP.Core.roundRatio Jvm.FP.Core.b32 s A B e = .fin s c q ∧ c < 2 ^ 24 ∧ (-149) ≤ q ∧ q ≤ 104) ∨ Jvm.FP.Core.roundRatio Jvm.FP.Core.b32 s A B e = .inf s := by
  unfold Jvm.FP.Core.roundRatio
  by_cases h0 : A = 0
  · rw [if_pos h0, qi_32]
    exact Or.inl ⟨0, _, rfl, by decide, by decide, by decide⟩
  · rw [if_neg h0]
    have hq : (-149) ≤ Jvm.FP.Core.quantum Jvm.FP.Core.b32 A B e := by
      unfold Jvm.FP.Core.quantum
      rw [qi_32]
      omega
    generalize Jvm.FP.Core.quantum Jvm.FP.Core.b32 A B e = q at hq
    unfold Jvm.FP.Core.roundAt Jvm.FP.Core.settle
    split
    · rename_i hc
      rw [p_32] at hc
      unfold Jvm.FP.Core.bound
      split
      · rename_i h; rw [qa_32] at h; exact Or.inl ⟨_, _, rfl, hc, hq, h⟩
      · exact Or.inr rfl
    · unfold Jvm.FP.Core.bound
      split
      · rename_i h; rw [qa_32] at h; exact Or.inl ⟨_, _, rfl, by rw [ta_32]; decide, by omega, h⟩
      · exact Or.inr rfl
theorem rr_32 (s : Bool) {A : Nat} (hA : A < 2 ^ 64) : ∃ c q, Jvm.FP.Core.roundRatio Jvm.FP.Core.b32 s A 1 0 = .fin s c q ∧ c < 2 ^ 24 ∧ (-149) ≤ q ∧ q ≤ 104 ∧ (A ≠ 0 → c ≠ 0) := by
  unfold Jvm.FP.Core.roundRatio
  by_cases h0 : A = 0
  · rw [if_pos h0, qi_32]
    exact ⟨0, _, rfl, by decide, by decide, by decide, fun h => absurd h0 h⟩
  · rw [if_neg h0]
    have hlog : A.log2 < 64 := (Nat.log2_lt h0).mpr hA
    have hld : Jvm.FP.Core.leading A 1 ≤ (A.log2 : Int) := by
      unfold Jvm.FP.Core.leading
      simp only [show Nat.log2 1 = 0 from rfl]
      split <;> omega
    have hq : (-149) ≤ Jvm.FP.Core.quantum Jvm.FP.Core.b32 A 1 0 ∧ Jvm.FP.Core.quantum Jvm.FP.Core.b32 A 1 0 ≤ 64 ∧ (0 < Jvm.FP.Core.quantum Jvm.FP.Core.b32 A 1 0 → Jvm.FP.Core.quantum Jvm.FP.Core.b32 A 1 0 ≤ (A.log2 : Int)) := by
      unfold Jvm.FP.Core.quantum
      rw [qi_32, p_32]
      omega
    generalize Jvm.FP.Core.quantum Jvm.FP.Core.b32 A 1 0 = q at hq
    have hc : 1 ≤ Jvm.FP.Core.nearest (Jvm.FP.Core.unitsNum A 0 q) (Jvm.FP.Core.unitsDen 1 0 q) := by
      unfold Jvm.FP.Core.unitsDen Jvm.FP.Core.unitsNum
      refine nea_ge (by rw [Nat.one_mul]; exact Nat.pow_pos (by decide)) ?_
      rw [Nat.one_mul]
      by_cases hq0 : 0 < q
      · have e1 : (0 - q).toNat = 0 := by omega
        have e2 : (q - 0).toNat ≤ A.log2 := by have := hq.2.2 hq0; omega
        rw [e1, Nat.pow_zero, Nat.mul_one]
        exact Nat.le_trans (Nat.pow_le_pow_right (by decide) e2) (Nat.log2_self_le h0)
      · have e1 : (q - 0).toNat = 0 := by omega
        rw [e1, Nat.pow_zero]
        exact Nat.mul_pos (Nat.pos_of_ne_zero h0) (Nat.pow_pos (by decide))
    unfold Jvm.FP.Core.roundAt Jvm.FP.Core.settle
    split
    · rename_i h
      rw [p_32] at h
      unfold Jvm.FP.Core.bound
      rw [if_pos (by rw [qa_32]; omega)]
      exact ⟨_, _, rfl, h, by omega, by omega, fun _ => by omega⟩
    · unfold Jvm.FP.Core.bound
      rw [if_pos (by rw [qa_32]; omega), ta_32]
      exact ⟨_, _, rfl, by decide, by omega, by omega, fun _ => by decide⟩
theorem enc_32 {s : Bool} {c : Nat} {q : Int} (hc : c < 2 ^ 24) (h1 : (-149) ≤ q) (h2 : q ≤ 104) : ∃ e t, e < 256 - 1 ∧ t < 8388608 ∧ (c ≠ 0 → e = 0 → t ≠ 0) ∧ Jvm.FP.Core.encode Jvm.FP.Core.b32 (.fin s c q) = (s.toNat * 256 + e) * 8388608 + t := by
  unfold Jvm.FP.Core.encode Jvm.FP.Core.assemble
  rw [ta_32, ex_32, qi_32]
  dsimp only
  split
  · rename_i h
    exact ⟨0, c, by decide, h, fun h _ => h, rfl⟩
  · rename_i h
    exact ⟨(q - (-149)).toNat + 1, c - 8388608, by omega, by omega, fun _ h => by omega, rfl⟩
theorem dec_32 {n e t : Nat} {s : Bool} (he : e < 256 - 1) (ht : t < 8388608) (hn : n = (s.toNat * 256 + e) * 8388608 + t) : ∃ s' c q, Jvm.FP.Core.decode Jvm.FP.Core.b32 n = .fin s' c q ∧ ((e = 0 → t ≠ 0) → c ≠ 0) := by
  have hE : Jvm.FP.Core.fieldE Jvm.FP.Core.b32 n = e := by
    unfold Jvm.FP.Core.fieldE
    rw [ta_32, ex_32, hn]
    cases s <;> simp only [Bool.toNat_true, Bool.toNat_false] <;> omega
  have hT : Jvm.FP.Core.fieldT Jvm.FP.Core.b32 n = t := by
    unfold Jvm.FP.Core.fieldT
    rw [ta_32, hn]
    omega
  unfold Jvm.FP.Core.decode
  rw [hE, hT, ex_32, ta_32, if_neg (by omega)]
  split
  · rename_i h0
    exact ⟨_, _, _, rfl, fun h => h h0⟩
  · exact ⟨_, _, _, rfl, fun _ => by omega⟩
theorem nn_32 {n e t : Nat} {s : Bool} (he : e < 256) (ht : t < 8388608) (hx : e = 256 - 1 → t = 0) (hn : n = (s.toNat * 256 + e) * 8388608 + t) : vf_n32 (UInt32.ofNat n) := by
  unfold vf_n32
  have hlt : n < 2 ^ 32 := by cases s <;> simp only [Bool.toNat_true, Bool.toNat_false] at hn <;> omega
  rw [UInt32.le_iff_toNat_le, UInt32.toNat_and, UInt32.toNat_ofNat_of_lt' (by simpa using hlt)]
  rw [show (0x7fffffff : UInt32).toNat = 2 ^ (32 - 1) - 1 from rfl, Nat.and_two_pow_sub_one_eq_mod]
  show n % 2 ^ (32 - 1) ≤ 2139095040
  cases s <;> simp only [Bool.toNat_true, Bool.toNat_false] at hn <;> omega
theorem quo_32 {d1 d2 : Jvm.FP.Core.Datum} {s t : Bool} {c d : Nat} {q r : Int} (e1 : d1 = .fin s c q) (e2 : d2 = .fin t d r) (hd : d ≠ 0) : vf_n32 (UInt32.ofNat (Jvm.FP.Core.encode Jvm.FP.Core.b32 (Jvm.FP.Core.quotient Jvm.FP.Core.b32 d1 d2))) := by
  subst e1 e2
  unfold Jvm.FP.Core.quotient
  dsimp only
  rw [if_neg hd]
  rcases shp_32 (s != t) c d (q - r) with ⟨c', q', h, a1, a2, a3⟩ | h
  · rw [h]
    obtain ⟨e, u, b1, b2, -, b4⟩ := enc_32 (s := (s != t)) a1 a2 a3
    exact nn_32 (by omega) b2 (fun hh => by omega) b4
  · rw [h]
    refine nn_32 (e := 256 - 1) (t := 0) (s := (s != t)) (by decide) (by decide) (fun _ => rfl) ?_
    unfold Jvm.FP.Core.encode Jvm.FP.Core.assemble
    rw [ta_32, ex_32]
theorem l2_32 (a : Int64) : ∃ s c q, Jvm.FP.Core.decode Jvm.FP.Core.b32 (FP.l2f a).toNat = .fin s c q ∧ (¬ a = 0 → c ≠ 0) := by
  obtain ⟨c, q, e1, h1, h2, h3, h4⟩ := rr_32 (decide (a.toInt < 0)) (i64_abs a)
  obtain ⟨e, t, b1, b2, b3, b4⟩ := enc_32 (s := decide (a.toInt < 0)) h1 h2 h3
  have hn : (FP.l2f a).toNat = ((decide (a.toInt < 0)).toNat * 256 + e) * 8388608 + t := by
    show (UInt32.ofNat (Jvm.FP.Core.encode Jvm.FP.Core.b32 (Jvm.FP.Core.roundRatio Jvm.FP.Core.b32 (decide (a.toInt < 0)) a.toInt.natAbs 1 0))).toNat = _
    rw [e1, b4, UInt32.toNat_ofNat_of_lt' ?_]
    show _ < 2 ^ 32
    cases decide (a.toInt < 0) <;> simp only [Bool.toNat_true, Bool.toNat_false] <;> omega
  obtain ⟨s', c', q', g1, g2⟩ := dec_32 b1 b2 hn
  exact ⟨s', c', q', g1, fun ha => g2 (b3 (h4 (fun h => ha (Int64.toInt_inj.mp (by rw [Int.natAbs_eq_zero.mp h]; rfl)))))⟩
theorem vir_n {a b : Int64} (hb : ¬ b = 0) : vf_n64 (FP.ddiv (FP.l2d a) (FP.l2d b)) := by
  obtain ⟨s, c, q, e1, -⟩ := l2_64 a
  obtain ⟨t, d, r, e2, h2⟩ := l2_64 b
  exact quo_64 e1 e2 (h2 hb)
theorem d3_32 : Jvm.FP.Core.decode Jvm.FP.Core.b32 (1077936128 : UInt32).toNat = .fin false 12582912 (-22) := by decide +kernel
theorem mean_n {a : Int64} : vf_n32 (FP.fdiv (FP.l2f a) 1077936128) := by
  obtain ⟨s, c, q, e1, -⟩ := l2_32 a
  exact quo_32 e1 d3_32 (by decide)
