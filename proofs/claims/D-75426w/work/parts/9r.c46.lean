/-! ===== the class: refine, the tries of a round ===== -/
set_option maxRecDepth 100000
def bigE : Int64 := 4611686018427387904
theorem errF_R {t r pa : Nat → Int64} {kd N : Nat} (hr : rG r) (hpa : paR pa) (hN : N ≤ 300) (hN0 : 0 < N) : errF t r pa kd N = 4611686018427387904 ∨ erR (errF t r pa kd N) := by
  unfold errF
  split
  · exact Or.inr (errQ_R (pathQ_R hr hpa) hN hN0)
  · exact Or.inl rfl
theorem big_nlt {E : Int64} (h : erR E) : ¬ (4611686018427387904 : Int64) < E := by
  rw [Int64.lt_iff_toInt_lt]
  have h3 : (4611686018427387904 : Int64).toInt = 4611686018427387904 := rfl
  rw [h3]
  have := h.2
  omega
theorem mE_big {E : Int64} (hR : E = 4611686018427387904 ∨ erR E) (h : mErr E = -1) : E = 4611686018427387904 := by
  rcases hR with h1 | h1
  · exact h1
  · rw [mErr_R h1] at h
    exact absurd h (er_n1 h1)
theorem mE_er {E : Int64} (hR : E = 4611686018427387904 ∨ erR E) (h : ¬ mErr E = -1) : erR E := by
  rcases hR with h1 | h1
  · exact absurd (by rw [h1]; rfl) h
  · exact h1
theorem mE_64 {E : Int64} (h : erR E) : E = (mErr E).toInt64 := by rw [mErr_R h, er_64 h]
theorem mE_le {E sE : Int64} {e : Int32} (h : erR E) (he : sE = e.toInt64) : E < sE ↔ ¬ e ≤ mErr E := by
  rw [he, mErr_R h, Int64.lt_iff_toInt_lt, Int32.le_iff_toInt_le, Int32.toInt_toInt64, er_32 h]
  omega
section RND
variable {t r pa : Nat → Int64} {x : Int64} {kd N k : Nat} {sb : Option Nat} {sE : Int64} {e : Int32}
theorem rnd_o (hin : isInQ (chQ r k x) = false) (hE : erR sE) : rnd1 t r x kd N k (sb, sE, pa) = (sb, sE, pa) := by
  unfold rnd1 rndE rndP
  dsimp only
  rw [hin]
  rw [if_neg (c := (false = true)) (by decide), if_neg (c := (false = true)) (by decide), if_neg (big_nlt hE)]
theorem rnd_y (hin : isInQ (chQ r k x) = true) (h : errF t (chQ r k x) pa kd N < sE) : rnd1 t r x kd N k (sb, sE, pa) = (some k, errF t (chQ r k x) pa kd N, (pathQ t (chQ r k x) pa N).2.2) := by
  unfold rnd1 rndE rndP
  dsimp only
  rw [if_pos hin, if_pos hin, if_pos h]
theorem rnd_n (hin : isInQ (chQ r k x) = true) (h : ¬ errF t (chQ r k x) pa kd N < sE) : rnd1 t r x kd N k (sb, sE, pa) = (sb, sE, (pathQ t (chQ r k x) pa N).2.2) := by
  unfold rnd1 rndE rndP
  dsimp only
  rw [if_pos hin, if_pos hin, if_neg h]
end RND
theorem rndL_in {t r : Nat → Int64} {x : Int64} {kd N : Nat} (hN : N ≤ 300) (hN0 : 0 < N) (hrG : rG r) : ∀ {f k : Nat} {s : Option Nat × Int64 × (Nat → Int64)}, k + f ≤ 8 → erR s.2.1 → paR s.2.2 → (∀ q, s.1 = some q → isInQ (chQ r q x) = true) → ∀ q, (rndL t r x kd N f k s).1 = some q → isInQ (chQ r q x) = true := by
  intro f
  induction f with
  | zero => intro k s _ _ _ h; exact h
  | succ f ih =>
    intro k s hk hE hpa h
    obtain ⟨sb, sE, pa⟩ := s
    rw [rndL]
    cases hin : isInQ (chQ r k x) with
    | false =>
      rw [rnd_o hin hE]
      exact ih (by omega) hE hpa h
    | true =>
      have hr9 := rG_ch (by omega) hrG hin
      have hp9 := pathQ_R (t := t) (N := N) hr9 hpa
      by_cases hl : errF t (chQ r k x) pa kd N < sE
      · rw [rnd_y hin hl]
        refine ih (by omega) ?_ hp9 ?_
        · rcases errF_R (t := t) (kd := kd) hr9 hpa hN hN0 with h1 | h1
          · rw [h1] at hl
            exact absurd hl (big_nlt hE)
          · exact h1
        · intro q e9
          injection e9 with e9
          rw [← e9]; exact hin
      · rw [rnd_n hin hl]
        exact ih (by omega) hE hp9 h
theorem rndL_nn {t r : Nat → Int64} {x : Int64} {kd N : Nat} : ∀ {f k : Nat} {s : Option Nat × Int64 × (Nat → Int64)}, (rndL t r x kd N f k s).1 = none → s.1 = none ∧ (rndL t r x kd N f k s).2.1 = s.2.1 := by
  intro f
  induction f with
  | zero => intro k s h; exact ⟨h, rfl⟩
  | succ f ih =>
    intro k s h
    rw [rndL] at h ⊢
    obtain ⟨h1, h2⟩ := ih h
    unfold rnd1 at h1 h2 ⊢
    split at h1
    · cases h1
    · rename_i hc
      rw [if_neg hc] at h2 ⊢
      exact ⟨h1, h2⟩
theorem nI_div2 {x : Nat} (h : x ≤ 1000000) : nI x / 2 = nI (x / 2) := by
  apply Int32.toInt_inj.mp
  have h1 := nI_toInt (n := x) (by omega)
  have h2 := nI_toInt (n := x / 2) (by omega)
  have h3 : (2 : Int32).toInt = 2 := rfl
  rw [Int32.toInt_div, h1, h2, h3, Int.bmod_eq_of_le (by rw [Int.tdiv_eq_ediv_of_nonneg (by omega)]; omega) (by rw [Int.tdiv_eq_ediv_of_nonneg (by omega)]; omega), Int.tdiv_eq_ediv_of_nonneg (by omega)]
  omega
theorem lN_div2 {x : Nat} (h : x ≤ 1000000) : (nI x).toInt64 / 2 = (nI (x / 2)).toInt64 := by
  apply Int64.toInt_inj.mp
  have h1 := nI_toInt (n := x) (by omega)
  have h2 := nI_toInt (n := x / 2) (by omega)
  have h3 : (2 : Int64).toInt = 2 := rfl
  rw [Int64.toInt_div, Int32.toInt_toInt64, Int32.toInt_toInt64, h1, h2, h3, Int.bmod_eq_of_le (by rw [Int.tdiv_eq_ediv_of_nonneg (by omega)]; omega) (by rw [Int.tdiv_eq_ediv_of_nonneg (by omega)]; omega), Int.tdiv_eq_ediv_of_nonneg (by omega)]
  omega
theorem lN_le0 {x : Nat} (h : x ≤ 1000000) : (nI x).toInt64 ≤ 0 ↔ x = 0 := by
  have h1 := nI_toInt (n := x) (by omega)
  have h3 : (0 : Int64).toInt = 0 := rfl
  rw [Int64.le_iff_toInt_le, Int32.toInt_toInt64, h1, h3]
  omega
