/-! ===== plain: what a step keeps; rows of the same bodies ===== -/
set_option maxRecDepth 100000
theorem isIn_R {r : Nat → Int64} (h : isInQ r = true) : plR r ∧ moR r := by
  unfold isInQ at h
  simp only [Bool.and_eq_true] at h
  obtain ⟨⟨⟨⟨⟨⟨⟨⟨⟨⟨⟨h7, h9⟩, h8⟩, h10⟩, h12⟩, h14⟩, h13⟩, h15⟩, h17⟩, h19⟩, h18⟩, h20⟩ := h
  have a : ∀ x : Int64, m_in x (-100000) 100000 = true → -100000 ≤ x.toInt ∧ x.toInt ≤ 100000 := fun x h => in_iff.mp h
  have b : ∀ x : Int64, m_in x (-1000000000) 1000000000 = true → -1000000000 ≤ x.toInt ∧ x.toInt ≤ 1000000000 := fun x h => in_iff.mp h
  constructor
  · intro k hk
    rcases (show k = 0 ∨ k = 1 ∨ k = 2 by omega) with rfl | rfl | rfl
    · exact ⟨a _ h7, a _ h8⟩
    · exact ⟨a _ h12, a _ h13⟩
    · exact ⟨a _ h17, a _ h18⟩
  · intro k hk
    rcases (show k = 0 ∨ k = 1 ∨ k = 2 by omega) with rfl | rfl | rfl
    · exact ⟨b _ h9, b _ h10⟩
    · exact ⟨b _ h14, b _ h15⟩
    · exact ⟨b _ h19, b _ h20⟩
theorem partO_R {t r r' : Nat → Int64} {sc : Int64} {bk : Bool} {i : Nat} (h : plR r ∧ moR r) (e : partO t sc bk i r = some r') : plR r' ∧ moR r' := by
  unfold partO at e
  split at e
  · cases e; exact h
  · split at e
    · rename_i hi
      cases e
      exact isIn_R hi
    · cases e
/-- what a row of the bodies always keeps to -/
def rG (r : Nat → Int64) : Prop := plR r ∧ moR r ∧ mOK r ∧ ckR r ∧ scR r ∧ rowA r
theorem stepQ_R {t r r' : Nat → Int64} {bk : Bool} (h : plR r ∧ moR r) (e : stepQ t r bk = some r') : plR r' ∧ moR r' ∧ ckR r' := by
  unfold stepQ at e
  split at e
  · rename_i hc
    cases h1 : partO t (r 1) bk (if bk then 2 else 0) r with
    | none => rw [h1] at e; cases e
    | some r1 =>
      rw [h1] at e
      dsimp only at e
      cases h2 : partO t (r 1) bk 1 r1 with
      | none => rw [h2] at e; cases e
      | some r2 =>
        rw [h2] at e
        dsimp only at e
        cases h3 : partO t (r 1) bk (if bk then 0 else 2) r2 with
        | none => rw [h3] at e; cases e
        | some r3 =>
          rw [h3] at e
          dsimp only at e
          cases e
          obtain ⟨g1, g2⟩ := partO_R (partO_R (partO_R h h1) h2) h3
          refine ⟨fun k hk => ?_, fun k hk => ?_, ?_⟩
          · rw [up_ne (by omega), up_ne (by omega)]; exact g1 k hk
          · rw [up_ne (by omega), up_ne (by omega)]; exact g2 k hk
          · unfold ckR; rw [up_same]; exact in_iff.mp hc
  · cases e
theorem stepQ_rG {t r r' : Nat → Int64} {bk : Bool} (h : rG r) (e : stepQ t r bk = some r') : rG r' := by
  obtain ⟨h1, h2, h3, h4, h5, h6⟩ := h
  obtain ⟨g1, g2, g3⟩ := stepQ_R ⟨h1, h2⟩ e
  refine ⟨g1, g2, stepQ_mOK h3 e, g3, ?_, stepQ_rowA h6 e⟩
  unfold scR
  rw [stepQ_still (j := 1) (by unfold still; omega) e]
  exact h5
theorem rG_lo {r r' : Nat → Int64} (h : rG r) (e : loE r' r) (hA : rowA r') : rG r' := by
  obtain ⟨h1, h2, h3, h4, h5, h6⟩ := h
  refine ⟨fun k hk => ?_, fun k hk => ?_, ?_, ?_, ?_, hA⟩
  · rw [e.2 _ (by omega) (by omega), e.2 _ (by omega) (by omega)]; exact h1 k hk
  · rw [e.2 _ (by omega) (by omega), e.2 _ (by omega) (by omega)]; exact h2 k hk
  · exact mOK_eq (e.2 _ (by omega) (by omega)) (e.2 _ (by omega) (by omega)) (e.2 _ (by omega) (by omega)) h3
  · unfold ckR; rw [e.1.1]; exact h4
  · unfold scR; rw [e.1.2]; exact h5
section LOE
variable {t R r : Nat → Int64}
theorem seF_E (h : loE R r) (j : Nat) : seF t r j = seF t R j := by unfold seF; rw [h.1.2]
theorem maF_E (h : loE R r) (j : Nat) (hj : j < 3) : maF r j = maF R j := by unfold maF; rw [h.2 _ (by omega) (by omega)]
theorem plX_E (h : loE R r) (j : Nat) (hj : j < 3) : plX r j = plX R j := by unfold plX; rw [h.2 _ (by omega) (by omega)]
theorem plY_E (h : loE R r) (j : Nat) (hj : j < 3) : plY r j = plY R j := by unfold plY; rw [h.2 _ (by omega) (by omega)]
theorem moX_E (h : loE R r) (j : Nat) (hj : j < 3) : moX r j = moX R j := by unfold moX; rw [h.2 _ (by omega) (by omega)]
theorem moY_E (h : loE R r) (j : Nat) (hj : j < 3) : moY r j = moY R j := by unfold moY; rw [h.2 _ (by omega) (by omega)]
theorem ck_E (h : loE R r) : (Value.int (r 0).toInt32) = .int (R 0).toInt32 := by rw [h.1.1]
theorem reach_E {p : Nat} (h : loE R r) : reachQ t R p = reachQ t r p := by unfold reachQ; rw [dist_lo h]
theorem en_E (h : loE R r) : enQ t R = enQ t r := by
  unfold enQ kinQ potQ
  rw [reach_E h, reach_E h, reach_E h, h.2 6 (by omega) (by omega), h.2 9 (by omega) (by omega), h.2 10 (by omega) (by omega), h.2 11 (by omega) (by omega), h.2 14 (by omega) (by omega), h.2 15 (by omega) (by omega), h.2 16 (by omega) (by omega), h.2 19 (by omega) (by omega), h.2 20 (by omega) (by omega)]
theorem band_E (h : loE R r) : bandQ t R = bandQ t r := by unfold bandQ; rw [en_E h]
theorem diF_E (h : loE R r) : diF r = diF R := by funext p; unfold diF; rw [dist_lo h]
end LOE
theorem rn_j0 {C : xC} {I : xV → Prop} {k n pc v : Nat} {x y : Int64} {l : List (Nat × Value)} {st : List Value} (e : x = y) (h : rn C I k n pc ((v, .long y) :: l) st) : rn C I k n pc ((v, .long x) :: l) st := by
  rw [e]; exact h
theorem loE_see {t r r1 : Nat → Int64} : loE (seeQ t r r1) r1 := ⟨⟨see_at (by omega), see_at (by omega)⟩, fun x h1 h2 => see_at (by omega)⟩
theorem loE_lookQ {t mm rr r : Nat → Int64} {m : Nat} (h : loE rr r) : loE (lookQ t mm rr m) r := ⟨⟨(lookQ_lo (by omega) (by omega)).trans h.1.1, (lookQ_lo (by omega) (by omega)).trans h.1.2⟩, fun x h1 h2 => (lookQ_lo h2 (by omega)).trans (h.2 x h1 h2)⟩
/-- what is remembered, one step on -/
theorem meR_rem {mm R r : Nat → Int64} {m : Nat} {ol la : Nat → Int32} (hm : m ≤ 2) (h : meR mm m ol la) (hE : loE R r) : meR (remQ mm R m) (remN m) la (diF r) := by
  have hd : ∀ j, (diF r j).toInt64 = lN (distQ R j) := fun j => by unfold diF; rw [dist_lo hE]; exact lN_dist
  rcases (show m = 0 ∨ m = 1 ∨ m = 2 by omega) with rfl | rfl | rfl
  · refine ⟨fun _ j hj => ?_, fun e => absurd e (by decide)⟩
    rw [hd]
    rcases (show j = 0 ∨ j = 1 ∨ j = 2 by omega) with rfl | rfl | rfl <;> rfl
  · refine ⟨fun e => absurd e (by decide), fun _ j hj => ?_⟩
    rw [hd, h.1 rfl j hj]
    rcases (show j = 0 ∨ j = 1 ∨ j = 2 by omega) with rfl | rfl | rfl <;> exact ⟨rfl, rfl⟩
  · refine ⟨fun e => absurd e (by decide), fun _ j hj => ?_⟩
    rw [hd, (h.2 rfl j hj).2]
    rcases (show j = 0 ∨ j = 1 ∨ j = 2 by omega) with rfl | rfl | rfl <;> exact ⟨rfl, rfl⟩
theorem remN_le {m : Nat} : remN m ≤ 2 := by unfold remN; split <;> omega
/-- lowest, highest, crossings behind a step -/
theorem lo_see {t mm r r1 : Nat → Int64} {m : Nat} (hs : stepQ t r false = some r1) : x_minL (r 4) (enQ t r1) = (lookQ t mm (seeQ t r r1) m) 4 := by
  rw [lookQ_lo (by omega) (by omega)]
  unfold seeQ
  rw [up_ne (by omega), up_same, ← stepQ_still (j := 4) (by unfold still; omega) hs]
  unfold x_minL
  by_cases h : r1 4 ≤ enQ t r1
  · rw [if_pos h, if_neg (Int64.not_lt.mpr h)]
  · rw [if_neg h, if_pos (Int64.not_le.mp h)]
theorem hi_see {t mm r r1 : Nat → Int64} {m : Nat} (hs : stepQ t r false = some r1) : x_maxL (r 3) (enQ t r1) = (lookQ t mm (seeQ t r r1) m) 3 := by
  rw [lookQ_lo (by omega) (by omega)]
  unfold seeQ
  rw [up_ne (by omega), up_ne (by omega), up_same, ← stepQ_still (j := 3) (by unfold still; omega) hs]
  unfold x_maxL
  by_cases h : enQ t r1 ≤ r1 3
  · rw [if_pos h, if_neg (Int64.not_lt.mpr h)]
  · rw [if_neg h, if_pos (Int64.not_le.mp h)]
theorem see_2 {t mm r r1 : Nat → Int64} {m : Nat} (hs : stepQ t r false = some r1) : (lookQ t mm (seeQ t r r1) m) 2 = r 2 + (if bandQ t r1 = bandQ t r then 0 else 1) := by
  rw [lookQ_lo (by omega) (by omega)]
  unfold seeQ
  rw [up_same, stepQ_still (j := 2) (by unfold still; omega) hs, band_E (r := r1) ⟨⟨?_, ?_⟩, fun x h1 h2 => ?_⟩]
  · rw [up_ne (by omega), up_ne (by omega)]
  · rw [up_ne (by omega), up_ne (by omega)]
  · rw [up_ne (by omega), up_ne (by omega)]
theorem cr_0 {t mm r r1 : Nat → Int64} {m : Nat} (hs : stepQ t r false = some r1) (h : bandQ t r1 = bandQ t r) : (r 2).toInt32 + 0 = ((lookQ t mm (seeQ t r r1) m) 2).toInt32 := by
  rw [see_2 hs, if_pos h, Int64.toInt32_add]; rfl
theorem cr_1 {t mm r r1 : Nat → Int64} {m : Nat} (hs : stepQ t r false = some r1) (h : ¬ bandQ t r1 = bandQ t r) : (r 2).toInt32 + 1 = ((lookQ t mm (seeQ t r r1) m) 2).toInt32 := by
  rw [see_2 hs, if_neg h, Int64.toInt32_add]; rfl
