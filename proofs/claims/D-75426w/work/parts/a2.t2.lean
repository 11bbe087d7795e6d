/-! ===== plain: what a rotation does ===== -/
set_option maxRecDepth 100000
/-- r, the right child of p, comes up -/
def rotF (T : Nat → Prop) (pa lf rt : Nat → Option Nat) (rd : Nat → Int32) (root p r : Nat) (pa' lf' rt' : Nat → Option Nat) (rd' : Nat → Int32) (root' : Nat) : Prop :=
  rt' p = lf r ∧ lf' r = some p ∧ pa' p = some r ∧ pa' r = pa p ∧ (∀ b, lf r = some b → pa' b = some p) ∧ (∀ b, T b → b ≠ p → b ≠ r → lf r ≠ some b → pa' b = pa b) ∧ lf' p = lf p ∧ rt' r = rt r ∧
  (∀ a, T a → a ≠ p → a ≠ r → (lf a ≠ some p → lf' a = lf a) ∧ (rt a ≠ some p → rt' a = rt a) ∧ (lf a = some p → lf' a = some r) ∧ (rt a = some p → rt' a = some r)) ∧ ((pa p = none ∧ root' = r) ∨ (pa p ≠ none ∧ root' = root)) ∧
  (∀ b, b ≠ r → rd' b = rd b) ∧ (rd' r = rd r ∨ rd' r = 0) ∧ (∀ a, ¬ T a → pa' a = pa a ∧ lf' a = lf a ∧ rt' a = rt a ∧ rd' a = rd a)
section ROT
variable {K : Nat → Int} {T : Nat → Prop} {pa lf rt : Nat → Option Nat} {rd : Nat → Int32} {root : Nat} {lo hi : Nat → Int}
theorem rotF.tree {p r : Nat} {pa' lf' rt' : Nat → Option Nat} {rd' : Nat → Int32} {root' : Nat} (f : rotF T pa lf rt rd root p r pa' lf' rt' rd' root') (h : tIv K T pa lf rt root lo hi) (hp : T p) (hr : rt p = some r) : tI K T pa' lf' rt' root' := by
  obtain ⟨f1, f2, f3, f4, f5, f6, f7, f8, f9, f10, -⟩ := f
  exact tI_rotL h hp hr f1 f2 f3 f4 f5 f6 f7 f8 f9 f10
theorem rotF.treem {p r : Nat} {pa' lf' rt' : Nat → Option Nat} {rd' : Nat → Int32} {root' : Nat} (f : rotF T pa rt lf rd root p r pa' rt' lf' rd' root') (h : tIv K T pa lf rt root lo hi) (hp : T p) (hr : lf p = some r) : tI K T pa' lf' rt' root' := by
  obtain ⟨f1, f2, f3, f4, f5, f6, f7, f8, f9, f10, -⟩ := f
  exact tI_rotR h hp hr f1 f2 f3 f4 f5 f6 f7 f8 (fun a ta n1 n2 => by
    obtain ⟨g1, g2, g3, g4⟩ := f9 a ta n1 n2
    exact ⟨g2, g1, g4, g3⟩) f10
/-- the nodes about p and its right child are apart -/
theorem tIv.ap (h : tIv K T pa lf rt root lo hi) {p r : Nat} (hp : T p) (hr : rt p = some r) : T r ∧ p ≠ r ∧ r ≠ p ∧ (∀ b, lf r = some b → T b ∧ b ≠ p ∧ b ≠ r ∧ p ≠ b ∧ r ≠ b ∧ pa b = some r) ∧ (∀ q, pa p = some q → T q ∧ q ≠ p ∧ q ≠ r ∧ p ≠ q ∧ r ≠ q ∧ (∀ b, lf r = some b → q ≠ b ∧ b ≠ q) ∧ ((lf q = some p ∧ rt q ≠ some p) ∨ (rt q = some p ∧ lf q ≠ some p))) := by
  have h0 := h
  obtain ⟨-, hb, -, hL, hR, -⟩ := h0
  obtain ⟨r1, r2, kr⟩ := h.rtK hp hr
  refine ⟨r1, K_ne kr, (K_ne kr).symm, fun b e => ?_, fun q e => ?_⟩
  · obtain ⟨b1, b2, b3, b4⟩ := hL r b r1 e
    have kb := hb b b1
    have := (hR p r hp hr).2.2.1
    have k1 : K b < K r := by omega
    have k2 : K p < K b := by omega
    exact ⟨b1, (K_ne k2).symm, K_ne k1, K_ne k2, (K_ne k1).symm, b2⟩
  · obtain ⟨q1, q2⟩ := h.up hp e
    have kp := hb p hp
    have kr9 := hb r r1
    have hr3 := (hR p r hp hr).2.2
    have side : (K q ≤ lo p) ∨ (hi p ≤ K q) := by
      rcases q2 with q2 | q2
      · have := (hL q p q1 q2).2.2.2; right; omega
      · have := (hR q p q1 q2).2.2.1; left; omega
    have out : ∀ x, lo p < K x → K x < hi p → q ≠ x := fun x h1 h2 z => by rw [z] at side; omega
    have n1 := out p kp.1 kp.2
    have n2 := out r (by omega) (by omega)
    refine ⟨q1, n1, n2, n1.symm, n2.symm, fun b e9 => ?_, ?_⟩
    · obtain ⟨b1, b2, b3, b4⟩ := hL r b r1 e9
      have kb := hb b b1
      have n3 := out b (by omega) (by omega)
      exact ⟨n3, n3.symm⟩
    · rcases q2 with q2 | q2
      · refine Or.inl ⟨q2, fun z => ?_⟩
        have g1 := (hL q p q1 q2).2.2.2
        have g2 := (hR q p q1 z).2.2.1
        omega
      · refine Or.inr ⟨q2, fun z => ?_⟩
        have g1 := (hR q p q1 q2).2.2.1
        have g2 := (hL q p q1 z).2.2.2
        omega
theorem tIv.kid (h : tIv K T pa lf rt root lo hi) {p a : Nat} (ta : T a) (e : lf a = some p ∨ rt a = some p) : pa p = some a := by
  obtain ⟨-, -, -, hL, hR, -⟩ := h
  rcases e with e | e
  · exact (hL a p ta e).2.1
  · exact (hR a p ta e).2.1
theorem rot_on (h : tIv K T pa lf rt root lo hi) {p r : Nat} (hp : T p) (hr : rt p = some r) (hl : lf r = none) (hq : pa p = none) : rotF T pa lf rt rd root p r (va_up (va_up pa r none) p (some r)) (va_up lf r (some p)) (va_up rt p none) (va_up rd r 0) r := by
  obtain ⟨tr, npr, nrp, hB9, hQ9⟩ := h.ap hp hr
  refine ⟨by simp [va_up, npr, nrp, hl], by simp [va_up, npr, nrp], by simp [va_up, npr, nrp], by simp [va_up, npr, nrp, hq], (fun b9 e => by rw [hl] at e; cases e), (fun b9 tb9 n1 n2 n3 => by simp [va_up, npr, nrp, n1, n2]), by simp [va_up, npr, nrp], by simp [va_up, npr, nrp], (fun a ta n1 n2 => ⟨fun z => by simp [va_up, npr, nrp, n1, n2], fun z => by simp [va_up, npr, nrp, n1, n2], fun z => absurd ((h.kid ta (Or.inl z)).symm.trans hq) (fun e => by cases e), fun z => absurd ((h.kid ta (Or.inr z)).symm.trans hq) (fun e => by cases e)⟩), (Or.inl ⟨hq, rfl⟩), fun b9 n1 => by simp [va_up, n1], Or.inr (by simp [va_up]), fun a na => ?_⟩
  have ap9 : a ≠ p := fun z => na (by rw [z]; exact hp)
  have ar9 : a ≠ r := fun z => na (by rw [z]; exact tr)
  refine ⟨by simp [va_up, npr, nrp, ap9, ar9], by simp [va_up, npr, nrp, ap9, ar9], by simp [va_up, npr, nrp, ap9, ar9], by simp [va_up, ar9]⟩
theorem rot_ol (h : tIv K T pa lf rt root lo hi) {p r q : Nat} (hp : T p) (hr : rt p = some r) (hl : lf r = none) (hq : pa p = some q) (hc : lf q = some p) : rotF T pa lf rt rd root p r (va_up (va_up pa r (some q)) p (some r)) (va_up (va_up lf q (some r)) r (some p)) (va_up rt p none) rd root := by
  obtain ⟨tr, npr, nrp, hB9, hQ9⟩ := h.ap hp hr
  obtain ⟨tq, nqp, nqr, npq, nrq, hQb, hside⟩ := hQ9 q hq
  refine ⟨by simp [va_up, npr, nrp, nqp, nqr, npq, nrq, hl], by simp [va_up, npr, nrp, nqp, nqr, npq, nrq], by simp [va_up, npr, nrp, nqp, nqr, npq, nrq], by simp [va_up, npr, nrp, nqp, nqr, npq, nrq, hq], (fun b9 e => by rw [hl] at e; cases e), (fun b9 tb9 n1 n2 n3 => by simp [va_up, npr, nrp, nqp, nqr, npq, nrq, n1, n2]), by simp [va_up, npr, nrp, nqp, nqr, npq, nrq], by simp [va_up, npr, nrp, nqp, nqr, npq, nrq], (fun a ta n1 n2 => ⟨fun z => by
      have n3 : a ≠ q := fun e => z (by rw [e]; exact hc)
      simp [va_up, npr, nrp, nqp, nqr, npq, nrq, n1, n2, n3], fun z => by simp [va_up, npr, nrp, nqp, nqr, npq, nrq, n1, n2], fun z => by
      obtain rfl : a = q := Option.some.inj ((h.kid ta (Or.inl z)).symm.trans hq)
      simp [va_up, npr, nrp, nqp, nqr, npq, nrq, n1, n2], fun z => by
      obtain rfl : a = q := Option.some.inj ((h.kid ta (Or.inr z)).symm.trans hq)
      rcases hside with ⟨-, g⟩ | ⟨-, g⟩
      · exact absurd z g
      · exact absurd hc g⟩), (Or.inr ⟨(by rw [hq]; exact fun e => by cases e), rfl⟩), fun b9 n1 => by rfl, Or.inl rfl, fun a na => ?_⟩
  have ap9 : a ≠ p := fun z => na (by rw [z]; exact hp)
  have ar9 : a ≠ r := fun z => na (by rw [z]; exact tr)
  have aq9 : a ≠ q := fun z => na (by rw [z]; exact tq)
  refine ⟨by simp [va_up, npr, nrp, nqp, nqr, npq, nrq, ap9, ar9, aq9], by simp [va_up, npr, nrp, nqp, nqr, npq, nrq, ap9, ar9, aq9], by simp [va_up, npr, nrp, nqp, nqr, npq, nrq, ap9, ar9, aq9], by rfl⟩
theorem rot_or (h : tIv K T pa lf rt root lo hi) {p r q : Nat} (hp : T p) (hr : rt p = some r) (hl : lf r = none) (hq : pa p = some q) (hc : rt q = some p) : rotF T pa lf rt rd root p r (va_up (va_up pa r (some q)) p (some r)) (va_up lf r (some p)) (va_up (va_up rt p none) q (some r)) rd root := by
  obtain ⟨tr, npr, nrp, hB9, hQ9⟩ := h.ap hp hr
  obtain ⟨tq, nqp, nqr, npq, nrq, hQb, hside⟩ := hQ9 q hq
  refine ⟨by simp [va_up, npr, nrp, nqp, nqr, npq, nrq, hl], by simp [va_up, npr, nrp, nqp, nqr, npq, nrq], by simp [va_up, npr, nrp, nqp, nqr, npq, nrq], by simp [va_up, npr, nrp, nqp, nqr, npq, nrq, hq], (fun b9 e => by rw [hl] at e; cases e), (fun b9 tb9 n1 n2 n3 => by simp [va_up, npr, nrp, nqp, nqr, npq, nrq, n1, n2]), by simp [va_up, npr, nrp, nqp, nqr, npq, nrq], by simp [va_up, npr, nrp, nqp, nqr, npq, nrq], (fun a ta n1 n2 => ⟨fun z => by simp [va_up, npr, nrp, nqp, nqr, npq, nrq, n1, n2], fun z => by
      have n3 : a ≠ q := fun e => z (by rw [e]; exact hc)
      simp [va_up, npr, nrp, nqp, nqr, npq, nrq, n1, n2, n3], fun z => by
      obtain rfl : a = q := Option.some.inj ((h.kid ta (Or.inl z)).symm.trans hq)
      rcases hside with ⟨-, g⟩ | ⟨-, g⟩
      · exact absurd hc g
      · exact absurd z g, fun z => by
      obtain rfl : a = q := Option.some.inj ((h.kid ta (Or.inr z)).symm.trans hq)
      simp [va_up, npr, nrp, nqp, nqr, npq, nrq, n1, n2]⟩), (Or.inr ⟨(by rw [hq]; exact fun e => by cases e), rfl⟩), fun b9 n1 => by rfl, Or.inl rfl, fun a na => ?_⟩
  have ap9 : a ≠ p := fun z => na (by rw [z]; exact hp)
  have ar9 : a ≠ r := fun z => na (by rw [z]; exact tr)
  have aq9 : a ≠ q := fun z => na (by rw [z]; exact tq)
  refine ⟨by simp [va_up, npr, nrp, nqp, nqr, npq, nrq, ap9, ar9, aq9], by simp [va_up, npr, nrp, nqp, nqr, npq, nrq, ap9, ar9, aq9], by simp [va_up, npr, nrp, nqp, nqr, npq, nrq, ap9, ar9, aq9], by rfl⟩
theorem rot_bn (h : tIv K T pa lf rt root lo hi) {p r b : Nat} (hp : T p) (hr : rt p = some r) (hl : lf r = some b) (hq : pa p = none) : rotF T pa lf rt rd root p r (va_up (va_up (va_up pa b (some p)) r none) p (some r)) (va_up lf r (some p)) (va_up rt p (some b)) (va_up rd r 0) r := by
  obtain ⟨tr, npr, nrp, hB9, hQ9⟩ := h.ap hp hr
  obtain ⟨tb, nbp, nbr, npb, nrb, hpb⟩ := hB9 b hl
  refine ⟨by simp [va_up, npr, nrp, nbp, nbr, npb, nrb, hl], by simp [va_up, npr, nrp, nbp, nbr, npb, nrb], by simp [va_up, npr, nrp, nbp, nbr, npb, nrb], by simp [va_up, npr, nrp, nbp, nbr, npb, nrb, hq], (fun b9 e => by cases hl.symm.trans e; simp [va_up, npr, nrp, nbp, nbr, npb, nrb]), (fun b9 tb9 n1 n2 n3 => by
      have n4 : b9 ≠ b := fun z => n3 (by rw [z]; exact hl)
      simp [va_up, npr, nrp, nbp, nbr, npb, nrb, n1, n2, n4]), by simp [va_up, npr, nrp, nbp, nbr, npb, nrb], by simp [va_up, npr, nrp, nbp, nbr, npb, nrb], (fun a ta n1 n2 => ⟨fun z => by simp [va_up, npr, nrp, nbp, nbr, npb, nrb, n1, n2], fun z => by simp [va_up, npr, nrp, nbp, nbr, npb, nrb, n1, n2], fun z => absurd ((h.kid ta (Or.inl z)).symm.trans hq) (fun e => by cases e), fun z => absurd ((h.kid ta (Or.inr z)).symm.trans hq) (fun e => by cases e)⟩), (Or.inl ⟨hq, rfl⟩), fun b9 n1 => by simp [va_up, n1], Or.inr (by simp [va_up]), fun a na => ?_⟩
  have ap9 : a ≠ p := fun z => na (by rw [z]; exact hp)
  have ar9 : a ≠ r := fun z => na (by rw [z]; exact tr)
  have ab9 : a ≠ b := fun z => na (by rw [z]; exact tb)
  refine ⟨by simp [va_up, npr, nrp, nbp, nbr, npb, nrb, ap9, ar9, ab9], by simp [va_up, npr, nrp, nbp, nbr, npb, nrb, ap9, ar9, ab9], by simp [va_up, npr, nrp, nbp, nbr, npb, nrb, ap9, ar9, ab9], by simp [va_up, ar9]⟩
theorem rot_bl (h : tIv K T pa lf rt root lo hi) {p r b q : Nat} (hp : T p) (hr : rt p = some r) (hl : lf r = some b) (hq : pa p = some q) (hc : lf q = some p) : rotF T pa lf rt rd root p r (va_up (va_up (va_up pa b (some p)) r (some q)) p (some r)) (va_up (va_up lf q (some r)) r (some p)) (va_up rt p (some b)) rd root := by
  obtain ⟨tr, npr, nrp, hB9, hQ9⟩ := h.ap hp hr
  obtain ⟨tb, nbp, nbr, npb, nrb, hpb⟩ := hB9 b hl
  obtain ⟨tq, nqp, nqr, npq, nrq, hQb, hside⟩ := hQ9 q hq
  obtain ⟨nqb, nbq⟩ := hQb b hl
  refine ⟨by simp [va_up, npr, nrp, nbp, nbr, npb, nrb, nqp, nqr, npq, nrq, nqb, nbq, hl], by simp [va_up, npr, nrp, nbp, nbr, npb, nrb, nqp, nqr, npq, nrq, nqb, nbq], by simp [va_up, npr, nrp, nbp, nbr, npb, nrb, nqp, nqr, npq, nrq, nqb, nbq], by simp [va_up, npr, nrp, nbp, nbr, npb, nrb, nqp, nqr, npq, nrq, nqb, nbq, hq], (fun b9 e => by cases hl.symm.trans e; simp [va_up, npr, nrp, nbp, nbr, npb, nrb, nqp, nqr, npq, nrq, nqb, nbq]), (fun b9 tb9 n1 n2 n3 => by
      have n4 : b9 ≠ b := fun z => n3 (by rw [z]; exact hl)
      simp [va_up, npr, nrp, nbp, nbr, npb, nrb, nqp, nqr, npq, nrq, nqb, nbq, n1, n2, n4]), by simp [va_up, npr, nrp, nbp, nbr, npb, nrb, nqp, nqr, npq, nrq, nqb, nbq], by simp [va_up, npr, nrp, nbp, nbr, npb, nrb, nqp, nqr, npq, nrq, nqb, nbq], (fun a ta n1 n2 => ⟨fun z => by
      have n3 : a ≠ q := fun e => z (by rw [e]; exact hc)
      simp [va_up, npr, nrp, nbp, nbr, npb, nrb, nqp, nqr, npq, nrq, nqb, nbq, n1, n2, n3], fun z => by simp [va_up, npr, nrp, nbp, nbr, npb, nrb, nqp, nqr, npq, nrq, nqb, nbq, n1, n2], fun z => by
      obtain rfl : a = q := Option.some.inj ((h.kid ta (Or.inl z)).symm.trans hq)
      simp [va_up, npr, nrp, nbp, nbr, npb, nrb, nqp, nqr, npq, nrq, nqb, nbq, n1, n2], fun z => by
      obtain rfl : a = q := Option.some.inj ((h.kid ta (Or.inr z)).symm.trans hq)
      rcases hside with ⟨-, g⟩ | ⟨-, g⟩
      · exact absurd z g
      · exact absurd hc g⟩), (Or.inr ⟨(by rw [hq]; exact fun e => by cases e), rfl⟩), fun b9 n1 => by rfl, Or.inl rfl, fun a na => ?_⟩
  have ap9 : a ≠ p := fun z => na (by rw [z]; exact hp)
  have ar9 : a ≠ r := fun z => na (by rw [z]; exact tr)
  have ab9 : a ≠ b := fun z => na (by rw [z]; exact tb)
  have aq9 : a ≠ q := fun z => na (by rw [z]; exact tq)
  refine ⟨by simp [va_up, npr, nrp, nbp, nbr, npb, nrb, nqp, nqr, npq, nrq, nqb, nbq, ap9, ar9, ab9, aq9], by simp [va_up, npr, nrp, nbp, nbr, npb, nrb, nqp, nqr, npq, nrq, nqb, nbq, ap9, ar9, ab9, aq9], by simp [va_up, npr, nrp, nbp, nbr, npb, nrb, nqp, nqr, npq, nrq, nqb, nbq, ap9, ar9, ab9, aq9], by rfl⟩
theorem rot_br (h : tIv K T pa lf rt root lo hi) {p r b q : Nat} (hp : T p) (hr : rt p = some r) (hl : lf r = some b) (hq : pa p = some q) (hc : rt q = some p) : rotF T pa lf rt rd root p r (va_up (va_up (va_up pa b (some p)) r (some q)) p (some r)) (va_up lf r (some p)) (va_up (va_up rt p (some b)) q (some r)) rd root := by
  obtain ⟨tr, npr, nrp, hB9, hQ9⟩ := h.ap hp hr
  obtain ⟨tb, nbp, nbr, npb, nrb, hpb⟩ := hB9 b hl
  obtain ⟨tq, nqp, nqr, npq, nrq, hQb, hside⟩ := hQ9 q hq
  obtain ⟨nqb, nbq⟩ := hQb b hl
  refine ⟨by simp [va_up, npr, nrp, nbp, nbr, npb, nrb, nqp, nqr, npq, nrq, nqb, nbq, hl], by simp [va_up, npr, nrp, nbp, nbr, npb, nrb, nqp, nqr, npq, nrq, nqb, nbq], by simp [va_up, npr, nrp, nbp, nbr, npb, nrb, nqp, nqr, npq, nrq, nqb, nbq], by simp [va_up, npr, nrp, nbp, nbr, npb, nrb, nqp, nqr, npq, nrq, nqb, nbq, hq], (fun b9 e => by cases hl.symm.trans e; simp [va_up, npr, nrp, nbp, nbr, npb, nrb, nqp, nqr, npq, nrq, nqb, nbq]), (fun b9 tb9 n1 n2 n3 => by
      have n4 : b9 ≠ b := fun z => n3 (by rw [z]; exact hl)
      simp [va_up, npr, nrp, nbp, nbr, npb, nrb, nqp, nqr, npq, nrq, nqb, nbq, n1, n2, n4]), by simp [va_up, npr, nrp, nbp, nbr, npb, nrb, nqp, nqr, npq, nrq, nqb, nbq], by simp [va_up, npr, nrp, nbp, nbr, npb, nrb, nqp, nqr, npq, nrq, nqb, nbq], (fun a ta n1 n2 => ⟨fun z => by simp [va_up, npr, nrp, nbp, nbr, npb, nrb, nqp, nqr, npq, nrq, nqb, nbq, n1, n2], fun z => by
      have n3 : a ≠ q := fun e => z (by rw [e]; exact hc)
      simp [va_up, npr, nrp, nbp, nbr, npb, nrb, nqp, nqr, npq, nrq, nqb, nbq, n1, n2, n3], fun z => by
      obtain rfl : a = q := Option.some.inj ((h.kid ta (Or.inl z)).symm.trans hq)
      rcases hside with ⟨-, g⟩ | ⟨-, g⟩
      · exact absurd hc g
      · exact absurd z g, fun z => by
      obtain rfl : a = q := Option.some.inj ((h.kid ta (Or.inr z)).symm.trans hq)
      simp [va_up, npr, nrp, nbp, nbr, npb, nrb, nqp, nqr, npq, nrq, nqb, nbq, n1, n2]⟩), (Or.inr ⟨(by rw [hq]; exact fun e => by cases e), rfl⟩), fun b9 n1 => by rfl, Or.inl rfl, fun a na => ?_⟩
  have ap9 : a ≠ p := fun z => na (by rw [z]; exact hp)
  have ar9 : a ≠ r := fun z => na (by rw [z]; exact tr)
  have ab9 : a ≠ b := fun z => na (by rw [z]; exact tb)
  have aq9 : a ≠ q := fun z => na (by rw [z]; exact tq)
  refine ⟨by simp [va_up, npr, nrp, nbp, nbr, npb, nrb, nqp, nqr, npq, nrq, nqb, nbq, ap9, ar9, ab9, aq9], by simp [va_up, npr, nrp, nbp, nbr, npb, nrb, nqp, nqr, npq, nrq, nqb, nbq, ap9, ar9, ab9, aq9], by simp [va_up, npr, nrp, nbp, nbr, npb, nrb, nqp, nqr, npq, nrq, nqb, nbq, ap9, ar9, ab9, aq9], by rfl⟩
theorem tIv.side (h : tIv K T pa lf rt root lo hi) {p q : Nat} (hp : T p) (e : pa p = some q) : T q ∧ q ≠ p ∧ p ≠ q ∧ ((lf q = some p ∧ rt q ≠ some p) ∨ (rt q = some p ∧ lf q ≠ some p)) := by
  have h0 := h
  obtain ⟨-, hb, -, hL, hR, -⟩ := h0
  obtain ⟨q1, q2⟩ := h.up hp e
  have kp := hb p hp
  have kq := hb q q1
  rcases q2 with q2 | q2
  · have g1 := (hL q p q1 q2).2.2
    have n : p ≠ q := K_ne (K := K) (by omega)
    exact ⟨q1, n.symm, n, Or.inl ⟨q2, fun z => by have := (hR q p q1 z).2.2; omega⟩⟩
  · have g1 := (hR q p q1 q2).2.2
    have n : q ≠ p := K_ne (K := K) (by omega)
    exact ⟨q1, n, n.symm, Or.inr ⟨q2, fun z => by have := (hL q p q1 z).2.2; omega⟩⟩
/-- what hangs under a child is narrower -/
theorem tIv.wide (h : tIv K T pa lf rt root lo hi) {p q : Nat} (hp : T p) (e : pa p = some q) : hi p - lo p < hi q - lo q ∧ lo q ≤ lo p ∧ hi p ≤ hi q := by
  have h0 := h
  obtain ⟨-, hb, -, hL, hR, -⟩ := h0
  obtain ⟨q1, q2⟩ := h.up hp e
  have kp := hb p hp
  have kq := hb q q1
  rcases q2 with q2 | q2
  · have := hL q p q1 q2; omega
  · have := hR q p q1 q2; omega
theorem tIv.meas (h : tIv K T pa lf rt root lo hi) {x p q : Nat} (hx : T x) (e : pa x = some p) (hp : T p) (e2 : pa p = some q) : (8589934592 - (hi q - lo q)).toNat < (8589934592 - (hi x - lo x)).toNat ∧ q ≠ x ∧ x ≠ q := by
  have w1 := h.wide hx e
  have w2 := h.wide hp e2
  have tq := (h.side hp e2).1
  have hB := h.2.2.1 q tq
  refine ⟨by omega, fun z => ?_, fun z => ?_⟩
  · subst z; omega
  · subst z; omega
/-- nothing changes outside T -/
def oF (T : Nat → Prop) (pa lf rt : Nat → Option Nat) (rd : Nat → Int32) (pa' lf' rt' : Nat → Option Nat) (rd' : Nat → Int32) : Prop := ∀ a, ¬ T a → pa' a = pa a ∧ lf' a = lf a ∧ rt' a = rt a ∧ rd' a = rd a
theorem oF.refl : oF T pa lf rt rd pa lf rt rd := fun _ _ => ⟨rfl, rfl, rfl, rfl⟩
theorem oF.trans {pa1 lf1 rt1 pa2 lf2 rt2 : Nat → Option Nat} {rd1 rd2 : Nat → Int32} (h : oF T pa lf rt rd pa1 lf1 rt1 rd1) (h2 : oF T pa1 lf1 rt1 rd1 pa2 lf2 rt2 rd2) : oF T pa lf rt rd pa2 lf2 rt2 rd2 := fun a na => by
  obtain ⟨a1, a2, a3, a4⟩ := h a na
  obtain ⟨b1, b2, b3, b4⟩ := h2 a na
  exact ⟨b1.trans a1, b2.trans a2, b3.trans a3, b4.trans a4⟩
theorem oF.red {pa1 lf1 rt1 : Nat → Option Nat} {rd1 : Nat → Int32} (h : oF T pa lf rt rd pa1 lf1 rt1 rd1) {x : Nat} (hx : T x) {v : Int32} : oF T pa lf rt rd pa1 lf1 rt1 (va_up rd1 x v) := fun a na => by
  obtain ⟨a1, a2, a3, a4⟩ := h a na
  exact ⟨a1, a2, a3, (up_ne (fun z => na (by rw [z]; exact hx))).trans a4⟩
theorem rotF.out {p r : Nat} {pa' lf' rt' : Nat → Option Nat} {rd' : Nat → Int32} {root' : Nat} (f : rotF T pa lf rt rd root p r pa' lf' rt' rd' root') : oF T pa lf rt rd pa' lf' rt' rd' := f.2.2.2.2.2.2.2.2.2.2.2.2
theorem rotF.outm {p r : Nat} {pa' lf' rt' : Nat → Option Nat} {rd' : Nat → Int32} {root' : Nat} (f : rotF T pa rt lf rd root p r pa' rt' lf' rd' root') : oF T pa lf rt rd pa' lf' rt' rd' := fun a na => by
  obtain ⟨a1, a2, a3, a4⟩ := f.out a na
  exact ⟨a1, a3, a2, a4⟩
/-- behind a rotation: another node keeps its parent -/
theorem rotF.keep {p r : Nat} {pa' lf' rt' : Nat → Option Nat} {rd' : Nat → Int32} {root' : Nat} (f : rotF T pa lf rt rd root p r pa' lf' rt' rd' root') {x q : Nat} (tx : T x) (n1 : x ≠ p) (n2 : x ≠ r) (n3 : lf r ≠ some x) (e : pa x = some q) : pa' x = some q := (f.2.2.2.2.2.1 x tx n1 n2 n3).trans e
theorem rotF.red {p r : Nat} {pa' lf' rt' : Nat → Option Nat} {rd' : Nat → Int32} {root' : Nat} (f : rotF T pa lf rt rd root p r pa' lf' rt' rd' root') (h : rd r = 0) : rd' r = 0 := by
  rcases f.2.2.2.2.2.2.2.2.2.2.2.1 with g | g
  · exact g.trans h
  · exact g
end ROT
