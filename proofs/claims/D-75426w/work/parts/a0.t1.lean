/-! ===== plain: search trees by local links ===== -/
set_option maxRecDepth 100000
/-- the nodes T hang together as a search tree: K orders them, lo and hi bound what hangs under each -/
def tIv (K : Nat → Int) (T : Nat → Prop) (pa lf rt : Nat → Option Nat) (root : Nat) (lo hi : Nat → Int) : Prop :=
  (T root ∧ pa root = none ∧ lo root = -4294967296 ∧ hi root = 4294967296) ∧ (∀ a, T a → lo a < K a ∧ K a < hi a) ∧ (∀ a, T a → -4294967296 ≤ lo a ∧ hi a ≤ 4294967296) ∧
  (∀ a b, T a → lf a = some b → T b ∧ pa b = some a ∧ lo b = lo a ∧ hi b = K a) ∧
  (∀ a b, T a → rt a = some b → T b ∧ pa b = some a ∧ lo b = K a ∧ hi b = hi a) ∧
  (∀ b, T b → b ≠ root → ∃ a, T a ∧ pa b = some a ∧ (lf a = some b ∨ rt a = some b))
def tI (K : Nat → Int) (T : Nat → Prop) (pa lf rt : Nat → Option Nat) (root : Nat) : Prop := ∃ lo hi : Nat → Int, tIv K T pa lf rt root lo hi
theorem tIv.neg {K : Nat → Int} {T : Nat → Prop} {pa lf rt : Nat → Option Nat} {root : Nat} {lo hi : Nat → Int} (h : tIv K T pa lf rt root lo hi) : tIv (fun a => - K a) T pa rt lf root (fun a => - hi a) (fun a => - lo a) := by
  obtain ⟨⟨h1, h2, h3, h4⟩, hb, hB, hL, hR, hP⟩ := h
  refine ⟨⟨h1, h2, ?_, ?_⟩, fun a ha => ?_, fun a ha => ?_, fun a b ha e => ?_, fun a b ha e => ?_, fun b hb9 hne => ?_⟩
  · show - hi root = _; omega
  · show - lo root = _; omega
  · have := hb a ha; show - hi a < - K a ∧ - K a < - lo a; omega
  · have := hB a ha; show _ ≤ - hi a ∧ - lo a ≤ _; omega
  · obtain ⟨g1, g2, g3, g4⟩ := hR a b ha e
    exact ⟨g1, g2, by show - hi b = - hi a; omega, by show - lo b = - K a; omega⟩
  · obtain ⟨g1, g2, g3, g4⟩ := hL a b ha e
    exact ⟨g1, g2, by show - hi b = - K a; omega, by show - lo b = - lo a; omega⟩
  · obtain ⟨a, g1, g2, g3⟩ := hP b hb9 hne
    exact ⟨a, g1, g2, g3.symm⟩
theorem tI.neg {K : Nat → Int} {T : Nat → Prop} {pa lf rt : Nat → Option Nat} {root : Nat} (h : tI K T pa lf rt root) : tI (fun a => - K a) T pa rt lf root := by
  obtain ⟨lo, hi, h⟩ := h
  exact ⟨_, _, h.neg⟩
theorem tI.unneg {K : Nat → Int} {T : Nat → Prop} {pa lf rt : Nat → Option Nat} {root : Nat} (h : tI (fun a => - K a) T pa rt lf root) : tI K T pa lf rt root := by
  have h9 := h.neg
  have e : (fun a => - (fun a => - K a) a) = K := funext fun a => Int.neg_neg (K a)
  rw [e] at h9
  exact h9
theorem tI.congr {K : Nat → Int} {T T' : Nat → Prop} {pa lf rt pa' lf' rt' : Nat → Option Nat} {root : Nat} (h : tI K T pa lf rt root) (hT : ∀ a, T' a ↔ T a) (h1 : ∀ a, T a → pa' a = pa a) (h2 : ∀ a, T a → lf' a = lf a) (h3 : ∀ a, T a → rt' a = rt a) : tI K T' pa' lf' rt' root := by
  obtain ⟨lo, hi, ⟨g1, g2, g3, g4⟩, hb, hB, hL, hR, hP⟩ := h
  refine ⟨lo, hi, ⟨(hT _).mpr g1, (h1 _ g1).trans g2, g3, g4⟩, fun a ha => hb a ((hT a).mp ha), fun a ha => hB a ((hT a).mp ha), fun a b ha e => ?_, fun a b ha e => ?_, fun b hb9 hne => ?_⟩
  · have ha := (hT a).mp ha
    obtain ⟨q1, q2, q3⟩ := hL a b ha (by rw [← h2 a ha]; exact e)
    exact ⟨(hT b).mpr q1, (h1 b q1).trans q2, q3⟩
  · have ha := (hT a).mp ha
    obtain ⟨q1, q2, q3⟩ := hR a b ha (by rw [← h3 a ha]; exact e)
    exact ⟨(hT b).mpr q1, (h1 b q1).trans q2, q3⟩
  · have hb9 := (hT b).mp hb9
    obtain ⟨a, q1, q2, q3⟩ := hP b hb9 hne
    refine ⟨a, (hT a).mpr q1, (h1 b hb9).trans q2, ?_⟩
    rw [h2 a q1, h3 a q1]
    exact q3
section TREE
variable {K : Nat → Int} {T : Nat → Prop} {pa lf rt : Nat → Option Nat} {root : Nat} {lo hi : Nat → Int}
theorem tIv.root_of (h : tIv K T pa lf rt root lo hi) {p : Nat} (hp : T p) (hn : pa p = none) : p = root := by
  obtain ⟨-, -, -, -, -, hP⟩ := h
  refine Classical.byContradiction fun hne => ?_
  obtain ⟨a, -, h2, -⟩ := hP p hp hne
  rw [hn] at h2
  cases h2
/-- the parent of a node: it is one of its children -/
theorem tIv.up (h : tIv K T pa lf rt root lo hi) {p q : Nat} (hp : T p) (hq : pa p = some q) : T q ∧ (lf q = some p ∨ rt q = some p) := by
  obtain ⟨⟨h1, h2, -⟩, -, -, -, -, hP⟩ := h
  have hne : p ≠ root := fun e => by rw [e, h2] at hq; cases hq
  obtain ⟨a, g1, g2, g3⟩ := hP p hp hne
  cases hq.symm.trans g2
  exact ⟨g1, g3⟩
theorem tIv.lfK (h : tIv K T pa lf rt root lo hi) {p b : Nat} (hp : T p) (e : lf p = some b) : T b ∧ pa b = some p ∧ K b < K p := by
  obtain ⟨-, hb, -, hL, -, -⟩ := h
  obtain ⟨g1, g2, g3, g4⟩ := hL p b hp e
  exact ⟨g1, g2, by have := hb b g1; omega⟩
theorem tIv.rtK (h : tIv K T pa lf rt root lo hi) {p b : Nat} (hp : T p) (e : rt p = some b) : T b ∧ pa b = some p ∧ K p < K b := by
  obtain ⟨-, hb, -, -, hR, -⟩ := h
  obtain ⟨g1, g2, g3, g4⟩ := hR p b hp e
  exact ⟨g1, g2, by have := hb b g1; omega⟩
theorem K_ne {a b : Nat} (h : K a < K b) : a ≠ b := fun e => by rw [e] at h; omega
theorem tI_rotL (h : tIv K T pa lf rt root lo hi) {p r : Nat} (hp : T p) (hr : rt p = some r) {pa' lf' rt' : Nat → Option Nat} {root' : Nat} (e1 : rt' p = lf r) (e2 : lf' r = some p) (e3 : pa' p = some r) (e4 : pa' r = pa p) (e5 : ∀ b, lf r = some b → pa' b = some p) (e6 : ∀ b, T b → b ≠ p → b ≠ r → lf r ≠ some b → pa' b = pa b) (e7 : lf' p = lf p) (e8 : rt' r = rt r)
    (e9 : ∀ a, T a → a ≠ p → a ≠ r → (lf a ≠ some p → lf' a = lf a) ∧ (rt a ≠ some p → rt' a = rt a) ∧ (lf a = some p → lf' a = some r) ∧ (rt a = some p → rt' a = some r)) (e10 : (pa p = none ∧ root' = r) ∨ (pa p ≠ none ∧ root' = root)) : tI K T pa' lf' rt' root' := by
  have hup := @tIv.up K T pa lf rt root lo hi h
  have hro := @tIv.root_of K T pa lf rt root lo hi h
  have hLK := @tIv.lfK K T pa lf rt root lo hi h
  have hRK := @tIv.rtK K T pa lf rt root lo hi h
  obtain ⟨⟨h1, h2, h3, h4⟩, hb, hB, hL, hR, hP⟩ := h
  obtain ⟨r1, r2, r3, r4⟩ := hR p r hp hr
  have kpr : K p < K r := (hRK hp hr).2.2
  have npr : p ≠ r := K_ne kpr
  have nrp : r ≠ p := fun e => npr e.symm
  -- the left child of a is p: it isn't p's right one, and so on
  have pr_pa : ∀ a, T a → (lf a = some p ∨ rt a = some p) → a ≠ p ∧ a ≠ r := by
    intro a ha e
    rcases e with e | e
    · have g := hL a p ha e
      refine ⟨fun q => ?_, fun q => ?_⟩
      · subst q
        have := hb a ha
        omega
      · subst q
        have := hb a ha
        omega
    · have g := hR a p ha e
      refine ⟨fun q => ?_, fun q => ?_⟩
      · subst q
        have := hb a ha
        omega
      · subst q
        have := hb a ha
        have := hb p hp
        omega
  refine ⟨fun a => if a = r then lo p else lo a, fun a => if a = p then K r else hi a, ⟨?_, ?_, ?_, ?_⟩, fun a ha => ?_, fun a ha => ?_, fun a b ha e => ?_, fun a b ha e => ?_, fun b hb9 hne => ?_⟩
  · rcases e10 with ⟨-, rfl⟩ | ⟨-, rfl⟩
    · exact r1
    · exact h1
  · rcases e10 with ⟨e, rfl⟩ | ⟨e, rfl⟩
    · exact e4.trans e
    · have q1 : root' ≠ p := fun q => e (by rw [← q]; exact h2)
      have q2 : root' ≠ r := fun q => by rw [q, r2] at h2; cases h2
      have q3 : lf r ≠ some root' := fun q => by rw [(hL r root' r1 q).2.1] at h2; cases h2
      exact (e6 root' h1 q1 q2 q3).trans h2
  · rcases e10 with ⟨e, rfl⟩ | ⟨e, rfl⟩
    · dsimp only; rw [if_pos rfl, hro hp e]; exact h3
    · dsimp only; rw [if_neg (fun q : root' = r => by rw [q, r2] at h2; cases h2)]; exact h3
  · rcases e10 with ⟨e, rfl⟩ | ⟨e, rfl⟩
    · dsimp only; rw [if_neg nrp, r4, hro hp e]; exact h4
    · dsimp only; rw [if_neg (fun q : root' = p => e (by rw [← q]; exact h2))]; exact h4
  · have g := hb a ha
    have gp := hb p hp
    have gr := hb r r1
    dsimp only
    by_cases q1 : a = r
    · subst q1
      rw [if_pos rfl, if_neg nrp]; omega
    · by_cases q2 : a = p
      · subst q2
        rw [if_neg q1, if_pos rfl]; omega
      · rw [if_neg q1, if_neg q2]; exact g
  · have g := hB a ha
    have gp := hB p hp
    have gr := hB r r1
    have kr := hb r r1
    dsimp only
    by_cases q1 : a = r
    · subst q1
      rw [if_pos rfl, if_neg nrp]; omega
    · by_cases q2 : a = p
      · subst q2
        rw [if_neg q1, if_pos rfl]; omega
      · rw [if_neg q1, if_neg q2]; exact g
  · dsimp only
    by_cases qp : a = p
    · subst qp
      rw [e7] at e
      obtain ⟨g1, g2, g3, g4⟩ := hL a b ha e
      have kb := hb b g1
      have n1 : b ≠ a := fun q => by subst q; omega
      have n2 : b ≠ r := fun q => by subst q; have := hb a hp; omega
      have n3 : lf r ≠ some b := fun q => by have := (hL r b r1 q).2.1; rw [g2] at this; exact npr (Option.some.inj this)
      exact ⟨g1, (e6 b g1 n1 n2 n3).trans g2, by rw [if_neg n2, if_neg npr]; exact g3, by rw [if_neg n1]; exact g4⟩
    · by_cases qr : a = r
      · subst qr
        rw [e2] at e
        obtain rfl := Option.some.inj e
        exact ⟨hp, e3, by rw [if_neg npr, if_pos rfl], by rw [if_pos rfl]⟩
      · obtain ⟨f1, f2, f3, f4⟩ := e9 a ha qp qr
        by_cases q : lf a = some p
        · rw [f3 q] at e
          obtain rfl := Option.some.inj e
          obtain ⟨g1, g2, g3, g4⟩ := hL a p ha q
          exact ⟨r1, e4.trans g2, by rw [if_pos rfl, if_neg qr]; exact g3, by rw [if_neg nrp]; omega⟩
        · rw [f1 q] at e
          obtain ⟨g1, g2, g3, g4⟩ := hL a b ha e
          have n1 : b ≠ p := fun z => q (by rw [← z]; exact e)
          have n2 : b ≠ r := fun z => by rw [z, r2] at g2; exact qp (Option.some.inj g2).symm
          have n3 : lf r ≠ some b := fun z => by have := (hL r b r1 z).2.1; rw [g2] at this; exact qr (Option.some.inj this)
          exact ⟨g1, (e6 b g1 n1 n2 n3).trans g2, by rw [if_neg n2, if_neg qr]; exact g3, by rw [if_neg n1]; exact g4⟩
  · dsimp only
    by_cases qp : a = p
    · subst qp
      rw [e1] at e
      obtain ⟨g1, g2, g3, g4⟩ := hL r b r1 e
      have kb := hb b g1
      have n1 : b ≠ a := fun q => by subst q; omega
      have n2 : b ≠ r := fun q => by subst q; omega
      exact ⟨g1, e5 b e, by rw [if_neg n2]; omega, by rw [if_neg n1, if_pos rfl]; exact g4⟩
    · by_cases qr : a = r
      · subst qr
        rw [e8] at e
        obtain ⟨g1, g2, g3, g4⟩ := hR a b ha e
        have kb := hb b g1
        have n1 : b ≠ p := fun q => by subst q; omega
        have n2 : b ≠ a := fun q => by subst q; omega
        have n3 : lf a ≠ some b := fun q => by have := (hL a b ha q).2.2.2; omega
        exact ⟨g1, (e6 b g1 n1 n2 n3).trans g2, by rw [if_neg n2]; exact g3, by rw [if_neg n1, if_neg nrp]; exact g4⟩
      · obtain ⟨f1, f2, f3, f4⟩ := e9 a ha qp qr
        by_cases q : rt a = some p
        · rw [f4 q] at e
          obtain rfl := Option.some.inj e
          obtain ⟨g1, g2, g3, g4⟩ := hR a p ha q
          exact ⟨r1, e4.trans g2, by rw [if_pos rfl]; exact g3, by rw [if_neg nrp, if_neg qp]; omega⟩
        · rw [f2 q] at e
          obtain ⟨g1, g2, g3, g4⟩ := hR a b ha e
          have n1 : b ≠ p := fun z => q (by rw [← z]; exact e)
          have n2 : b ≠ r := fun z => by rw [z, r2] at g2; exact qp (Option.some.inj g2).symm
          have n3 : lf r ≠ some b := fun z => by have := (hL r b r1 z).2.1; rw [g2] at this; exact qr (Option.some.inj this)
          exact ⟨g1, (e6 b g1 n1 n2 n3).trans g2, by rw [if_neg n2]; exact g3, by rw [if_neg n1, if_neg qp]; exact g4⟩
  · by_cases qp : b = p
    · subst qp
      exact ⟨r, r1, e3, Or.inl e2⟩
    · by_cases qr : b = r
      · subst qr
        rcases e10 with ⟨-, z⟩ | ⟨e, -⟩
        · exact absurd z.symm hne
        · obtain ⟨a, ha9⟩ := Option.ne_none_iff_exists'.mp e
          obtain ⟨ta, hc⟩ := hup hp ha9
          obtain ⟨n1, n2⟩ := pr_pa a ta hc
          obtain ⟨f1, f2, f3, f4⟩ := e9 a ta n1 n2
          exact ⟨a, ta, e4.trans ha9, hc.imp f3 f4⟩
      · by_cases ql : lf r = some b
        · exact ⟨p, hp, e5 b ql, Or.inr (e1.trans ql)⟩
        · have hnr : b ≠ root := by
            rcases e10 with ⟨e, -⟩ | ⟨-, z⟩
            · rw [← hro hp e]; exact qp
            · rw [← z]; exact hne
          obtain ⟨a, ta, g2, g3⟩ := hP b hb9 hnr
          refine ⟨a, ta, (e6 b hb9 qp qr ql).trans g2, ?_⟩
          by_cases q1 : a = p
          · subst q1
            rcases g3 with g3 | g3
            · exact Or.inl (e7.trans g3)
            · exact absurd (Option.some.inj (g3.symm.trans hr)) qr
          · by_cases q2 : a = r
            · subst q2
              rcases g3 with g3 | g3
              · exact absurd g3 ql
              · exact Or.inr (e8.trans g3)
            · obtain ⟨f1, f2, f3, f4⟩ := e9 a ta q1 q2
              rcases g3 with g3 | g3
              · exact Or.inl ((f1 (fun z => qp (Option.some.inj (g3.symm.trans z)))).trans g3)
              · exact Or.inr ((f2 (fun z => qp (Option.some.inj (g3.symm.trans z)))).trans g3)
theorem tI_rotR (h : tIv K T pa lf rt root lo hi) {p r : Nat} (hp : T p) (hr : lf p = some r) {pa' lf' rt' : Nat → Option Nat} {root' : Nat} (e1 : lf' p = rt r) (e2 : rt' r = some p) (e3 : pa' p = some r) (e4 : pa' r = pa p) (e5 : ∀ b, rt r = some b → pa' b = some p) (e6 : ∀ b, T b → b ≠ p → b ≠ r → rt r ≠ some b → pa' b = pa b) (e7 : rt' p = rt p) (e8 : lf' r = lf r)
    (e9 : ∀ a, T a → a ≠ p → a ≠ r → (lf a ≠ some p → lf' a = lf a) ∧ (rt a ≠ some p → rt' a = rt a) ∧ (lf a = some p → lf' a = some r) ∧ (rt a = some p → rt' a = some r)) (e10 : (pa p = none ∧ root' = r) ∨ (pa p ≠ none ∧ root' = root)) : tI K T pa' lf' rt' root' := by
  have h9 := tI_rotL h.neg (p := p) (r := r) (pa' := pa') (lf' := rt') (rt' := lf') (root' := root') hp hr e1 e2 e3 e4 e5 e6 e7 e8 (fun a ha n1 n2 => by
    obtain ⟨f1, f2, f3, f4⟩ := e9 a ha n1 n2
    exact ⟨f2, f1, f4, f3⟩) e10
  exact h9.unneg
/-- a new leaf on the left -/
theorem tI_insL (h : tIv K T pa lf rt root lo hi) {x p : Nat} (hx : ¬ T x) (hp : T p) (h1 : lo p < K x) (h2 : K x < K p) (hl : lf p = none) {T' : Nat → Prop} {pa' lf' rt' : Nat → Option Nat} (hT : ∀ a, T' a ↔ T a ∨ a = x) (e1 : pa' x = some p) (e2 : ∀ a, a ≠ x → pa' a = pa a) (e3 : lf' p = some x) (e4 : lf' x = none) (e5 : ∀ a, a ≠ x → a ≠ p → lf' a = lf a) (e6 : rt' x = none) (e7 : ∀ a, a ≠ x → rt' a = rt a) : tI K T' pa' lf' rt' root := by
  obtain ⟨⟨r1, r2, r3, r4⟩, hb, hB, hL, hR, hP⟩ := h
  have nx : ∀ a, T a → a ≠ x := fun a ha q => hx (by rw [← q]; exact ha)
  have npx := nx p hp
  refine ⟨fun a => if a = x then lo p else lo a, fun a => if a = x then K p else hi a, ⟨(hT _).mpr (Or.inl r1), (e2 _ (nx _ r1)).trans r2, by dsimp only; rw [if_neg (nx _ r1)]; exact r3, by dsimp only; rw [if_neg (nx _ r1)]; exact r4⟩, fun a ha => ?_, fun a ha => ?_, fun a b ha e => ?_, fun a b ha e => ?_, fun b hb9 hne => ?_⟩
  · dsimp only
    rcases (hT a).mp ha with ha | rfl
    · rw [if_neg (nx a ha), if_neg (nx a ha)]; exact hb a ha
    · rw [if_pos rfl, if_pos rfl]; exact ⟨h1, h2⟩
  · dsimp only
    rcases (hT a).mp ha with ha | rfl
    · rw [if_neg (nx a ha), if_neg (nx a ha)]; exact hB a ha
    · have := hB p hp
      have := hb p hp
      rw [if_pos rfl, if_pos rfl]; omega
  · dsimp only
    rcases (hT a).mp ha with ha | rfl
    · have na := nx a ha
      by_cases q : a = p
      · subst q
        rw [e3] at e
        obtain rfl := Option.some.inj e
        exact ⟨(hT _).mpr (Or.inr rfl), e1, by rw [if_pos rfl, if_neg na], by rw [if_pos rfl]⟩
      · rw [e5 a na q] at e
        obtain ⟨g1, g2, g3, g4⟩ := hL a b ha e
        have nb := nx b g1
        exact ⟨(hT _).mpr (Or.inl g1), (e2 b nb).trans g2, by rw [if_neg nb, if_neg na]; exact g3, by rw [if_neg nb]; exact g4⟩
    · rw [e4] at e
      cases e
  · dsimp only
    rcases (hT a).mp ha with ha | rfl
    · have na := nx a ha
      rw [e7 a na] at e
      obtain ⟨g1, g2, g3, g4⟩ := hR a b ha e
      have nb := nx b g1
      exact ⟨(hT _).mpr (Or.inl g1), (e2 b nb).trans g2, by rw [if_neg nb]; exact g3, by rw [if_neg nb, if_neg na]; exact g4⟩
    · rw [e6] at e
      cases e
  · rcases (hT b).mp hb9 with hb9 | rfl
    · have nb := nx b hb9
      obtain ⟨a, g1, g2, g3⟩ := hP b hb9 hne
      have na := nx a g1
      refine ⟨a, (hT _).mpr (Or.inl g1), (e2 b nb).trans g2, ?_⟩
      rcases g3 with g3 | g3
      · exact Or.inl ((e5 a na (fun q => by rw [q, hl] at g3; cases g3)).trans g3)
      · exact Or.inr ((e7 a na).trans g3)
    · exact ⟨p, (hT _).mpr (Or.inl hp), e1, Or.inl e3⟩
theorem tI_insR (h : tIv K T pa lf rt root lo hi) {x p : Nat} (hx : ¬ T x) (hp : T p) (h1 : K p < K x) (h2 : K x < hi p) (hl : rt p = none) {T' : Nat → Prop} {pa' lf' rt' : Nat → Option Nat} (hT : ∀ a, T' a ↔ T a ∨ a = x) (e1 : pa' x = some p) (e2 : ∀ a, a ≠ x → pa' a = pa a) (e3 : rt' p = some x) (e4 : rt' x = none) (e5 : ∀ a, a ≠ x → a ≠ p → rt' a = rt a) (e6 : lf' x = none) (e7 : ∀ a, a ≠ x → lf' a = lf a) : tI K T' pa' lf' rt' root := by
  have h9 := tI_insL h.neg (x := x) (p := p) (T' := T') (pa' := pa') (lf' := rt') (rt' := lf') hx hp (by show - hi p < - K x; omega) (by show - K x < - K p; omega) hl hT e1 e2 e3 e4 e5 e6 e7
  exact h9.unneg
/-- one node alone -/
theorem tI_one {x : Nat} {T' : Nat → Prop} (hT : ∀ a, T' a ↔ a = x) (hK : -4294967296 < K x ∧ K x < 4294967296) (h1 : pa x = none) (h2 : lf x = none) (h3 : rt x = none) : tI K T' pa lf rt x := by
  refine ⟨fun _ => -4294967296, fun _ => 4294967296, ⟨(hT _).mpr rfl, h1, rfl, rfl⟩, fun a ha => ?_, fun a ha => ⟨Int.le_refl _, Int.le_refl _⟩, fun a b ha e => ?_, fun a b ha e => ?_, fun b hb9 hne => ?_⟩
  · obtain rfl := (hT a).mp ha
    exact hK
  · obtain rfl := (hT a).mp ha
    rw [h2] at e; cases e
  · obtain rfl := (hT a).mp ha
    rw [h3] at e; cases e
  · exact absurd ((hT b).mp hb9) hne
end TREE
/-- the way from p down to i -/
def pth (T : Nat → Prop) (lf rt : Nat → Option Nat) : Nat → List Nat → Nat → Prop
  | p, [], i => p = i
  | p, c :: l, i => (lf p = some c ∨ rt p = some c) ∧ T c ∧ pth T lf rt c l i
theorem pth_snoc {T : Nat → Prop} {lf rt : Nat → Option Nat} {i c : Nat} (hc : lf i = some c ∨ rt i = some c) (tc : T c) : ∀ {l : List Nat} {p : Nat}, pth T lf rt p l i → pth T lf rt p (l ++ [c]) c := by
  intro l
  induction l with
  | nil =>
    intro p h
    obtain rfl : p = i := h
    exact ⟨hc, tc, rfl⟩
  | cons d l ih =>
    intro p h
    exact ⟨h.1, h.2.1, ih h.2.2⟩
section TREE2
variable {K : Nat → Int} {T : Nat → Prop} {pa lf rt : Nat → Option Nat} {root : Nat} {lo hi : Nat → Int}
theorem tIv.path (h : tIv K T pa lf rt root lo hi) : ∀ (n i : Nat), T i → (8589934592 - (hi i - lo i)).toNat ≤ n → ∃ l, pth T lf rt root l i := by
  obtain ⟨⟨r1, r2, r3, r4⟩, hb, hB, hL, hR, hP⟩ := h
  intro n
  induction n with
  | zero =>
    intro i hi9 hn
    by_cases q : i = root
    · exact ⟨[], q.symm⟩
    · exfalso
      obtain ⟨a, g1, g2, g3⟩ := hP i hi9 q
      have b1 := hB a g1
      have k1 := hb a g1
      rcases g3 with g3 | g3
      · have := hL a i g1 g3; omega
      · have := hR a i g1 g3; omega
  | succ n ih =>
    intro i hi9 hn
    by_cases q : i = root
    · exact ⟨[], q.symm⟩
    · obtain ⟨a, g1, g2, g3⟩ := hP i hi9 q
      have b1 := hB a g1
      have k1 := hb a g1
      have : (8589934592 - (hi a - lo a)).toNat ≤ n := by
        rcases g3 with g3 | g3
        · have := hL a i g1 g3; omega
        · have := hR a i g1 g3; omega
      obtain ⟨l, hl⟩ := ih a g1 this
      exact ⟨l ++ [i], pth_snoc g3 hi9 hl⟩
theorem tIv.way (h : tIv K T pa lf rt root lo hi) {i : Nat} (hi9 : T i) : ∃ l, pth T lf rt root l i := h.path _ i hi9 (Nat.le_refl _)
theorem tIv.nest (h : tIv K T pa lf rt root lo hi) : ∀ (l : List Nat) (p i : Nat), T p → pth T lf rt p l i → lo p ≤ lo i ∧ hi i ≤ hi p ∧ T i := by
  obtain ⟨-, hb, -, hL, hR, -⟩ := h
  intro l
  induction l with
  | nil =>
    intro p i hp q
    obtain rfl : p = i := q
    exact ⟨Int.le_refl _, Int.le_refl _, hp⟩
  | cons c l ih =>
    intro p i hp q
    obtain ⟨q1, q2, q3⟩ := q
    have g := ih c i q2 q3
    have k := hb p hp
    rcases q1 with q1 | q1
    · have := hL p c hp q1; exact ⟨by omega, by omega, g.2.2⟩
    · have := hR p c hp q1; exact ⟨by omega, by omega, g.2.2⟩
/-- which way it goes -/
theorem tIv.turn (h : tIv K T pa lf rt root lo hi) {l : List Nat} {p c i : Nat} (hp : T p) (q : pth T lf rt p (c :: l) i) : (lf p = some c ∧ K i < K p) ∨ (rt p = some c ∧ K p < K i) := by
  obtain ⟨q1, q2, q3⟩ := q
  have g := h.nest l c i q2 q3
  obtain ⟨-, hb, -, hL, hR, -⟩ := h
  have k := hb i g.2.2
  rcases q1 with q1 | q1
  · have := hL p c hp q1
    exact Or.inl ⟨q1, by omega⟩
  · have := hR p c hp q1
    exact Or.inr ⟨q1, by omega⟩
end TREE2
