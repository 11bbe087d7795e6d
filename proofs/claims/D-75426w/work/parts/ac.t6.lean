/-! ===== plain: a bin's nodes are made anew, one by one ===== -/
set_option maxRecDepth 100000
/-- what a node says -/
def dt (hs : Nat → Int32) (ky vl : Nat → Nat) (a : Nat) : Int32 × Nat × Nat := (hs a, ky a, vl a)
/-- of the nodes Lb those of done are made anew as N, of kind kb -/
def rbI (kb : Bool) (L0 : List Nat) (kd0 : Nat → Bool) (hs0 : Nat → Int32) (ky0 vl0 : Nat → Nat) (nx0 pa0 lf0 rt0 pv0 : Nat → Option Nat) (ord0 Lb done rest N L : List Nat) (kd : Nat → Bool) (hs : Nat → Int32) (ky vl : Nat → Nat) (nx bf af pa lf rt pv : Nat → Option Nat) (hd tl : Option Nat) (ord : List Nat) : Prop :=
  Lb = done ++ rest ∧ (∀ a, a ∈ N → a ∈ L ∧ a ∉ L0 ∧ kd a = kb) ∧ N.Nodup ∧ seg nx N.head? N none ∧ (kb = true → bck pv none N) ∧ N.map (dt hs ky vl) = done.map (dt hs0 ky0 vl0) ∧ (∀ a, a ∈ L0 → a ∈ L ∧ kd a = kd0 a ∧ hs a = hs0 a ∧ ky a = ky0 a ∧ vl a = vl0 a ∧ nx a = nx0 a ∧ pa a = pa0 a ∧ lf a = lf0 a ∧ rt a = rt0 a ∧ pv a = pv0 a) ∧ lnk bf af hd tl ord ∧ (∀ a, a ∈ ord ↔ (a ∈ ord0 ∧ a ∉ done) ∨ a ∈ N) ∧ ord.map (dt hs ky vl) = ord0.map (dt hs0 ky0 vl0) ∧ (∀ a, a ∈ ord0 → a ∈ L0) ∧ (∀ a, a ∈ Lb → a ∈ ord0) ∧ Lb.Nodup
theorem head_app {N : List Nat} {q : Nat} : (N ++ [q]).head? = some (N.head?.getD q) := by
  cases N <;> rfl
theorem dt_up {hs : Nat → Int32} {ky vl : Nat → Nat} {q a : Nat} {h : Int32} {k v : Nat} (e : a ≠ q) : dt (va_up hs q h) (va_up ky q k) (va_up vl q v) a = dt hs ky vl a := by
  unfold dt
  rw [up_ne e, up_ne e, up_ne e]
theorem dt_up0 {hs : Nat → Int32} {ky vl : Nat → Nat} {q : Nat} {h : Int32} {k v : Nat} : dt (va_up hs q h) (va_up ky q k) (va_up vl q v) q = (h, k, v) := by
  unfold dt
  rw [up_same, up_same, up_same]
theorem rbI.start {kb : Bool} {L0 : List Nat} {kd : Nat → Bool} {hs : Nat → Int32} {ky vl : Nat → Nat} {nx bf af pa lf rt pv : Nat → Option Nat} {hd tl : Option Nat} {ord Lb : List Nat} (hl : lnk bf af hd tl ord) (h1 : ∀ a, a ∈ ord → a ∈ L0) (h2 : ∀ a, a ∈ Lb → a ∈ ord) (h3 : Lb.Nodup) : rbI kb L0 kd hs ky vl nx pa lf rt pv ord Lb [] Lb [] L0 kd hs ky vl nx bf af pa lf rt pv hd tl ord :=
  ⟨rfl, fun a h => absurd h List.not_mem_nil, List.nodup_nil, rfl, fun _ => trivial, rfl, fun a h => ⟨h, rfl, rfl, rfl, rfl, rfl, rfl, rfl, rfl, rfl⟩, hl, fun a => ⟨fun h => Or.inl ⟨h, List.not_mem_nil⟩, fun h => h.elim (fun h => h.1) (fun h => absurd h List.not_mem_nil)⟩, rfl, h1, h2, h3⟩
theorem rbI.step {kb : Bool} {L0 : List Nat} {kd0 : Nat → Bool} {hs0 : Nat → Int32} {ky0 vl0 : Nat → Nat} {nx0 pa0 lf0 rt0 pv0 : Nat → Option Nat} {ord0 Lb done rest N L : List Nat} {kd : Nat → Bool} {hs : Nat → Int32} {ky vl : Nat → Nat} {nx bf af pa lf rt pv : Nat → Option Nat} {hd tl : Option Nat} {ord : List Nat} {s : Nat} (h : rbI kb L0 kd0 hs0 ky0 vl0 nx0 pa0 lf0 rt0 pv0 ord0 Lb done (s :: rest) N L kd hs ky vl nx bf af pa lf rt pv hd tl ord) {q : Nat} (hq : q ∉ L) {nx' pv' pa' lf' rt' : Nat → Option Nat} (e1 : nx' q = none) (e2 : ∀ z, lstO none N = some z → nx' z = some q) (e3 : ∀ a, a ≠ q → lstO none N ≠ some a → nx' a = nx a) (e4 : kb = true → pv' q = lstO none N) (e5 : ∀ a, a ≠ q → pv' a = pv a) (e6 : ∀ a, a ≠ q → pa' a = pa a) (e7 : ∀ a, a ≠ q → lf' a = lf a) (e8 : ∀ a, a ≠ q → rt' a = rt a) :
    ∃ ord', rbI kb L0 kd0 hs0 ky0 vl0 nx0 pa0 lf0 rt0 pv0 ord0 Lb (done ++ [s]) rest (N ++ [q]) (L ++ [q]) (va_up kd q kb) (va_up hs q (hs s)) (va_up ky q (ky s)) (va_up vl q (vl s)) nx' (lkr bf q (bf s) (af s)) (lkr af q (af s) (bf s)) pa' lf' rt' pv' (hdn hd q (bf s)) (hdn tl q (af s)) ord' := by
  obtain ⟨h1, h2, h3, h4, h5, h6, h7, h8, h9, h10, h11, h12, h13⟩ := h
  have hsLb : s ∈ Lb := by rw [h1]; exact List.mem_append_right _ List.mem_cons_self
  have hnd := h13
  rw [h1] at hnd
  have hsd : s ∉ done := (nd_split hnd).1
  have hs0' := h12 s hsLb
  have hsL0 := h11 s hs0'
  have hso : s ∈ ord := (h9 s).mpr (Or.inl ⟨hs0', hsd⟩)
  have ordL : ∀ a, a ∈ ord → a ∈ L := fun a ha => by
    rcases (h9 a).mp ha with ⟨g, -⟩ | g
    · exact (h7 a (h11 a g)).1
    · exact (h2 a g).1
  have nqL : ∀ a, a ∈ L → a ≠ q := fun a ha e => hq (by rw [← e]; exact ha)
  have hqo : q ∉ ord := fun e => hq (ordL q e)
  have hqN : q ∉ N := fun e => hq (h2 q e).1
  have hq0 : q ∉ L0 := fun e => hq (h7 q e).1
  have hsN : s ∉ N := fun e => (h2 s e).2.1 hsL0
  obtain ⟨l1, l2, hl⟩ := List.append_of_mem hso
  rw [hl] at h8 hqo h10
  obtain ⟨n1, n2, n3, n4⟩ := nd_split h8.2.2.2
  refine ⟨l1 ++ q :: l2, ?_, ?_, ?_, ?_, ?_, ?_, ?_, lnk_rep h8 hqo, ?_, ?_, h11, h12, h13⟩
  · rw [h1, List.append_assoc]; rfl
  · intro a ha
    rcases List.mem_append.mp ha with ha | ha
    · obtain ⟨g1, g2, g3⟩ := h2 a ha
      exact ⟨List.mem_append_left _ g1, g2, (up_ne (nqL a g1)).trans g3⟩
    · rw [List.mem_singleton.mp ha]
      exact ⟨List.mem_append_right _ List.mem_cons_self, hq0, up_same _ _ _⟩
  · exact List.nodup_append.mpr ⟨h3, List.nodup_cons.mpr ⟨List.not_mem_nil, List.nodup_nil⟩, fun a ha b hb e => hqN (by rw [← List.mem_singleton.mp hb, ← e]; exact ha)⟩
  · -- the chain
    cases hN : N with
    | nil => exact ⟨rfl, e1⟩
    | cons c t =>
      obtain ⟨l0, z, hz⟩ := ex_last hN
      have hlz : lstO none N = some z := by rw [hz]; exact lstO_snoc
      have hzn : z ∉ l0 := by
        intro e
        rw [hz] at h3
        exact (List.nodup_append.mp h3).2.2 z e z List.mem_cons_self rfl
      have hhd : (c :: t ++ [q]).head? = N.head? := by rw [hN]; rfl
      rw [hhd, ← hN]
      have hzq : z ≠ q := fun e => hqN (by rw [← e, hz]; exact List.mem_append_right _ List.mem_cons_self)
      refine seg_app.mpr ⟨some q, ?_, rfl, e1⟩
      rw [hz] at h4 ⊢
      have g := seg_last (o2 := some q) h4 hzn
      refine seg_congr (fun a ha => ?_) g
      by_cases e : a = z
      · rw [e, up_same]; exact e2 z hlz
      · rw [up_ne e]
        refine e3 a (fun e9 => hqN (by rw [← e9, hz]; exact ha)) (fun e9 => e ?_)
        rw [hlz] at e9
        exact (Option.some.inj e9).symm
  · intro hk
    refine bck_app.mpr ⟨bck_congr (fun a ha => e5 a (fun e => hqN (by rw [← e]; exact ha))) (h5 hk), e4 hk, trivial⟩
  · rw [List.map_append, List.map_append, ← h6]
    congr 1
    · exact List.map_congr_left (fun a ha => dt_up (nqL a (h2 a ha).1))
    · show [dt _ _ _ q] = [dt hs0 ky0 vl0 s]
      rw [dt_up0]
      obtain ⟨-, -, g2, g3, g4, -⟩ := h7 s hsL0
      unfold dt
      rw [g2, g3, g4]
  · intro a ha
    obtain ⟨g0, g1, g2, g3, g4, g5, g6, g7, g8, g9⟩ := h7 a ha
    have na := nqL a g0
    refine ⟨List.mem_append_left _ g0, (up_ne na).trans g1, (up_ne na).trans g2, (up_ne na).trans g3, (up_ne na).trans g4, (e3 a na (fun e => ?_)).trans g5, (e6 a na).trans g6, (e7 a na).trans g7, (e8 a na).trans g8, (e5 a na).trans g9⟩
    obtain ⟨l0, hz⟩ := lstO_some e
    exact (h2 a (by rw [hz]; exact List.mem_append_right _ List.mem_cons_self)).2.1 ha
  · intro a
    have g := h9 a
    rw [hl] at g
    constructor
    · intro ha
      by_cases e : a = q
      · right; rw [e]; exact List.mem_append_right _ List.mem_cons_self
      · have ha2 : a ∈ l1 ++ s :: l2 := by
          rcases List.mem_append.mp ha with ha | ha
          · exact List.mem_append_left _ ha
          · exact List.mem_append_right _ (List.mem_cons_of_mem _ ((List.mem_cons.mp ha).resolve_left e))
        rcases g.mp ha2 with ⟨q1, q2⟩ | q1
        · refine Or.inl ⟨q1, fun e9 => ?_⟩
          rcases List.mem_append.mp e9 with e9 | e9
          · exact q2 e9
          · have e8 := List.mem_singleton.mp e9
            rcases List.mem_append.mp ha with ha | ha
            · exact n1 (by rw [← e8]; exact ha)
            · exact n2 (by rw [← e8]; exact (List.mem_cons.mp ha).resolve_left e)
        · exact Or.inr (List.mem_append_left _ q1)
    · intro ha
      have key : a ∈ l1 ++ s :: l2 → a ≠ s → a ∈ l1 ++ q :: l2 := fun hm hne => by
        rcases List.mem_append.mp hm with hm | hm
        · exact List.mem_append_left _ hm
        · exact List.mem_append_right _ (List.mem_cons_of_mem _ ((List.mem_cons.mp hm).resolve_left hne))
      rcases ha with ⟨q1, q2⟩ | ha
      · exact key (g.mpr (Or.inl ⟨q1, fun e => q2 (List.mem_append_left _ e)⟩)) (fun e => q2 (by rw [e]; exact List.mem_append_right _ List.mem_cons_self))
      · rcases List.mem_append.mp ha with ha | ha
        · exact key (g.mpr (Or.inr ha)) (fun e => hsN (by rw [← e]; exact ha))
        · rw [List.mem_singleton.mp ha]; exact List.mem_append_right _ List.mem_cons_self
  · rw [← h10, List.map_append, List.map_append, List.map_cons, List.map_cons]
    have m1 : ∀ l : List Nat, (∀ a, a ∈ l → a ∈ ord) → l.map (dt (va_up hs q (hs s)) (va_up ky q (ky s)) (va_up vl q (vl s))) = l.map (dt hs ky vl) := fun l hl9 => List.map_congr_left (fun a ha => dt_up (nqL a (ordL a (hl9 a ha))))
    rw [m1 l1 (fun a ha => by rw [hl]; exact List.mem_append_left _ ha), m1 l2 (fun a ha => by rw [hl]; exact List.mem_append_right _ (List.mem_cons_of_mem _ ha)), dt_up0]
    rfl
