/-! ===== plain: the order of a linked map's nodes ===== -/
set_option maxRecDepth 100000
def lnk (bf af : Nat → Option Nat) (hd tl : Option Nat) (ord : List Nat) : Prop := seg af hd ord none ∧ bck bf none ord ∧ tl = lstO none ord ∧ ord.Nodup
def afn (af : Nat → Option Nat) (q : Nat) (tl : Option Nat) : Nat → Option Nat := match tl with
  | none => va_up af q none
  | some t => va_up (va_up af q none) t (some q)
def hdn (hd : Option Nat) (q : Nat) (tl : Option Nat) : Option Nat := match tl with
  | none => some q
  | some _ => hd
/-- the links of s go over to q -/
def lkr (f : Nat → Option Nat) (q : Nat) (o : Option Nat) (p : Option Nat) : Nat → Option Nat := match p with
  | none => va_up f q o
  | some b => va_up (va_up f q o) b (some q)
theorem lstO_app {z : Nat} {l2 : List Nat} : ∀ {l : List Nat} {p : Option Nat}, lstO p (l ++ z :: l2) = lstO (some z) l2 := by
  intro l
  induction l with
  | nil => intro p; rfl
  | cons a l ih => intro p; exact ih
theorem lstO_none {l : List Nat} (h : lstO none l = none) : l = [] := by
  cases l with
  | nil => rfl
  | cons a l =>
    exfalso
    have : ∀ (l : List Nat) (a : Nat), lstO (some a) l ≠ none := by
      intro l
      induction l with
      | nil => intro a h; cases h
      | cons b l ih => intro a h; exact ih b h
    exact this l a h
theorem lstO_some {t : Nat} {l : List Nat} (h : lstO none l = some t) : ∃ l0, l = l0 ++ [t] := by
  cases l with
  | nil => cases h
  | cons a l =>
    obtain ⟨l0, z, hz⟩ := ex_last (l := a :: l) rfl
    rw [hz, lstO_snoc] at h
    exact ⟨l0, by rw [hz, Option.some.inj h]⟩
theorem lnk_add {bf af : Nat → Option Nat} {hd tl : Option Nat} {ord : List Nat} (h : lnk bf af hd tl ord) {q : Nat} (hq : q ∉ ord) : lnk (va_up bf q tl) (afn af q tl) (hdn hd q tl) (some q) (ord ++ [q]) := by
  obtain ⟨h1, h2, h3, h4⟩ := h
  have nq : ∀ a, a ∈ ord → a ≠ q := fun a ha e => hq (by rw [← e]; exact ha)
  refine ⟨?_, ?_, ?_, ?_⟩
  · cases ht : tl with
    | none =>
      obtain rfl := lstO_none (h3.symm.trans ht)
      refine ⟨rfl, ?_⟩
      exact up_same _ _ _
    | some t =>
      obtain ⟨l0, rfl⟩ := lstO_some (h3.symm.trans ht)
      have htl : t ∉ l0 := fun e => (List.nodup_append.mp h4).2.2 t e t List.mem_cons_self rfl
      show seg (va_up (va_up af q none) t (some q)) hd ((l0 ++ [t]) ++ [q]) none
      refine seg_app.mpr ⟨some q, seg_last (seg_congr (fun a ha => up_ne (nq a ha)) h1) htl, rfl, ?_⟩
      have n1 : q ≠ t := fun e => hq (by rw [e]; exact List.mem_append_right _ List.mem_cons_self)
      rw [up_ne n1]
      exact up_same _ _ _
  · refine bck_app.mpr ⟨bck_congr (fun a ha => up_ne (nq a ha)) h2, ?_, trivial⟩
    rw [up_same]
    exact h3
  · exact lstO_snoc.symm
  · refine List.nodup_append.mpr ⟨h4, List.nodup_cons.mpr ⟨by simp, List.nodup_nil⟩, fun a ha b hb e => ?_⟩
    rw [List.mem_singleton] at hb
    exact nq a ha (e.trans hb)
theorem lnk_rep {bf af : Nat → Option Nat} {hd tl : Option Nat} {l1 l2 : List Nat} {s q : Nat} (h : lnk bf af hd tl (l1 ++ s :: l2)) (hq : q ∉ l1 ++ s :: l2) : lnk (lkr bf q (bf s) (af s)) (lkr af q (af s) (bf s)) (hdn hd q (bf s)) (hdn tl q (af s)) (l1 ++ q :: l2) := by
  obtain ⟨h1, h2, h3, h4⟩ := h
  obtain ⟨n1, n2, n3, n4⟩ := nd_split h4
  obtain ⟨p, g1, g2⟩ := seg_app.mp h1
  obtain ⟨g3, g4⟩ := g2
  obtain ⟨b1, b2⟩ := bck_app.mp h2
  obtain ⟨b3, b4⟩ := b2
  have q1 : q ∉ l1 := fun e => hq (List.mem_append_left _ e)
  have q2 : q ∉ l2 := fun e => hq (List.mem_append_right _ (List.mem_cons_of_mem _ e))
  have nd1 := (List.nodup_append.mp n3).1
  have nd2 := (List.nodup_append.mp n3).2.1
  -- who stands ahead
  have hA : (bf s = none ∧ l1 = []) ∨ ∃ l0 z, l1 = l0 ++ [z] ∧ bf s = some z := by
    cases l1 with
    | nil => exact Or.inl ⟨b3, rfl⟩
    | cons a t =>
      obtain ⟨l0, z, hz⟩ := ex_last (l := a :: t) rfl
      refine Or.inr ⟨l0, z, hz, ?_⟩
      rw [hz, lstO_snoc] at b3
      exact b3
  -- who stands behind
  have hB : (af s = none ∧ l2 = []) ∨ ∃ c t, l2 = c :: t ∧ af s = some c := by
    cases l2 with
    | nil => exact Or.inl ⟨g4, rfl⟩
    | cons c t => exact Or.inr ⟨c, t, rfl, g4.1⟩
  refine ⟨?_, ?_, ?_, ?_⟩
  · rcases hA with ⟨e, rfl⟩ | ⟨l0, z, rfl, e⟩
    · rw [e]
      refine ⟨rfl, ?_⟩
      show seg (va_up af q (af s)) (va_up af q (af s) q) l2 none
      rw [up_same]
      exact seg_congr (fun a ha => up_ne (fun e => q2 (by rw [← e]; exact ha))) g4
    · rw [e]
      have hz : z ∉ l0 := fun e => (List.nodup_append.mp nd1).2.2 z e z List.mem_cons_self rfl
      have nqz : q ≠ z := fun e => q1 (by rw [e]; exact List.mem_append_right _ List.mem_cons_self)
      show seg (va_up (va_up af q (af s)) z (some q)) hd ((l0 ++ [z]) ++ q :: l2) none
      refine seg_app.mpr ⟨some q, seg_last (seg_congr (fun a ha => up_ne (fun e => q1 (by rw [← e]; exact ha))) g1) hz, rfl, ?_⟩
      rw [up_ne nqz, up_same]
      refine seg_congr (fun a ha => ?_) g4
      rw [up_ne (fun e => n4 z (List.mem_append_right _ List.mem_cons_self) (by rw [← e]; exact ha)), up_ne (fun e => q2 (by rw [← e]; exact ha))]
  · rcases hB with ⟨e, rfl⟩ | ⟨c, t, rfl, e⟩
    · rw [e]
      refine bck_app.mpr ⟨bck_congr (fun a ha => up_ne (fun e => q1 (by rw [← e]; exact ha))) b1, ?_, trivial⟩
      show va_up bf q (bf s) q = _
      rw [up_same]
      exact b3
    · rw [e]
      have nqc : q ≠ c := fun e => q2 (by rw [e]; exact List.mem_cons_self)
      show bck (va_up (va_up bf q (bf s)) c (some q)) none (l1 ++ q :: c :: t)
      refine bck_app.mpr ⟨bck_congr (fun a ha => ?_) b1, ?_, up_same _ _ _, bck_congr (fun a ha => ?_) b4.2⟩
      · rw [up_ne (fun e => n4 a ha (by rw [e]; exact List.mem_cons_self)), up_ne (fun e => q1 (by rw [← e]; exact ha))]
      · rw [up_ne nqc, up_same]
        exact b3
      · rw [up_ne (fun e => (List.nodup_cons.mp nd2).1 (by rw [← e]; exact ha)), up_ne (fun e => q2 (by rw [← e]; exact List.mem_cons_of_mem _ ha))]
  · rcases hB with ⟨e, rfl⟩ | ⟨c, t, rfl, e⟩
    · rw [e, lstO_app]; rfl
    · rw [e]
      show tl = _
      rw [h3, lstO_app, lstO_app]
      rfl
  · refine List.nodup_append.mpr ⟨nd1, List.nodup_cons.mpr ⟨q2, nd2⟩, fun a ha b hb e => ?_⟩
    subst e
    rcases List.mem_cons.mp hb with hb | hb
    · exact q1 (by rw [← hb]; exact ha)
    · exact n4 a ha hb
theorem lkr_up {f : Nat → Option Nat} {q : Nat} {z o p : Option Nat} : lkr (va_up f q z) q o p = lkr f q o p := by
  unfold lkr
  split <;> rw [up_up]
theorem lnk_tl {bf af : Nat → Option Nat} {hd : Option Nat} {t : Nat} {ord : List Nat} (h : lnk bf af hd (some t) ord) : t ∈ ord := by
  obtain ⟨l0, rfl⟩ := lstO_some h.2.2.1.symm
  exact List.mem_append_right _ List.mem_cons_self
theorem lnk_bf {bf af : Nat → Option Nat} {hd tl : Option Nat} {ord : List Nat} (h : lnk bf af hd tl ord) {s b : Nat} (hs : s ∈ ord) (e : bf s = some b) : b ∈ ord ∧ b ≠ s := by
  obtain ⟨l1, l2, rfl⟩ := List.append_of_mem hs
  obtain ⟨n1, -⟩ := nd_split h.2.2.2
  obtain ⟨b1, b2⟩ := bck_app.mp h.2.1
  have b3 := b2.1
  cases l1 with
  | nil => rw [e] at b3; cases (show some b = none from b3)
  | cons a t =>
    obtain ⟨l0, z, hz⟩ := ex_last (l := a :: t) rfl
    rw [hz, lstO_snoc] at b3
    obtain rfl : b = z := Option.some.inj (e.symm.trans b3)
    have hm : b ∈ a :: t := by rw [hz]; exact List.mem_append_right _ List.mem_cons_self
    exact ⟨List.mem_append_left _ hm, fun q => n1 (by rw [← q]; exact hm)⟩
theorem lnk_af {bf af : Nat → Option Nat} {hd tl : Option Nat} {ord : List Nat} (h : lnk bf af hd tl ord) {s b : Nat} (hs : s ∈ ord) (e : af s = some b) : b ∈ ord ∧ b ≠ s := by
  obtain ⟨l1, l2, rfl⟩ := List.append_of_mem hs
  obtain ⟨-, n2, -⟩ := nd_split h.2.2.2
  obtain ⟨p, g1, g2⟩ := seg_app.mp h.1
  have g4 := g2.2
  cases l2 with
  | nil => rw [e] at g4; cases (show some b = none from g4)
  | cons c t =>
    obtain rfl : b = c := Option.some.inj (e.symm.trans g4.1)
    exact ⟨List.mem_append_right _ (List.mem_cons_of_mem _ List.mem_cons_self), fun q => n2 (by rw [← q]; exact List.mem_cons_self)⟩
