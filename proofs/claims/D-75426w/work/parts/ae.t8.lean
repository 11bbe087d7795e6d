/-! ===== plain: a node is put into a bin ===== -/
set_option maxRecDepth 100000
/-- a new node q stands in a bin: its nodes were Lb, are Ns -/
def insI (L ord : List Nat) (kd : Nat → Bool) (hs : Nat → Int32) (ky vl : Nat → Nat) (nx pa lf rt pv : Nat → Option Nat) (Lb : List Nat) (q : Nat) (h9 : Int32) (k9 v9 : Nat) (kd' : Nat → Bool) (hs' : Nat → Int32) (ky' vl' : Nat → Nat) (nx' bf' af' pa' lf' rt' pv' : Nat → Option Nat) (hd' : Option Nat) (Ns : List Nat) : Prop :=
  q ∉ L ∧ (∀ a, a ∈ L → kd' a = kd a ∧ hs' a = hs a ∧ ky' a = ky a ∧ vl' a = vl a) ∧ (∀ a, a ∈ L → a ∉ Lb → nx' a = nx a ∧ pa' a = pa a ∧ lf' a = lf a ∧ rt' a = rt a ∧ pv' a = pv a) ∧ lnk bf' af' hd' (some q) (ord ++ [q]) ∧ (∀ a, a ∈ Ns ↔ a ∈ Lb ∨ a = q) ∧ hs' q = h9 ∧ ky' q = k9 ∧ vl' q = v9
/-- q comes behind p in a list -/
theorem ins_seg {nx : Nat → Option Nat} {o : Option Nat} {l1 l2 : List Nat} {p q : Nat} (h : seg nx o (l1 ++ p :: l2) none) (hnd : (l1 ++ p :: l2).Nodup) (hq : q ∉ l1 ++ p :: l2) : seg (va_up (va_up nx q (nx p)) p (some q)) o (l1 ++ p :: q :: l2) none := by
  obtain ⟨n1, n2, n3, n4⟩ := nd_split hnd
  obtain ⟨r, h1, h2⟩ := seg_app.mp h
  obtain ⟨h3, h4⟩ := h2
  have q1 : q ∉ l1 := fun e => hq (List.mem_append_left _ e)
  have qp : q ≠ p := fun e => hq (by rw [e]; exact List.mem_append_right _ List.mem_cons_self)
  have q2 : q ∉ l2 := fun e => hq (List.mem_append_right _ (List.mem_cons_of_mem _ e))
  refine seg_app.mpr ⟨r, seg_congr (fun a ha => ?_) h1, h3, ?_, ?_⟩
  · rw [up_ne (fun e => n1 (by rw [← e]; exact ha)), up_ne (fun e => q1 (by rw [← e]; exact ha))]
  · exact up_same _ _ _
  · rw [up_ne qp, up_same]
    refine seg_congr (fun a ha => ?_) h4
    rw [up_ne (fun e => n2 (by rw [← e]; exact ha)), up_ne (fun e => q2 (by rw [← e]; exact ha))]
theorem ins_bck {nx pv : Nat → Option Nat} {o : Option Nat} {l1 l2 : List Nat} {p q : Nat} (h : seg nx o (l1 ++ p :: l2) none) (hb : bck pv none (l1 ++ p :: l2)) (hnd : (l1 ++ p :: l2).Nodup) (hq : q ∉ l1 ++ p :: l2) : bck (pvm (va_up pv q (some p)) (nx p) q) none (l1 ++ p :: q :: l2) := by
  obtain ⟨n1, n2, n3, n4⟩ := nd_split hnd
  obtain ⟨r, h1, h2⟩ := seg_app.mp h
  obtain ⟨h3, h4⟩ := h2
  obtain ⟨b1, b2⟩ := bck_app.mp hb
  obtain ⟨b3, b4⟩ := b2
  have q1 : q ∉ l1 := fun e => hq (List.mem_append_left _ e)
  have qp : q ≠ p := fun e => hq (by rw [e]; exact List.mem_append_right _ List.mem_cons_self)
  have q2 : q ∉ l2 := fun e => hq (List.mem_append_right _ (List.mem_cons_of_mem _ e))
  have nd2 := (List.nodup_append.mp n3).2.1
  -- who stands behind p
  have key : ∀ a, a ≠ q → (∀ c, nx p = some c → a ≠ c) → pvm (va_up pv q (some p)) (nx p) q a = pv a := by
    intro a na nc
    rw [pvm_ne nc, up_ne na]
  have hc : ∀ c, nx p = some c → ∃ t, l2 = c :: t := fun c e => seg_some (by rw [← e]; exact h4)
  have k1 : ∀ a, a ∈ l1 → pvm (va_up pv q (some p)) (nx p) q a = pv a := fun a ha => key a (fun e => q1 (by rw [← e]; exact ha)) (fun c e e2 => by
    obtain ⟨t, ht⟩ := hc c e
    exact n4 a ha (by rw [ht, e2]; exact List.mem_cons_self))
  refine bck_app.mpr ⟨bck_congr k1 b1, ?_, ?_, ?_⟩
  · rw [key p (Ne.symm qp) (fun c e e2 => by
      obtain ⟨t, ht⟩ := hc c e
      exact n2 (by rw [ht, e2]; exact List.mem_cons_self))]
    exact b3
  · cases hy : nx p with
    | none => exact up_same _ _ _
    | some y =>
      obtain ⟨t, ht⟩ := hc y hy
      show va_up (va_up pv q (some p)) y (some q) q = some p
      rw [up_ne (fun e => q2 (by rw [ht, e]; exact List.mem_cons_self))]
      exact up_same _ _ _
  · cases hl2 : l2 with
    | nil => trivial
    | cons c t =>
      rw [hl2] at h4 b4 nd2 q2
      have hy : nx p = some c := h4.1
      refine ⟨?_, bck_congr (fun a ha => key a (fun e => q2 (by rw [← e]; exact List.mem_cons_of_mem _ ha)) (fun c' e e2 => ?_)) b4.2⟩
      · rw [hy]
        exact up_same _ _ _
      · rw [hy] at e
        rw [← Option.some.inj e] at e2
        exact (List.nodup_cons.mp nd2).1 (by rw [← e2]; exact ha)
theorem ins_nd {l1 l2 : List Nat} {p q : Nat} (hnd : (l1 ++ p :: l2).Nodup) (hq : q ∉ l1 ++ p :: l2) : (l1 ++ p :: q :: l2).Nodup := by
  obtain ⟨n1, n2, n3, n4⟩ := nd_split hnd
  have q1 : q ∉ l1 := fun e => hq (List.mem_append_left _ e)
  have qp : q ≠ p := fun e => hq (by rw [e]; exact List.mem_append_right _ List.mem_cons_self)
  have q2 : q ∉ l2 := fun e => hq (List.mem_append_right _ (List.mem_cons_of_mem _ e))
  refine List.nodup_append.mpr ⟨(List.nodup_append.mp n3).1, List.nodup_cons.mpr ⟨fun e => ?_, List.nodup_cons.mpr ⟨q2, (List.nodup_append.mp n3).2.1⟩⟩, fun a ha b hb e => ?_⟩
  · rcases List.mem_cons.mp e with e | e
    · exact qp e.symm
    · exact n2 e
  · subst e
    rcases List.mem_cons.mp hb with hb | hb
    · exact n1 (by rw [← hb]; exact ha)
    · rcases List.mem_cons.mp hb with hb | hb
      · exact q1 (by rw [← hb]; exact ha)
      · exact n4 a ha hb
theorem ins_mem {l1 l2 : List Nat} {p q a : Nat} : a ∈ l1 ++ p :: q :: l2 ↔ a ∈ l1 ++ p :: l2 ∨ a = q := by
  simp only [List.mem_append, List.mem_cons]
  constructor
  · rintro (h | h | h | h)
    · exact Or.inl (Or.inl h)
    · exact Or.inl (Or.inr (Or.inl h))
    · exact Or.inr h
    · exact Or.inl (Or.inr (Or.inr h))
  · rintro ((h | h | h) | h)
    · exact Or.inl h
    · exact Or.inr (Or.inl h)
    · exact Or.inr (Or.inr (Or.inr h))
    · exact Or.inr (Or.inr (Or.inl h))
theorem mid_mem {l1 l2 : List Nat} {r a : Nat} : a ∈ r :: (l1 ++ l2) ↔ a ∈ l1 ++ r :: l2 := by
  simp only [List.mem_append, List.mem_cons]
  constructor
  · rintro (h | h | h)
    · exact Or.inr (Or.inl h)
    · exact Or.inl h
    · exact Or.inr (Or.inr h)
  · rintro (h | h | h)
    · exact Or.inr (Or.inl h)
    · exact Or.inl h
    · exact Or.inr (Or.inr h)
