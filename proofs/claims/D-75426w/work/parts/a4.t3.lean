/-! ===== plain: chains of nodes ===== -/
set_option maxRecDepth 100000
/-- from o on the nodes l follow one another by nx; then comes o' -/
def seg (nx : Nat → Option Nat) : Option Nat → List Nat → Option Nat → Prop
  | o, [], o' => o = o'
  | o, a :: l, o' => o = some a ∧ seg nx (nx a) l o'
/-- pv says who stands ahead of each -/
def bck (pv : Nat → Option Nat) : Option Nat → List Nat → Prop
  | _, [] => True
  | p, a :: l => pv a = p ∧ bck pv (some a) l
def lstO : Option Nat → List Nat → Option Nat
  | p, [] => p
  | _, a :: l => lstO (some a) l
theorem seg_app {nx : Nat → Option Nat} {m : List Nat} {o' : Option Nat} : ∀ {l : List Nat} {o : Option Nat}, seg nx o (l ++ m) o' ↔ ∃ p, seg nx o l p ∧ seg nx p m o' := by
  intro l
  induction l with
  | nil =>
    intro o
    constructor
    · intro h; exact ⟨o, rfl, h⟩
    · rintro ⟨p, h1, h2⟩; obtain rfl : o = p := h1; exact h2
  | cons a l ih =>
    intro o
    constructor
    · rintro ⟨h1, h2⟩
      obtain ⟨p, g1, g2⟩ := ih.mp h2
      exact ⟨p, ⟨h1, g1⟩, g2⟩
    · rintro ⟨p, ⟨h1, g1⟩, g2⟩
      exact ⟨h1, ih.mpr ⟨p, g1, g2⟩⟩
theorem seg_congr {nx nx' : Nat → Option Nat} {o' : Option Nat} : ∀ {l : List Nat} {o : Option Nat}, (∀ a, a ∈ l → nx' a = nx a) → seg nx o l o' → seg nx' o l o' := by
  intro l
  induction l with
  | nil => intro o _ h; exact h
  | cons a l ih =>
    intro o hc h
    refine ⟨h.1, ?_⟩
    rw [hc a List.mem_cons_self]
    exact ih (fun b hb => hc b (List.mem_cons_of_mem _ hb)) h.2
theorem bck_app {pv : Nat → Option Nat} {m : List Nat} : ∀ {l : List Nat} {p : Option Nat}, bck pv p (l ++ m) ↔ bck pv p l ∧ bck pv (lstO p l) m := by
  intro l
  induction l with
  | nil => intro p; exact ⟨fun h => ⟨trivial, h⟩, fun h => h.2⟩
  | cons a l ih =>
    intro p
    constructor
    · rintro ⟨h1, h2⟩
      obtain ⟨g1, g2⟩ := ih.mp h2
      exact ⟨⟨h1, g1⟩, g2⟩
    · rintro ⟨⟨h1, g1⟩, g2⟩
      exact ⟨h1, ih.mpr ⟨g1, g2⟩⟩
theorem bck_congr {pv pv' : Nat → Option Nat} : ∀ {l : List Nat} {p : Option Nat}, (∀ a, a ∈ l → pv' a = pv a) → bck pv p l → bck pv' p l := by
  intro l
  induction l with
  | nil => intro p _ _; trivial
  | cons a l ih =>
    intro p hc h
    exact ⟨(hc a List.mem_cons_self).trans h.1, ih (fun b hb => hc b (List.mem_cons_of_mem _ hb)) h.2⟩
theorem lstO_snoc {z : Nat} : ∀ {l : List Nat} {p : Option Nat}, lstO p (l ++ [z]) = some z := by
  intro l
  induction l with
  | nil => intro p; rfl
  | cons a l ih => intro p; exact ih
theorem nd_fl {p : Nat → Bool} {l : List Nat} (h : l.Nodup) : (l.filter p).Nodup := List.Pairwise.sublist List.filter_sublist h
theorem seg_hd {nx : Nat → Option Nat} {a : Nat} {l : List Nat} {o o' : Option Nat} (h : seg nx o (a :: l) o') : o = some a := h.1
/-- the last one gets another next -/
theorem seg_last {nx : Nat → Option Nat} {l : List Nat} {z : Nat} {o o' o2 : Option Nat} (h : seg nx o (l ++ [z]) o') (hz : z ∉ l) : seg (va_up nx z o2) o (l ++ [z]) o2 := by
  obtain ⟨p, h1, h2⟩ := seg_app.mp h
  refine seg_app.mpr ⟨p, seg_congr (fun a ha => up_ne (fun e => hz (by rw [← e]; exact ha))) h1, h2.1, ?_⟩
  exact up_same _ _ _
theorem nd_split {l1 l2 : List Nat} {r : Nat} (h : (l1 ++ r :: l2).Nodup) : r ∉ l1 ∧ r ∉ l2 ∧ (l1 ++ l2).Nodup ∧ (∀ a, a ∈ l1 → a ∉ l2) := by
  rw [List.nodup_append] at h
  obtain ⟨h1, h2, h3⟩ := h
  obtain ⟨h4, h5⟩ := List.nodup_cons.mp h2
  refine ⟨fun e => h3 r e r List.mem_cons_self rfl, h4, List.nodup_append.mpr ⟨h1, h5, fun a ha b hb => h3 a ha b (List.mem_cons_of_mem _ hb)⟩, fun a ha hb => h3 a ha a (List.mem_cons_of_mem _ hb) rfl⟩
/-- r is taken to the front: the next ones -/
theorem mrf_seg {nx : Nat → Option Nat} {l2 : List Nat} {f r z : Nat} {l1 l0 : List Nat} (hl1 : l1 = f :: l1.tail) (hl0 : l1 = l0 ++ [z]) (h : seg nx (some f) (l1 ++ r :: l2) none) (hnd : (l1 ++ r :: l2).Nodup) : seg (va_up (va_up nx z (nx r)) r (some f)) (some r) (r :: (l1 ++ l2)) none := by
  obtain ⟨n1, n2, n3, n4⟩ := nd_split hnd
  obtain ⟨p, h1, h2⟩ := seg_app.mp h
  obtain ⟨h3, h4⟩ := h2
  refine ⟨rfl, ?_⟩
  rw [up_same]
  have hz1 : z ∈ l1 := by rw [hl0]; exact List.mem_append_right _ List.mem_cons_self
  have hz0 : z ∉ l0 := by
    intro e
    have h9 := (List.nodup_append.mp n3).1
    rw [hl0] at h9
    exact (List.nodup_append.mp h9).2.2 z e z List.mem_cons_self rfl
  have g1 : seg (va_up nx z (nx r)) (some f) l1 (nx r) := by
    rw [hl0] at h1 ⊢
    exact seg_last h1 hz0
  have g2 : seg (va_up nx z (nx r)) (nx r) l2 none := seg_congr (fun a ha => up_ne (fun e => n4 z hz1 (by rw [← e]; exact ha))) h4
  refine seg_congr (fun a ha => up_ne (fun e => ?_)) (seg_app.mpr ⟨_, g1, g2⟩)
  rw [e] at ha
  rcases List.mem_append.mp ha with ha | ha
  · exact n1 ha
  · exact n2 ha
/-- the one behind r gets z ahead of it -/
def pvm (pv : Nat → Option Nat) (o : Option Nat) (z : Nat) : Nat → Option Nat := match o with
  | none => pv
  | some y => va_up pv y (some z)
theorem pvm_ne {pv : Nat → Option Nat} {o : Option Nat} {z a : Nat} (h : ∀ y, o = some y → a ≠ y) : pvm pv o z a = pv a := by
  cases o with
  | none => rfl
  | some y => exact up_ne (h y rfl)
theorem mrf_bck {nx pv : Nat → Option Nat} {l2 : List Nat} {f r z : Nat} {l1 l0 : List Nat} (hl1 : l1 = f :: l1.tail) (hl0 : l1 = l0 ++ [z]) (h : seg nx (some f) (l1 ++ r :: l2) none) (hb : bck pv none (l1 ++ r :: l2)) (hnd : (l1 ++ r :: l2).Nodup) : bck (va_up (va_up (pvm pv (nx r) z) f (some r)) r none) none (r :: (l1 ++ l2)) := by
  obtain ⟨n1, n2, n3, n4⟩ := nd_split hnd
  obtain ⟨p, h1, h2⟩ := seg_app.mp h
  obtain ⟨h3, h4⟩ := h2
  obtain ⟨b1, b2⟩ := bck_app.mp hb
  obtain ⟨b3, b4⟩ := b2
  have nd1 := (List.nodup_append.mp n3).1
  have nd2 := (List.nodup_append.mp n3).2.1
  refine ⟨up_same _ _ _, ?_⟩
  refine bck_congr (pv := va_up (pvm pv (nx r) z) f (some r)) (fun a ha => up_ne (fun e => ?_)) ?_
  · rw [e] at ha
    rcases List.mem_append.mp ha with ha | ha
    · exact n1 ha
    · exact n2 ha
  · have hf : f ∉ l2 := n4 f (by rw [hl1]; exact List.mem_cons_self)
    refine bck_app.mpr ⟨?_, ?_⟩
    · rw [hl1] at b1 nd1 ⊢
      refine ⟨up_same _ _ _, ?_⟩
      refine bck_congr (fun a ha => ?_) b1.2
      have na : a ≠ f := fun e => (List.nodup_cons.mp nd1).1 (by rw [← e]; exact ha)
      rw [up_ne na]
      refine pvm_ne (fun y hy e => ?_)
      · rw [hy] at h4
        cases l2 with
        | nil => cases (show some y = none from h4)
        | cons c l2 =>
          obtain rfl : y = c := Option.some.inj h4.1
          exact n4 a (by rw [hl1]; exact List.mem_cons_of_mem _ ha) (by rw [e]; exact List.mem_cons_self)
    · have hl : lstO (some r) l1 = some z := by rw [hl0]; exact lstO_snoc
      rw [hl]
      cases l2 with
      | nil => trivial
      | cons c l2 =>
        have hy : nx r = some c := h4.1
        have nc : c ≠ f := fun e => hf (by rw [← e]; exact List.mem_cons_self)
        refine ⟨?_, ?_⟩
        · rw [up_ne nc, hy]
          exact up_same _ _ _
        · refine bck_congr (fun a ha => ?_) b4.2
          have na : a ≠ f := fun e => hf (by rw [← e]; exact List.mem_cons_of_mem _ ha)
          have nc2 : a ≠ c := fun e => (List.nodup_cons.mp nd2).1 (by rw [← e]; exact ha)
          rw [up_ne na, hy]
          exact up_ne nc2
theorem up_idv {α : Type} {f : Nat → α} {k : Nat} {v : α} (h : f k = v) : va_up f k v = f := by rw [← h, up_id]
theorem ex_last {l : List Nat} {f : Nat} {t : List Nat} (h : l = f :: t) : ∃ l0 z, l = l0 ++ [z] := ⟨l.dropLast, l.getLast (by rw [h]; exact List.cons_ne_nil _ _), (List.dropLast_concat_getLast _).symm⟩
theorem bck_at {pv : Nat → Option Nat} {l0 l2 : List Nat} {z r : Nat} {p : Option Nat} (h : bck pv p ((l0 ++ [z]) ++ r :: l2)) : pv r = some z := by
  have h9 := (bck_app.mp h).2
  rw [lstO_snoc] at h9
  exact h9.1
theorem seg_at {nx : Nat → Option Nat} {l1 l2 : List Nat} {r y : Nat} {o : Option Nat} (h : seg nx o (l1 ++ r :: l2) none) (hy : nx r = some y) : ∃ t, l2 = y :: t := by
  obtain ⟨p, h1, h2⟩ := seg_app.mp h
  have h4 := h2.2
  cases l2 with
  | nil => rw [hy] at h4; cases (show some y = none from h4)
  | cons c t =>
    obtain rfl : y = c := Option.some.inj (hy.symm.trans h4.1)
    exact ⟨t, rfl⟩
theorem oF.pa {T : Nat → Prop} {pa lf rt pa1 lf1 rt1 : Nat → Option Nat} {rd rd1 : Nat → Int32} (h : oF T pa lf rt rd pa1 lf1 rt1 rd1) {x : Nat} (hx : T x) {v : Option Nat} : oF T pa lf rt rd (va_up pa1 x v) lf1 rt1 rd1 := fun a na => by
  obtain ⟨a1, a2, a3, a4⟩ := h a na
  exact ⟨(up_ne (fun z => na (by rw [z]; exact hx))).trans a1, a2, a3, a4⟩
theorem oF.lf {T : Nat → Prop} {pa lf rt pa1 lf1 rt1 : Nat → Option Nat} {rd rd1 : Nat → Int32} (h : oF T pa lf rt rd pa1 lf1 rt1 rd1) {x : Nat} (hx : T x) {v : Option Nat} : oF T pa lf rt rd pa1 (va_up lf1 x v) rt1 rd1 := fun a na => by
  obtain ⟨a1, a2, a3, a4⟩ := h a na
  exact ⟨a1, (up_ne (fun z => na (by rw [z]; exact hx))).trans a2, a3, a4⟩
theorem oF.rt {T : Nat → Prop} {pa lf rt pa1 lf1 rt1 : Nat → Option Nat} {rd rd1 : Nat → Int32} (h : oF T pa lf rt rd pa1 lf1 rt1 rd1) {x : Nat} (hx : T x) {v : Option Nat} : oF T pa lf rt rd pa1 lf1 (va_up rt1 x v) rd1 := fun a na => by
  obtain ⟨a1, a2, a3, a4⟩ := h a na
  exact ⟨a1, a2, (up_ne (fun z => na (by rw [z]; exact hx))).trans a3, a4⟩
theorem oF.imp {T T' : Nat → Prop} {pa lf rt pa1 lf1 rt1 : Nat → Option Nat} {rd rd1 : Nat → Int32} (h : oF T pa lf rt rd pa1 lf1 rt1 rd1) (hT : ∀ a, T a → T' a) : oF T' pa lf rt rd pa1 lf1 rt1 rd1 := fun a na => h a (fun q => na (hT a q))
