/-! ===== plain: cells and their visits, as the map holds them ===== -/
set_option maxRecDepth 100000
/-- Z's cells stand at e.1 with their visits at e.2 -/
def vsI (cc dd : Nat → Int32) (ct : Nat → Nat) : clT → List (Nat × Nat) → Prop
  | [], [] => True
  | q :: Z, e :: E => cc e.1 = q.1.toInt32 ∧ dd e.1 = q.2.1.toInt32 ∧ ct e.2 = q.2.2 ∧ vsI cc dd ct Z E
  | [], _ :: _ => False
  | _ :: _, [] => False
def vsD (cc dd : Nat → Int32) (E : List (Nat × Nat)) : List (Int32 × Nat × Nat) := E.map (fun e => (hsh (cc e.1) (dd e.1), e.1, e.2))
def inC (x : Int64) : Prop := -400 ≤ x.toInt ∧ x.toInt ≤ 400
theorem inC.i32 {x : Int64} (h : inC x) : x.toInt32.toInt = x.toInt := i32_i (by unfold inC at h; omega) (by unfold inC at h; omega)
theorem inC.rg {x : Int64} (h : inC x) : -400 ≤ x.toInt32.toInt ∧ x.toInt32.toInt ≤ 400 := by rw [h.i32]; exact h
theorem inC.inj {x y : Int64} (hx : inC x) (hy : inC y) (h : x.toInt32 = y.toInt32) : x = y := Int64.toInt_inj.mp (by rw [← hx.i32, ← hy.i32, h])
theorem vsI.congr {cc dd cc' dd' : Nat → Int32} {ct ct' : Nat → Nat} : ∀ {Z : clT} {E : List (Nat × Nat)}, vsI cc dd ct Z E → (∀ e, e ∈ E → cc' e.1 = cc e.1 ∧ dd' e.1 = dd e.1 ∧ ct' e.2 = ct e.2) → vsI cc' dd' ct' Z E := by
  intro Z
  induction Z with
  | nil =>
    intro E h _
    cases E with
    | nil => trivial
    | cons e E => exact h.elim
  | cons q Z ih =>
    intro E h he
    cases E with
    | nil => exact h.elim
    | cons e E =>
      obtain ⟨h1, h2, h3, h4⟩ := h
      obtain ⟨e1, e2, e3⟩ := he e List.mem_cons_self
      exact ⟨e1.trans h1, e2.trans h2, e3.trans h3, ih h4 (fun e ha => he e (List.mem_cons_of_mem _ ha))⟩
theorem vsI.len {cc dd : Nat → Int32} {ct : Nat → Nat} : ∀ {Z : clT} {E : List (Nat × Nat)}, vsI cc dd ct Z E → E.length = Z.length := by
  intro Z
  induction Z with
  | nil =>
    intro E h
    cases E with
    | nil => rfl
    | cons e E => exact h.elim
  | cons q Z ih =>
    intro E h
    cases E with
    | nil => exact h.elim
    | cons e E => exact congrArg (· + 1) (ih h.2.2.2)
theorem vs_hit {cc dd : Nat → Int32} {ct : Nat → Nat} {x y : Int64} : ∀ {Z : clT} {E : List (Nat × Nat)}, vsI cc dd ct Z E → (E.map (fun e => e.2)).Nodup → (∃ q, q ∈ Z ∧ q.1 = x ∧ q.2.1 = y) → ∃ e, e ∈ E ∧ cc e.1 = x.toInt32 ∧ dd e.1 = y.toInt32 ∧ vsI cc dd (va_up ct e.2 (ct e.2 + 1)) (clA Z x y) E := by
  intro Z
  induction Z with
  | nil => rintro E _ _ ⟨q, hq, -⟩; exact absurd hq List.not_mem_nil
  | cons q Z ih =>
    intro E h hn hx
    cases E with
    | nil => exact h.elim
    | cons e E =>
      obtain ⟨h1, h2, h3, h4⟩ := h
      rw [List.map_cons] at hn
      obtain ⟨n1, n2⟩ := List.nodup_cons.mp hn
      by_cases hq : q.1 = x ∧ q.2.1 = y
      · refine ⟨e, List.mem_cons_self, by rw [h1, hq.1], by rw [h2, hq.2], ?_⟩
        rw [clA, if_pos hq]
        refine ⟨h1, h2, (up_same _ _ _).trans (by rw [h3]), h4.congr (fun e9 ha => ⟨rfl, rfl, up_ne (fun q9 => n1 (by rw [← q9]; exact List.mem_map.mpr ⟨e9, ha, rfl⟩))⟩)⟩
      · obtain ⟨e9, g1, g2, g3, g4⟩ := ih h4 n2 (by
          obtain ⟨q9, hm, hq9⟩ := hx
          rcases List.mem_cons.mp hm with hm | hm
          · rw [hm] at hq9; exact absurd hq9 hq
          · exact ⟨q9, hm, hq9⟩)
        refine ⟨e9, List.mem_cons_of_mem _ g1, g2, g3, ?_⟩
        rw [clA, if_neg hq]
        exact ⟨h1, h2, (up_ne (fun q9 => n1 (by rw [q9]; exact List.mem_map.mpr ⟨e9, g1, rfl⟩))).trans h3, g4⟩
theorem vs_new {cc dd : Nat → Int32} {ct : Nat → Nat} {x y : Int64} {a v : Nat} (hc : cc a = x.toInt32) (hd : dd a = y.toInt32) (ht : ct v = 1) : ∀ {Z : clT} {E : List (Nat × Nat)}, vsI cc dd ct Z E → (∀ q, q ∈ Z → ¬ (q.1 = x ∧ q.2.1 = y)) → vsI cc dd ct (clA Z x y) (E ++ [(a, v)]) := by
  intro Z
  induction Z with
  | nil =>
    intro E h _
    cases E with
    | nil => exact ⟨hc, hd, ht, trivial⟩
    | cons e E => exact h.elim
  | cons q Z ih =>
    intro E h hn
    cases E with
    | nil => exact h.elim
    | cons e E =>
      obtain ⟨h1, h2, h3, h4⟩ := h
      rw [clA, if_neg (hn q List.mem_cons_self)]
      exact ⟨h1, h2, h3, ih h4 (fun q9 hq => hn q9 (List.mem_cons_of_mem _ hq))⟩
/-- the hash of no cell of the map -/
theorem vs_out {cc dd : Nat → Int32} {ct : Nat → Nat} {x y : Int64} (hx : inC x) (hy : inC y) : ∀ {Z : clT} {E : List (Nat × Nat)}, vsI cc dd ct Z E → (∀ q, q ∈ Z → inC q.1 ∧ inC q.2.1) → (∀ q, q ∈ Z → ¬ (q.1 = x ∧ q.2.1 = y)) → hsh x.toInt32 y.toInt32 ∉ (vsD cc dd E).map (fun q => q.1) := by
  intro Z
  induction Z with
  | nil =>
    intro E h _ _
    cases E with
    | nil => exact List.not_mem_nil
    | cons e E => exact h.elim
  | cons q Z ih =>
    intro E h hr hn
    cases E with
    | nil => exact h.elim
    | cons e E =>
      obtain ⟨h1, h2, h3, h4⟩ := h
      intro hm
      rcases List.mem_cons.mp (show _ ∈ hsh (cc e.1) (dd e.1) :: (vsD cc dd E).map (fun q => q.1) from hm) with he | he
      · obtain ⟨r1, r2⟩ := hr q List.mem_cons_self
        rw [h1, h2] at he
        obtain ⟨e1, e2⟩ := hsh_inj hx.rg hy.rg r1.rg r2.rg he
        exact hn q List.mem_cons_self ⟨r1.inj hx e1.symm, r2.inj hy e2.symm⟩
      · exact ih h4 (fun q9 hq => hr q9 (List.mem_cons_of_mem _ hq)) (fun q9 hq => hn q9 (List.mem_cons_of_mem _ hq)) he
theorem vsD_congr {cc dd cc' dd' : Nat → Int32} {E : List (Nat × Nat)} (h : ∀ e, e ∈ E → cc' e.1 = cc e.1 ∧ dd' e.1 = dd e.1) : vsD cc' dd' E = vsD cc dd E := List.map_congr_left (fun e he => by rw [(h e he).1, (h e he).2])
theorem vsD_mem {cc dd : Nat → Int32} {E : List (Nat × Nat)} {e : Nat × Nat} (h : e ∈ E) : (hsh (cc e.1) (dd e.1), e.1, e.2) ∈ vsD cc dd E := List.mem_map.mpr ⟨e, h, rfl⟩
theorem vsD_app {cc dd : Nat → Int32} {E : List (Nat × Nat)} {a v : Nat} : vsD cc dd (E ++ [(a, v)]) = vsD cc dd E ++ [(hsh (cc a) (dd a), a, v)] := List.map_append
theorem clA_in {x y : Int64} (hx : inC x) (hy : inC y) : ∀ {Z : clT}, (∀ q, q ∈ Z → inC q.1 ∧ inC q.2.1) → ∀ q, q ∈ clA Z x y → inC q.1 ∧ inC q.2.1 := by
  intro Z
  induction Z with
  | nil => intro _ q hq; rw [clA] at hq; rw [List.mem_singleton.mp hq]; exact ⟨hx, hy⟩
  | cons p Z ih =>
    intro h q hq
    rw [clA] at hq
    split at hq
    · rcases List.mem_cons.mp hq with e | e
      · rw [e]; exact h p List.mem_cons_self
      · exact h q (List.mem_cons_of_mem _ e)
    · rcases List.mem_cons.mp hq with e | e
      · rw [e]; exact h p List.mem_cons_self
      · exact ih (fun q9 h9 => h q9 (List.mem_cons_of_mem _ h9)) q e
/-! worlds with lists by name -/
theorem perm_mid3 {α : Type} {A B C : List α} : (A ++ (B ++ C)).Perm (B ++ (A ++ C)) := by
  rw [← List.append_assoc, ← List.append_assoc]
  exact List.Perm.append_right _ List.perm_append_comm
theorem xIn.pick2 {X Y w9 : xW} {V : xV} {p1 p2 : Nat × xE} (h : xIn (X ++ (w9 ++ Y)) V) (h1 : p1 ∈ X) (h2 : p2 ∈ Y) : xIn ([p1, p2] ++ w9) V := by
  obtain ⟨s, t, rfl⟩ := List.append_of_mem h1
  obtain ⟨s2, t2, rfl⟩ := List.append_of_mem h2
  have e1 : (s ++ p1 :: t).Perm (p1 :: (s ++ t)) := List.perm_middle
  have e2 : (s2 ++ p2 :: t2).Perm (p2 :: (s2 ++ t2)) := List.perm_middle
  refine (h.perm (ws' := ([p1, p2] ++ w9) ++ ((s ++ t) ++ (s2 ++ t2))) ?_).left
  refine (List.Perm.append e1 (List.Perm.append_left w9 e2)).trans ?_
  refine List.Perm.cons p1 ?_
  refine (List.Perm.append_left _ List.perm_middle).trans ?_
  refine List.perm_middle.trans ?_
  refine List.Perm.cons p2 ?_
  show ((s ++ t) ++ (w9 ++ (s2 ++ t2))).Perm (w9 ++ ((s ++ t) ++ (s2 ++ t2)))
  exact perm_mid3
theorem xIn.pick1 {X Y w9 : xW} {V : xV} {p1 : Nat × xE} (h : xIn (X ++ (w9 ++ Y)) V) (h1 : p1 ∈ X) : xIn ([p1] ++ w9) V := by
  obtain ⟨s, t, rfl⟩ := List.append_of_mem h1
  have e1 : (s ++ p1 :: t).Perm (p1 :: (s ++ t)) := List.perm_middle
  refine (h.perm (ws' := ([p1] ++ w9) ++ ((s ++ t) ++ Y)) ?_).left
  refine (List.Perm.append_right _ e1).trans ?_
  refine List.Perm.cons p1 ?_
  show ((s ++ t) ++ (w9 ++ Y)).Perm (w9 ++ ((s ++ t) ++ Y))
  exact perm_mid3
theorem stW_setR {F : Nat → Prop} {V0 V : xV} {ws w9 kw : xW} {L : List Nat} {c c' : Nat → xE} (h : xSt F V0 (ws ++ (w9 ++ (kw ++ stW L c))) V) {a : Nat} (ha : a ∈ L) {e' : xE} (hc : c' = va_up c a e') : xSt F V0 (ws ++ (w9 ++ (kw ++ stW L c'))) (xset V a e') := by
  have h1 : xSt F V0 ((ws ++ (w9 ++ kw)) ++ stW L c) V := by rw [List.append_assoc, List.append_assoc]; exact h
  have h2 := stW_set h1 ha hc
  rw [List.append_assoc, List.append_assoc] at h2
  exact h2
theorem stW_absK {F : Nat → Prop} {V0 V : xV} {ws w9 vw : xW} {L : List Nat} {c c' : Nat → xE} {q : Nat} {e : xE} (h : xSt F V0 ((ws ++ [(q, e)]) ++ (w9 ++ (stW L c ++ vw))) V) (hq : c' q = e) (hc : ∀ a, a ∈ L → c' a = c a) : xSt F V0 (ws ++ (w9 ++ (stW (L ++ [q]) c' ++ vw))) V := by
  refine h.perm ?_
  rw [show stW (L ++ [q]) c' = stW L c ++ [(q, e)] from by rw [stW, List.map_append, ← hq]; exact congrArg (· ++ [(q, c' q)]) (stW_congr hc), List.append_assoc]
  refine List.Perm.append_left ws ?_
  refine perm_mid3.trans (List.Perm.append_left w9 ?_)
  rw [List.append_assoc]
  exact perm_mid3
theorem stW_absV {F : Nat → Prop} {V0 V : xV} {ws w9 kw : xW} {L : List Nat} {c c' : Nat → xE} {q : Nat} {e : xE} (h : xSt F V0 ((ws ++ [(q, e)]) ++ (w9 ++ (kw ++ stW L c))) V) (hq : c' q = e) (hc : ∀ a, a ∈ L → c' a = c a) : xSt F V0 (ws ++ (w9 ++ (kw ++ stW (L ++ [q]) c'))) V := by
  refine h.perm ?_
  rw [show stW (L ++ [q]) c' = stW L c ++ [(q, e)] from by rw [stW, List.map_append, ← hq]; exact congrArg (· ++ [(q, c' q)]) (stW_congr hc), List.append_assoc]
  refine List.Perm.append_left ws ?_
  exact perm_mid3.trans (List.Perm.append_left w9 (perm_mid3.trans (List.Perm.append_left kw List.perm_append_comm)))
