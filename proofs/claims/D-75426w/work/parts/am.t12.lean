/-! ===== plain: a map ===== -/
set_option maxRecDepth 100000
/-- how many nodes are plain -/
def plN (kd : Nat → Bool) (ord : List Nat) : Nat := (ord.filter (fun a => !kd a)).length
/-- a map's inside: D its entries in their order -/
def mpI (D : List (Int32 × Nat × Nat)) (cap th : Nat) (tf : Nat → Option Nat) (bins : Nat → List Nat) (L ord : List Nat) (kd : Nat → Bool) (hs : Nat → Int32) (ky vl : Nat → Nat) (nx bf af pa lf rt pv : Nat → Option Nat) (hd tl : Option Nat) : Prop :=
  capI cap ∧ 4 * th = 3 * cap ∧ binsI kd hs nx pa lf rt pv tf cap bins ord ∧ lnk bf af hd tl ord ∧ (∀ a, a ∈ ord → a ∈ L) ∧ ord.map (dt hs ky vl) = D ∧ (D.map (fun q => q.1)).Nodup
theorem nd_inj {hs : Nat → Int32} : ∀ {m : List Nat}, (m.map hs).Nodup → ∀ a c, a ∈ m → c ∈ m → hs a = hs c → a = c := by
  intro m
  induction m with
  | nil => intro _ a c ha; exact absurd ha List.not_mem_nil
  | cons x m ih =>
    intro h1 a c ha hc e
    rw [List.map_cons] at h1
    obtain ⟨h3, h4⟩ := List.nodup_cons.mp h1
    rcases List.mem_cons.mp ha with ha | ha
    · rcases List.mem_cons.mp hc with hc | hc
      · exact ha.trans hc.symm
      · exact absurd (List.mem_map.mpr ⟨c, hc, by rw [← e, ha]⟩) h3
    · rcases List.mem_cons.mp hc with hc | hc
      · exact absurd (List.mem_map.mpr ⟨a, ha, by rw [e, hc]⟩) h3
      · exact ih h4 a c ha hc e
section MP
variable {D : List (Int32 × Nat × Nat)} {cap th : Nat} {tf : Nat → Option Nat} {bins : Nat → List Nat} {L ord : List Nat} {kd : Nat → Bool} {hs : Nat → Int32} {ky vl : Nat → Nat} {nx bf af pa lf rt pv : Nat → Option Nat} {hd tl : Option Nat}
theorem mp_len (h : mpI D cap th tf bins L ord kd hs ky vl nx bf af pa lf rt pv hd tl) : ord.length = D.length := by rw [← h.2.2.2.2.2.1, List.length_map]
theorem mp_map (h : mpI D cap th tf bins L ord kd hs ky vl nx bf af pa lf rt pv hd tl) : ord.map hs = D.map (fun q => q.1) := by rw [← h.2.2.2.2.2.1, List.map_map]; rfl
theorem mp_inj (h : mpI D cap th tf bins L ord kd hs ky vl nx bf af pa lf rt pv hd tl) : ∀ a c, a ∈ ord → c ∈ ord → hs a = hs c → a = c := nd_inj (by rw [mp_map h]; exact h.2.2.2.2.2.2)
theorem mp_nd (h : mpI D cap th tf bins L ord kd hs ky vl nx bf af pa lf rt pv hd tl) : ord.Nodup := h.2.2.2.1.2.2.2
theorem mp_ne (h : mpI D cap th tf bins L ord kd hs ky vl nx bf af pa lf rt pv hd tl) {h9 : Int32} (hq : h9 ∉ D.map (fun q => q.1)) : ∀ a, a ∈ ord → hs a ≠ h9 := fun a ha e => hq (by rw [← mp_map h, ← e]; exact List.mem_map.mpr ⟨a, ha, rfl⟩)
theorem pl_le : plN kd ord ≤ ord.length := List.length_filter_le _ _
theorem mp_ins {kd' : Nat → Bool} {hs' : Nat → Int32} {ky' vl' : Nat → Nat} {nx' bf' af' pa' lf' rt' pv' : Nat → Option Nat} {hd' : Option Nat} {q k9 v9 b : Nat} {h9 : Int32} {o' : Option Nat} {Ns : List Nat} (h : mpI D cap th tf bins L ord kd hs ky vl nx bf af pa lf rt pv hd tl) (hq : h9 ∉ D.map (fun q => q.1)) (hb : ixN h9 cap = b) (hi : insI L ord kd hs ky vl nx pa lf rt pv (bins b) q h9 k9 v9 kd' hs' ky' vl' nx' bf' af' pa' lf' rt' pv' hd' Ns) (hB : binI kd' hs' nx' pa' lf' rt' pv' o' Ns) :
    mpI (D ++ [(h9, k9, v9)]) cap th (va_up tf b o') (va_up bins b Ns) (L ++ [q]) (ord ++ [q]) kd' hs' ky' vl' nx' bf' af' pa' lf' rt' pv' hd' (some q) ∧ plN kd' (ord ++ [q]) ≤ plN kd ord + 1 := by
  have hne := mp_ne h hq
  obtain ⟨h1, h2, ⟨h3, h4⟩, h5, h6, h7, h8⟩ := h
  obtain ⟨i1, i2, i3, i4, i5, i6, i7, i8⟩ := hi
  have hbl : b < cap := by rw [← hb]; exact ixN_lt h1
  have hsL : ∀ a, a ∈ ord → hs' a = hs a := fun a ha => (i2 a (h6 a ha)).2.1
  refine ⟨⟨h1, h2, ⟨fun c hc => ?_, fun c hc a => ?_⟩, i4, fun a ha => ?_, ?_, ?_⟩, ?_⟩
  · by_cases e : c = b
    · rw [e, up_same, up_same]; exact hB
    · rw [up_ne e, up_ne e]
      refine (h3 c hc).congr (fun a ha => ?_)
      obtain ⟨m1, m2⟩ := (h4 c hc a).mp ha
      have nb : a ∉ bins b := fun q9 => e (by rw [← m2, ← ((h4 b hbl a).mp q9).2])
      obtain ⟨e1, e2, -, -⟩ := i2 a (h6 a m1)
      exact ⟨e1, e2, i3 a (h6 a m1) nb⟩
  · by_cases e : c = b
    · rw [e, up_same, i5, h4 b hbl]
      constructor
      · rintro (⟨m1, m2⟩ | rfl)
        · exact ⟨List.mem_append_left _ m1, by rw [hsL a m1]; exact m2⟩
        · exact ⟨List.mem_append_right _ List.mem_cons_self, by rw [i6]; exact hb⟩
      · rintro ⟨m1, m2⟩
        rcases List.mem_append.mp m1 with m1 | m1
        · exact Or.inl ⟨m1, by rw [← hsL a m1]; exact m2⟩
        · exact Or.inr (List.mem_singleton.mp m1)
    · rw [up_ne e, h4 c hc]
      constructor
      · rintro ⟨m1, m2⟩
        exact ⟨List.mem_append_left _ m1, by rw [hsL a m1]; exact m2⟩
      · rintro ⟨m1, m2⟩
        rcases List.mem_append.mp m1 with m1 | m1
        · exact ⟨m1, by rw [← hsL a m1]; exact m2⟩
        · rw [List.mem_singleton.mp m1, i6, hb] at m2
          exact absurd m2.symm e
  · rcases List.mem_append.mp ha with ha | ha
    · exact List.mem_append_left _ (h6 a ha)
    · exact List.mem_append_right _ ha
  · rw [List.map_append, ← h7]
    congr 1
    · exact List.map_congr_left (fun a ha => by obtain ⟨-, e2, e3, e4⟩ := i2 a (h6 a ha); show (hs' a, ky' a, vl' a) = (hs a, ky a, vl a); rw [e2, e3, e4])
    · show [(hs' q, ky' q, vl' q)] = _
      rw [i6, i7, i8]
  · rw [List.map_append]
    refine List.nodup_append.mpr ⟨h8, List.nodup_cons.mpr ⟨List.not_mem_nil, List.nodup_nil⟩, fun a ha c hc e => hq ?_⟩
    have e9 : a = h9 := e.trans (List.mem_singleton.mp hc)
    rw [← e9]; exact ha
  · unfold plN
    rw [List.filter_append, List.length_append]
    have e1 : ord.filter (fun a => !kd' a) = ord.filter (fun a => !kd a) := List.filter_congr (fun a ha => by rw [(i2 a (h6 a ha)).1])
    have e2 : ([q].filter (fun a => !kd' a)).length ≤ 1 := List.length_filter_le _ _
    rw [e1]
    omega
theorem mp_tfy {kd' : Nat → Bool} {hs' : Nat → Int32} {ky' vl' : Nat → Nat} {nx' bf' af' pa' lf' rt' pv' : Nat → Option Nat} {hd' tl' : Option Nat} {b : Nat} {L' ord' Ns : List Nat} {o' : Option Nat} (h : mpI D cap th tf bins L ord kd hs ky vl nx bf af pa lf rt pv hd tl) (hbl : b < cap) (hR : brI L ord kd hs ky vl nx pa lf rt pv (bins b) L' ord' kd' hs' ky' vl' nx' bf' af' pa' lf' rt' pv' hd' tl' Ns) (hB : binI kd' hs' nx' pa' lf' rt' pv' o' Ns) (hpl : ∀ a, a ∈ bins b → kd a = false) (htr : ∀ a, a ∈ Ns → kd' a = true) :
    mpI D cap th (va_up tf b o') (va_up bins b Ns) L' ord' kd' hs' ky' vl' nx' bf' af' pa' lf' rt' pv' hd' tl' ∧ plN kd' ord' + (bins b).length ≤ plN kd ord := by
  have hnd := mp_nd h
  obtain ⟨h1, h2, ⟨h3, h4⟩, h5, h6, h7, h8⟩ := h
  obtain ⟨r1, r2, r3, r4, r5, r6, r7, r8, r9⟩ := hR
  have old : ∀ a, a ∈ ord → a ∉ bins b → hs' a = hs a := fun a ha na => (r1 a (h6 a ha) na).2.1
  have new : ∀ a, a ∈ Ns → ixN (hs' a) cap = b := fun a ha => by
    obtain ⟨c, hc, e⟩ := r8 a ha
    rw [e]; exact ((h4 b hbl c).mp hc).2
  refine ⟨⟨h1, h2, ⟨fun c hc => ?_, fun c hc a => ?_⟩, r2, r5, r7.trans h7, h8⟩, ?_⟩
  · by_cases e : c = b
    · rw [e, up_same, up_same]; exact hB
    · rw [up_ne e, up_ne e]
      refine (h3 c hc).congr (fun a ha => ?_)
      obtain ⟨m1, m2⟩ := (h4 c hc a).mp ha
      have nb : a ∉ bins b := fun q9 => e (by rw [← m2, ← ((h4 b hbl a).mp q9).2])
      obtain ⟨d1, d2, -, -, d5, d6, d7, d8, d9⟩ := r1 a (h6 a m1) nb
      exact ⟨d1, d2, d5, d6, d7, d8, d9⟩
  · by_cases e : c = b
    · rw [e, up_same]
      constructor
      · intro ha
        exact ⟨(r3 a).mpr (Or.inr ha), new a ha⟩
      · rintro ⟨m1, m2⟩
        rcases (r3 a).mp m1 with ⟨q1, q2⟩ | q
        · exact absurd ((h4 b hbl a).mpr ⟨q1, by rw [← old a q1 q2]; exact m2⟩) q2
        · exact q
    · rw [up_ne e, h4 c hc]
      constructor
      · rintro ⟨m1, m2⟩
        have nb : a ∉ bins b := fun q9 => e (by rw [← m2, ← ((h4 b hbl a).mp q9).2])
        exact ⟨(r3 a).mpr (Or.inl ⟨m1, nb⟩), by rw [old a m1 nb]; exact m2⟩
      · rintro ⟨m1, m2⟩
        rcases (r3 a).mp m1 with ⟨q1, q2⟩ | q
        · exact ⟨q1, by rw [← old a q1 q2]; exact m2⟩
        · exact absurd (m2.symm.trans (new a q)) e
  · have key : (ord'.filter (fun a => !kd' a) ++ bins b).length ≤ (ord.filter (fun a => !kd a)).length := by
      have hp : ∀ a, a ∈ ord'.filter (fun a => !kd' a) → a ∈ ord ∧ a ∉ bins b ∧ kd a = false := fun a ha => by
        obtain ⟨m1, m2⟩ := List.mem_filter.mp ha
        rcases (r3 a).mp m1 with ⟨q1, q2⟩ | q
        · refine ⟨q1, q2, ?_⟩
          rw [(r1 a (h6 a q1) q2).1] at m2
          cases hk : kd a with
          | true => rw [hk] at m2; cases m2
          | false => rfl
        · rw [htr a q] at m2; cases m2
      refine List.Nodup.length_le_of_subset (List.nodup_append.mpr ⟨nd_fl r2.2.2.2, (h3 b hbl).2.1, fun a ha c hc e => (hp a ha).2.1 (by rw [e]; exact hc)⟩) (fun a ha => ?_)
      rcases List.mem_append.mp ha with ha | ha
      · exact List.mem_filter.mpr ⟨(hp a ha).1, by rw [(hp a ha).2.2]; rfl⟩
      · exact List.mem_filter.mpr ⟨((h4 b hbl a).mp ha).1, by rw [hpl a ha]; rfl⟩
    rw [List.length_append] at key
    exact key
theorem mp_rz {kd' : Nat → Bool} {hs' : Nat → Int32} {ky' vl' : Nat → Nat} {nx' bf' af' pa' lf' rt' pv' : Nat → Option Nat} {hd' tl' : Option Nat} {L' ord' : List Nat} {nf : Nat → Option Nat} {nb : Nat → List Nat} (h : mpI D cap th tf bins L ord kd hs ky vl nx bf af pa lf rt pv hd tl) (hc2 : capI (2 * cap)) (h1 : binsI kd' hs' nx' pa' lf' rt' pv' nf (2 * cap) nb ord') (h2 : lnk bf' af' hd' tl' ord') (h3 : ∀ a, a ∈ ord' → a ∈ L') (h4 : ord'.map (dt hs' ky' vl') = ord.map (dt hs ky vl)) : mpI D (2 * cap) (2 * th) nf nb L' ord' kd' hs' ky' vl' nx' bf' af' pa' lf' rt' pv' hd' tl' :=
  ⟨hc2, by have := h.2.1; omega, h1, h2, h3, h4.trans h.2.2.2.2.2.1, h.2.2.2.2.2.2⟩
theorem ins_E {q k9 v9 : Nat} {h9 : Int32} (hq : q ∉ L) (hl : lnk bf af hd tl ord) (hoL : ∀ a, a ∈ ord → a ∈ L) : insI L ord kd hs ky vl nx pa lf rt pv [] q h9 k9 v9 (va_up kd q false) (va_up hs q h9) (va_up ky q k9) (va_up vl q v9) (va_up nx q none) (va_up bf q tl) (afn af q tl) pa lf rt pv (hdn hd q tl) [q] := by
  have ne : ∀ a, a ∈ L → a ≠ q := fun a ha e => hq (by rw [← e]; exact ha)
  exact ⟨hq, fun a ha => ⟨up_ne (ne a ha), up_ne (ne a ha), up_ne (ne a ha), up_ne (ne a ha)⟩, fun a ha _ => ⟨up_ne (ne a ha), rfl, rfl, rfl, rfl⟩, lnk_add hl (fun e => hq (hoL q e)), fun a => ⟨fun e => Or.inr (List.mem_singleton.mp e), fun e => by rcases e with e | e; exact absurd e List.not_mem_nil; rw [e]; exact List.mem_cons_self⟩, up_same _ _ _, up_same _ _ _, up_same _ _ _⟩
theorem ins_L {q z k9 v9 : Nat} {l0 : List Nat} {h9 : Int32} (hq : q ∉ L) (hl : lnk bf af hd tl ord) (hoL : ∀ a, a ∈ ord → a ∈ L) (hzL : z ∈ L) : insI L ord kd hs ky vl nx pa lf rt pv (l0 ++ [z]) q h9 k9 v9 (va_up kd q false) (va_up hs q h9) (va_up ky q k9) (va_up vl q v9) (va_up (va_up nx q none) z (some q)) (va_up bf q tl) (afn af q tl) pa lf rt pv (hdn hd q tl) ((l0 ++ [z]) ++ [q]) := by
  have ne : ∀ a, a ∈ L → a ≠ q := fun a ha e => hq (by rw [← e]; exact ha)
  refine ⟨hq, fun a ha => ⟨up_ne (ne a ha), up_ne (ne a ha), up_ne (ne a ha), up_ne (ne a ha)⟩, fun a ha nz => ⟨(up_ne (fun e => nz (by rw [e]; exact List.mem_append_right _ List.mem_cons_self))).trans (up_ne (ne a ha)), rfl, rfl, rfl, rfl⟩, lnk_add hl (fun e => hq (hoL q e)), fun a => ?_, up_same _ _ _, up_same _ _ _, up_same _ _ _⟩
  rw [List.mem_append]
  exact ⟨fun e => e.imp id List.mem_singleton.mp, fun e => e.imp id (fun e => by rw [e]; exact List.mem_cons_self)⟩
theorem bin_L {q z : Nat} {l0 : List Nat} {o : Option Nat} (hq : q ∉ L) (hs9 : seg nx o (l0 ++ [z]) none) (hnd : (l0 ++ [z]).Nodup) (hk : ∀ a, a ∈ l0 ++ [z] → a ∈ L ∧ kd a = false) : binI (va_up kd q false) hs (va_up (va_up nx q none) z (some q)) pa lf rt pv o ((l0 ++ [z]) ++ [q]) := by
  have hqn : q ∉ l0 ++ [z] := fun e => hq (hk q e).1
  have hzn : z ∉ l0 := fun e => (List.nodup_append.mp hnd).2.2 z e z List.mem_cons_self rfl
  have ne : ∀ a, a ∈ l0 ++ [z] → a ≠ q := fun a ha e => hqn (by rw [← e]; exact ha)
  refine ⟨?_, ?_, Or.inl fun a ha => ?_⟩
  · refine seg_app.mpr ⟨some q, ?_, rfl, ?_⟩
    · refine seg_congr (nx := va_up nx z (some q)) (fun a ha => ?_) (seg_last hs9 hzn)
      by_cases e : a = z
      · rw [e, up_same, up_same]
      · rw [up_ne e, up_ne e, up_ne (ne a ha)]
    · have nqz : q ≠ z := fun e => hqn (by rw [e]; exact List.mem_append_right _ List.mem_cons_self)
      show va_up (va_up nx q none) z (some q) q = none
      rw [up_ne nqz, up_same]
  · exact List.nodup_append.mpr ⟨hnd, List.nodup_cons.mpr ⟨List.not_mem_nil, List.nodup_nil⟩, fun a ha c hc e => ne a ha (by rw [e]; exact List.mem_singleton.mp hc)⟩
  · rcases List.mem_append.mp ha with ha | ha
    · rw [up_ne (ne a ha)]; exact (hk a ha).2
    · rw [List.mem_singleton.mp ha]; exact up_same _ _ _
end MP
