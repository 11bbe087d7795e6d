/-! ===== plain: a table doubles ===== -/
set_option maxRecDepth 100000
theorem ix_half {h : Int32} {cap : Nat} : ixN h (2 * cap) % cap = ixN h cap := by
  unfold ixN
  exact Nat.mod_mod_of_dvd _ ⟨2, by omega⟩
theorem ix_of {h : Int32} {cap b : Nat} (hb : b < cap) (e : ixN h (2 * cap) = b ∨ ixN h (2 * cap) = b + cap) : ixN h cap = b := by
  rw [← ix_half]
  rcases e with e | e
  · rw [e, Nat.mod_eq_of_lt hb]
  · rw [e, Nat.add_mod_right, Nat.mod_eq_of_lt hb]
theorem and_0 {h : Int32} {k : Nat} (hk : k ≤ 9) : (h &&& nI (2 ^ k)) = 0 ↔ h.toUInt32.toNat / 2 ^ k % 2 = 0 := by
  have hp : 2 ^ k ≤ 2 ^ 9 := Nat.pow_le_pow_right (by omega) hk
  have e1 : (nI (2 ^ k)).toUInt32.toNat = 2 ^ k := by
    show (UInt32.ofNat _).toNat = _
    rw [UInt32.toNat_ofNat']
    exact Nat.mod_eq_of_lt (by omega)
  have e3 : (h &&& nI (2 ^ k)).toUInt32.toNat = h.toUInt32.toNat &&& 2 ^ k := by
    rw [show (h &&& nI (2 ^ k)).toUInt32 = h.toUInt32 &&& (nI (2 ^ k)).toUInt32 from rfl, UInt32.toNat_and, e1]
  have e2 : (h &&& nI (2 ^ k)) = 0 ↔ h.toUInt32.toNat &&& 2 ^ k = 0 := by
    constructor
    · intro q
      rw [← e3, q]
      rfl
    · intro q
      exact i32_ext (UInt32.toNat_inj.mp ((e3.trans q).trans rfl))
  rw [e2]
  have hb : ∀ i, (h.toUInt32.toNat &&& 2 ^ k).testBit i = (h.toUInt32.toNat.testBit i && decide (k = i)) := fun i => by
    rw [Nat.testBit_and, Nat.testBit_two_pow]
  have hq : h.toUInt32.toNat.testBit k = decide (h.toUInt32.toNat / 2 ^ k % 2 = 1) := Nat.testBit_eq_decide_div_mod_eq
  rcases Nat.mod_two_eq_zero_or_one (h.toUInt32.toNat / 2 ^ k) with e | e
  · refine ⟨fun _ => e, fun _ => Nat.eq_of_testBit_eq (fun i => ?_)⟩
    rw [hb, Nat.zero_testBit]
    by_cases hi : k = i
    · rw [← hi, hq, e]; rfl
    · rw [decide_eq_false hi, Bool.and_false]
  · refine ⟨fun q => ?_, fun q => by omega⟩
    have h1 := hb k
    rw [q, Nat.zero_testBit, hq, e] at h1
    simp at h1
theorem ix_dbl {h : Int32} {cap : Nat} (hc : capI cap) : ixN h (2 * cap) = if decide ((h &&& nI cap) = 0) = true then ixN h cap else ixN h cap + cap := by
  obtain ⟨k, rfl, -, hk⟩ := hc.pow
  have e : ixN h (2 * 2 ^ k) = h.toUInt32.toNat % 2 ^ k + 2 ^ k * (h.toUInt32.toNat / 2 ^ k % 2) := by
    unfold ixN
    rw [Nat.mul_comm, ← Nat.pow_succ, Nat.mod_pow_succ]
  rw [e]
  by_cases hz : (h &&& nI (2 ^ k)) = 0
  · rw [if_pos (decide_eq_true hz), (and_0 hk).mp hz]; rfl
  · rw [if_neg (by rw [decide_eq_false hz]; decide)]
    have h1 : h.toUInt32.toNat / 2 ^ k % 2 = 1 := by
      rcases Nat.mod_two_eq_zero_or_one (h.toUInt32.toNat / 2 ^ k) with q | q
      · exact absurd ((and_0 (h := h) hk).mpr q) hz
      · exact q
    rw [h1, Nat.mul_one]; rfl
/-- how many nodes stand in the bins from j on -/
def sB (bins : Nat → List Nat) : Nat → Nat → Nat
  | _, 0 => 0
  | j, m + 1 => (bins j).length + sB bins (j + 1) m
theorem sB_len {hs : Nat → Int32} {cap : Nat} {bins : Nat → List Nat} {ord : List Nat} (hnd : ord.Nodup) : ∀ (m j : Nat), (∀ b, j ≤ b → b < j + m → (bins b).Nodup ∧ ∀ a, a ∈ bins b ↔ a ∈ ord ∧ ixN (hs a) cap = b) → sB bins j m = (ord.filter (fun a => decide (j ≤ ixN (hs a) cap ∧ ixN (hs a) cap < j + m))).length := by
  intro m
  induction m with
  | zero =>
    intro j _
    rw [List.filter_eq_nil_iff.mpr (fun a _ => by simp only [decide_eq_true_eq]; omega)]
    rfl
  | succ m ih =>
    intro j h
    have h1 := ih (j + 1) (fun b h1 h2 => h b (by omega) (by omega))
    obtain ⟨h2, h3⟩ := h j (Nat.le_refl _) (by omega)
    have h4 : (bins j).length = (ord.filter (fun a => decide (ixN (hs a) cap = j))).length := by
      refine ((List.perm_ext_iff_of_nodup h2 (nd_fl hnd)).mpr (fun a => ?_)).length_eq
      rw [h3, List.mem_filter, decide_eq_true_eq]
    show (bins j).length + sB bins (j + 1) m = _
    rw [h1, h4]
    clear h1 h2 h3 h4 ih h
    induction ord with
    | nil => rfl
    | cons a l ihl =>
      have := ihl (List.nodup_cons.mp hnd).2
      rw [List.filter_cons, List.filter_cons, List.filter_cons]
      by_cases q1 : ixN (hs a) cap = j
      · have e1 : decide (ixN (hs a) cap = j) = true := decide_eq_true q1
        have e2 : decide (j + 1 ≤ ixN (hs a) cap ∧ ixN (hs a) cap < j + 1 + m) = false := decide_eq_false (by omega)
        have e3 : decide (j ≤ ixN (hs a) cap ∧ ixN (hs a) cap < j + (m + 1)) = true := decide_eq_true (by omega)
        rw [if_pos e1, if_neg (by rw [e2]; decide), if_pos e3, List.length_cons, List.length_cons]
        omega
      · have e1 : decide (ixN (hs a) cap = j) = false := decide_eq_false q1
        rw [if_neg (by rw [e1]; decide)]
        by_cases q2 : j + 1 ≤ ixN (hs a) cap ∧ ixN (hs a) cap < j + 1 + m
        · have e2 : decide (j + 1 ≤ ixN (hs a) cap ∧ ixN (hs a) cap < j + 1 + m) = true := decide_eq_true q2
          have e3 : decide (j ≤ ixN (hs a) cap ∧ ixN (hs a) cap < j + (m + 1)) = true := decide_eq_true (by omega)
          rw [if_pos e2, if_pos e3, List.length_cons, List.length_cons]
          omega
        · have e2 : decide (j + 1 ≤ ixN (hs a) cap ∧ ixN (hs a) cap < j + 1 + m) = false := decide_eq_false q2
          have e3 : decide (j ≤ ixN (hs a) cap ∧ ixN (hs a) cap < j + (m + 1)) = false := decide_eq_false (by omega)
          rw [if_neg (by rw [e2]; decide), if_neg (by rw [e3]; decide)]
          exact this
theorem sB_le {hs : Nat → Int32} {cap : Nat} {bins : Nat → List Nat} {ord : List Nat} (hnd : ord.Nodup) (h : ∀ b, b < cap → (bins b).Nodup ∧ ∀ a, a ∈ bins b ↔ a ∈ ord ∧ ixN (hs a) cap = b) : sB bins 0 cap ≤ ord.length := by
  rw [sB_len hnd cap 0 (fun b _ h2 => h b (by omega))]
  exact List.length_filter_le _ _
/-- the bins below j are in the new table -/
def rzI (cap j : Nat) (D : List (Int32 × Nat × Nat)) (of nf : Nat → Option Nat) (bins nb : Nat → List Nat) (L ord : List Nat) (kd : Nat → Bool) (hs : Nat → Int32) (ky vl : Nat → Nat) (nx bf af pa lf rt pv : Nat → Option Nat) (hd tl : Option Nat) : Prop :=
  (∀ b, j ≤ b → b < cap → binI kd hs nx pa lf rt pv (of b) (bins b) ∧ nf b = none ∧ nf (b + cap) = none ∧ ∀ a, a ∈ bins b ↔ a ∈ ord ∧ ixN (hs a) cap = b) ∧
  (∀ b, b < j → binI kd hs nx pa lf rt pv (nf b) (nb b) ∧ binI kd hs nx pa lf rt pv (nf (b + cap)) (nb (b + cap)) ∧ (∀ a, a ∈ nb b ↔ a ∈ ord ∧ ixN (hs a) (2 * cap) = b) ∧ ∀ a, a ∈ nb (b + cap) ↔ a ∈ ord ∧ ixN (hs a) (2 * cap) = b + cap) ∧
  lnk bf af hd tl ord ∧ (∀ a, a ∈ ord → a ∈ L) ∧ ord.map (dt hs ky vl) = D
theorem rz_inj {cap j : Nat} {D : List (Int32 × Nat × Nat)} {of nf : Nat → Option Nat} {bins nb : Nat → List Nat} {L ord : List Nat} {kd : Nat → Bool} {hs : Nat → Int32} {ky vl : Nat → Nat} {nx bf af pa lf rt pv : Nat → Option Nat} {hd tl : Option Nat} (h : rzI cap j D of nf bins nb L ord kd hs ky vl nx bf af pa lf rt pv hd tl) (hD : (D.map (fun q => q.1)).Nodup) : ∀ a c, a ∈ ord → c ∈ ord → hs a = hs c → a = c := by
  have e : ord.map hs = D.map (fun q => q.1) := by rw [← h.2.2.2.2, List.map_map]; rfl
  have : ∀ m : List Nat, (m.map hs).Nodup → ∀ a c, a ∈ m → c ∈ m → hs a = hs c → a = c := by
    intro m
    induction m with
    | nil => intro _ a c ha; exact absurd ha List.not_mem_nil
    | cons x m ih =>
      intro h1 a c ha hc e
      rw [List.map_cons] at h1
      obtain ⟨h3, h4⟩ := List.nodup_cons.mp h1
      rcases List.mem_cons.mp ha with ha | ha
      · rcases List.mem_cons.mp hc with hc | hc
        · exact ha.trans hc.symm
        · exact absurd (List.mem_map.mpr ⟨c, hc, by rw [← e, ha]⟩) h3
      · rcases List.mem_cons.mp hc with hc | hc
        · exact absurd (List.mem_map.mpr ⟨a, ha, by rw [e, hc]⟩) h3
        · exact ih h4 a c ha hc e
  exact this ord (by rw [e]; exact hD)
theorem rz_step {cap j : Nat} {D : List (Int32 × Nat × Nat)} {of nf : Nat → Option Nat} {bins nb : Nat → List Nat} {L ord L' ord' N1 N2 : List Nat} {kd : Nat → Bool} {hs : Nat → Int32} {ky vl : Nat → Nat} {nx bf af pa lf rt pv : Nat → Option Nat} {kd' : Nat → Bool} {hs' : Nat → Int32} {ky' vl' : Nat → Nat} {nx' bf' af' pa' lf' rt' pv' : Nat → Option Nat} {hd tl hd' tl' : Option Nat} (h : rzI cap j D of nf bins nb L ord kd hs ky vl nx bf af pa lf rt pv hd tl) (hj : j < cap) (hR : brI L ord kd hs ky vl nx pa lf rt pv (bins j) L' ord' kd' hs' ky' vl' nx' bf' af' pa' lf' rt' pv' hd' tl' (N1 ++ N2)) (hB1 : binI kd' hs' nx' pa' lf' rt' pv' N1.head? N1) (hB2 : binI kd' hs' nx' pa' lf' rt' pv' N2.head? N2) (hx1 : ∀ a, a ∈ N1 → ixN (hs' a) (2 * cap) = j) (hx2 : ∀ a, a ∈ N2 → ixN (hs' a) (2 * cap) = j + cap) (of' : Nat → Option Nat) (hof : ∀ b, j < b → of' b = of b) :
    rzI cap (j + 1) D of' (va_up (va_up nf j N1.head?) (j + cap) N2.head?) bins (va_up (va_up nb j N1) (j + cap) N2) L' ord' kd' hs' ky' vl' nx' bf' af' pa' lf' rt' pv' hd' tl' := by
  obtain ⟨h1, h2, h3, h4, h5⟩ := h
  obtain ⟨r1, r2, r3, r4, r5, r6, r7, r8, r9⟩ := hR
  obtain ⟨g1, g2, g3, g4⟩ := h1 j (Nat.le_refl _) hj
  have ixj : ∀ a, a ∈ N1 ++ N2 → ixN (hs' a) cap = j := fun a ha => by
    rcases List.mem_append.mp ha with ha | ha
    · exact ix_of hj (Or.inl (hx1 a ha))
    · exact ix_of hj (Or.inr (hx2 a ha))
  -- the other nodes are as they were
  have ag : ∀ a, a ∈ ord → a ∉ bins j → kd' a = kd a ∧ hs' a = hs a ∧ nx' a = nx a ∧ pa' a = pa a ∧ lf' a = lf a ∧ rt' a = rt a ∧ pv' a = pv a := fun a ha na => by
    obtain ⟨d1, d2, d3, d4, d5, d6, d7, d8, d9⟩ := r1 a (h4 a ha) na
    exact ⟨d1, d2, d5, d6, d7, d8, d9⟩
  have old : ∀ a, a ∈ ord' → ixN (hs' a) cap ≠ j → a ∈ ord ∧ a ∉ bins j ∧ hs' a = hs a := fun a ha na => by
    rcases (r3 a).mp ha with ⟨q1, q2⟩ | q
    · exact ⟨q1, q2, (ag a q1 q2).2.1⟩
    · exact absurd (ixj a q) na
  refine ⟨fun b hb1 hb2 => ?_, fun b hb => ?_, r2, r5, r7.trans h5⟩
  · obtain ⟨f1, f2, f3, f4⟩ := h1 b (by omega) hb2
    have nbj : ∀ a, a ∈ bins b → a ∉ bins j := fun a ha q => by
      have e1 := ((f4 a).mp ha).2
      have e2 := ((g4 a).mp q).2
      omega
    refine ⟨?_, ?_, ?_, fun a => ?_⟩
    · rw [hof b (by omega)]
      exact f1.congr (fun a ha => ag a ((f4 a).mp ha).1 (nbj a ha))
    · rw [up_ne (by omega), up_ne (by omega)]; exact f2
    · rw [up_ne (by omega), up_ne (by omega)]; exact f3
    · constructor
      · intro ha
        obtain ⟨e1, e2⟩ := (f4 a).mp ha
        exact ⟨(r3 a).mpr (Or.inl ⟨e1, nbj a ha⟩), by rw [(ag a e1 (nbj a ha)).2.1]; exact e2⟩
      · rintro ⟨e1, e2⟩
        obtain ⟨q1, q2, q3⟩ := old a e1 (by omega)
        exact (f4 a).mpr ⟨q1, by rw [← q3]; exact e2⟩
  · have low : ∀ c, c ≠ j → c ≠ j + cap → (∀ a, a ∈ nb c ↔ a ∈ ord ∧ ixN (hs a) (2 * cap) = c) → (c < j ∨ ∃ b, b < j ∧ c = b + cap) → binI kd hs nx pa lf rt pv (nf c) (nb c) → binI kd' hs' nx' pa' lf' rt' pv' (va_up (va_up nf j N1.head?) (j + cap) N2.head? c) (va_up (va_up nb j N1) (j + cap) N2 c) ∧ ∀ a, a ∈ va_up (va_up nb j N1) (j + cap) N2 c ↔ a ∈ ord' ∧ ixN (hs' a) (2 * cap) = c := by
      intro c n1 n2 hm hc hB
      rw [up_ne n2, up_ne n1, up_ne n2, up_ne n1]
      have hcx : ∀ h9 : Int32, ixN h9 (2 * cap) = c → ixN h9 cap ≠ j := fun h9 e => by
        rcases hc with hc | ⟨b, hb9, hc⟩
        · rw [ix_of (b := c) (by omega) (Or.inl e)]; omega
        · rw [ix_of (b := b) (by omega) (Or.inr (by rw [e, hc]))]; omega
      have nbj : ∀ a, a ∈ nb c → a ∉ bins j := fun a ha q => hcx (hs a) ((hm a).mp ha).2 ((g4 a).mp q).2
      refine ⟨hB.congr (fun a ha => ag a ((hm a).mp ha).1 (nbj a ha)), fun a => ?_⟩
      constructor
      · intro ha
        obtain ⟨e1, e2⟩ := (hm a).mp ha
        exact ⟨(r3 a).mpr (Or.inl ⟨e1, nbj a ha⟩), by rw [(ag a e1 (nbj a ha)).2.1]; exact e2⟩
      · rintro ⟨e1, e2⟩
        obtain ⟨q1, q2, q3⟩ := old a e1 (hcx _ e2)
        exact (hm a).mpr ⟨q1, by rw [← q3]; exact e2⟩
    by_cases hbj : b = j
    · subst hbj
      have new1 : ∀ a, a ∈ N1 ↔ a ∈ ord' ∧ ixN (hs' a) (2 * cap) = b := fun a => by
        constructor
        · intro ha; exact ⟨(r3 a).mpr (Or.inr (List.mem_append_left _ ha)), hx1 a ha⟩
        · rintro ⟨e1, e2⟩
          have e3 := ix_of hj (Or.inl e2)
          rcases (r3 a).mp e1 with ⟨q1, q2⟩ | q
          · exact absurd ((g4 a).mpr ⟨q1, by rw [← (ag a q1 q2).2.1]; exact e3⟩) q2
          · rcases List.mem_append.mp q with q | q
            · exact q
            · have := hx2 a q; omega
      have new2 : ∀ a, a ∈ N2 ↔ a ∈ ord' ∧ ixN (hs' a) (2 * cap) = b + cap := fun a => by
        constructor
        · intro ha; exact ⟨(r3 a).mpr (Or.inr (List.mem_append_right _ ha)), hx2 a ha⟩
        · rintro ⟨e1, e2⟩
          have e3 := ix_of hj (Or.inr e2)
          rcases (r3 a).mp e1 with ⟨q1, q2⟩ | q
          · exact absurd ((g4 a).mpr ⟨q1, by rw [← (ag a q1 q2).2.1]; exact e3⟩) q2
          · rcases List.mem_append.mp q with q | q
            · have := hx1 a q; omega
            · exact q
      have n1 : b ≠ b + cap := by omega
      refine ⟨?_, ?_, fun a => ?_, fun a => ?_⟩
      · rw [up_ne n1, up_same, up_ne n1, up_same]; exact hB1
      · rw [up_same, up_same]; exact hB2
      · rw [up_ne n1, up_same]; exact new1 a
      · rw [up_same]; exact new2 a
    · obtain ⟨f1, f2, f3, f4⟩ := h2 b (by omega)
      obtain ⟨k1, k2⟩ := low b hbj (by omega) f3 (Or.inl (by omega)) f1
      obtain ⟨k3, k4⟩ := low (b + cap) (by omega) (by omega) f4 (Or.inr ⟨b, by omega, rfl⟩) f2
      exact ⟨k1, k3, k2, k4⟩
/-! a list's nodes are dealt out -/
def dlI (hs : Nat → Int32) (cap : Nat) (nx0 : Nat → Option Nat) (Lb done rest Lo Hi : List Nat) (nx : Nat → Option Nat) : Prop :=
  Lb = done ++ rest ∧ Lo = done.filter (lob hs cap) ∧ Hi = done.filter (fun a => !lob hs cap a) ∧ (∃ o, seg nx Lo.head? Lo o) ∧ (∃ o, seg nx Hi.head? Hi o) ∧ (∀ a, a ∉ done → nx a = nx0 a) ∧ Lb.Nodup
theorem snoc_sego {nx nx' : Nat → Option Nat} {Lo : List Nat} {e : Nat} {o : Option Nat} (h : seg nx Lo.head? Lo o) (hn : Lo.Nodup) (e2 : ∀ z, lstO none Lo = some z → nx' z = some e) (e3 : ∀ a, a ∈ Lo → lstO none Lo ≠ some a → nx' a = nx a) : seg nx' (Lo ++ [e]).head? (Lo ++ [e]) (nx' e) := by
  cases hL : Lo with
  | nil => exact ⟨rfl, rfl⟩
  | cons c t =>
    obtain ⟨l0, z, hz⟩ := ex_last hL
    have hlz : lstO none Lo = some z := by rw [hz]; exact lstO_snoc
    have hzn : z ∉ l0 := by
      intro e9
      rw [hz] at hn
      exact (List.nodup_append.mp hn).2.2 z e9 z List.mem_cons_self rfl
    have hhd : (c :: t ++ [e]).head? = Lo.head? := by rw [hL]; rfl
    rw [hhd, ← hL]
    refine seg_app.mpr ⟨some e, ?_, rfl, rfl⟩
    rw [hz] at h ⊢
    have g := seg_last (o2 := some e) h hzn
    refine seg_congr (fun a ha => ?_) g
    by_cases e9 : a = z
    · rw [e9, up_same]; exact e2 z hlz
    · rw [up_ne e9]
      refine e3 a (by rw [hz]; exact ha) (fun e8 => e9 ?_)
      rw [hlz] at e8
      exact (Option.some.inj e8).symm
theorem dlI.lo {hs : Nat → Int32} {cap : Nat} {nx0 : Nat → Option Nat} {Lb done rest Lo Hi : List Nat} {nx : Nat → Option Nat} {e : Nat} (h : dlI hs cap nx0 Lb done (e :: rest) Lo Hi nx) (hl : lob hs cap e = true) {nx' : Nat → Option Nat} (e2 : ∀ z, lstO none Lo = some z → nx' z = some e) (e3 : ∀ a, lstO none Lo ≠ some a → nx' a = nx a) : dlI hs cap nx0 Lb (done ++ [e]) rest (Lo ++ [e]) Hi nx' := by
  obtain ⟨h1, h2, h3, ⟨o1, h4⟩, ⟨o2, h5⟩, h8, h9⟩ := h
  have hnd := h9
  rw [h1] at hnd
  have hndd : done.Nodup := (List.nodup_append.mp hnd).1
  have hdis : ∀ a, a ∈ Hi → lstO none Lo ≠ some a := fun a ha q => by
    obtain ⟨l0, hz⟩ := lstO_some q
    have ha2 : a ∈ Lo := by rw [hz]; exact List.mem_append_right _ List.mem_cons_self
    rw [h2] at ha2
    rw [h3] at ha
    have g1 := (List.mem_filter.mp ha2).2
    have g2 := (List.mem_filter.mp ha).2
    rw [g1] at g2
    cases g2
  refine ⟨by rw [h1, List.append_assoc]; rfl, ?_, ?_, ⟨_, snoc_sego h4 (by rw [h2]; exact nd_fl hndd) e2 (fun a _ na => e3 a na)⟩, ⟨o2, seg_congr (fun a ha => e3 a (hdis a ha)) h5⟩, fun a ha => ?_, h9⟩
  · rw [List.filter_append, ← h2, List.filter_cons, hl, if_pos rfl]; rfl
  · rw [List.filter_append, ← h3, List.filter_cons, hl]
    simp
  · have nd : a ∉ done := fun q => ha (List.mem_append_left _ q)
    refine (e3 a (fun q => ?_)).trans (h8 a nd)
    obtain ⟨l0, hz⟩ := lstO_some q
    exact nd (fl_mem (p := lob hs cap) (by rw [← h2, hz]; exact List.mem_append_right _ List.mem_cons_self))
theorem dlI.hi {hs : Nat → Int32} {cap : Nat} {nx0 : Nat → Option Nat} {Lb done rest Lo Hi : List Nat} {nx : Nat → Option Nat} {e : Nat} (h : dlI hs cap nx0 Lb done (e :: rest) Lo Hi nx) (hl : lob hs cap e = false) {nx' : Nat → Option Nat} (e2 : ∀ z, lstO none Hi = some z → nx' z = some e) (e3 : ∀ a, lstO none Hi ≠ some a → nx' a = nx a) : dlI hs cap nx0 Lb (done ++ [e]) rest Lo (Hi ++ [e]) nx' := by
  obtain ⟨h1, h2, h3, ⟨o1, h4⟩, ⟨o2, h5⟩, h8, h9⟩ := h
  have hnd := h9
  rw [h1] at hnd
  have hndd : done.Nodup := (List.nodup_append.mp hnd).1
  have hdis : ∀ a, a ∈ Lo → lstO none Hi ≠ some a := fun a ha q => by
    obtain ⟨l0, hz⟩ := lstO_some q
    have ha2 : a ∈ Hi := by rw [hz]; exact List.mem_append_right _ List.mem_cons_self
    rw [h3] at ha2
    rw [h2] at ha
    have g1 := (List.mem_filter.mp ha2).2
    have g2 := (List.mem_filter.mp ha).2
    rw [g2] at g1
    cases g1
  refine ⟨by rw [h1, List.append_assoc]; rfl, ?_, ?_, ⟨o1, seg_congr (fun a ha => e3 a (hdis a ha)) h4⟩, ⟨_, snoc_sego h5 (by rw [h3]; exact nd_fl hndd) e2 (fun a _ na => e3 a na)⟩, fun a ha => ?_, h9⟩
  · rw [List.filter_append, ← h2, List.filter_cons, hl]
    simp
  · rw [List.filter_append, ← h3, List.filter_cons, hl]
    simp
  · have nd : a ∉ done := fun q => ha (List.mem_append_left _ q)
    refine (e3 a (fun q => ?_)).trans (h8 a nd)
    obtain ⟨l0, hz⟩ := lstO_some q
    exact nd (fl_mem (p := fun a => !lob hs cap a) (by rw [← h3, hz]; exact List.mem_append_right _ List.mem_cons_self))
theorem dlI.start {hs : Nat → Int32} {cap : Nat} {nx : Nat → Option Nat} {Lb : List Nat} (h : Lb.Nodup) : dlI hs cap nx Lb [] Lb [] [] nx := ⟨rfl, rfl, rfl, ⟨none, rfl⟩, ⟨none, rfl⟩, fun _ _ => rfl, h⟩
/-- the last ones' nexts are taken away -/
def cutO (nx : Nat → Option Nat) (o : Option Nat) : Nat → Option Nat := match o with
  | none => nx
  | some z => va_up nx z none
theorem cut_seg {nx : Nat → Option Nat} {Lo : List Nat} {o : Option Nat} (h : seg nx Lo.head? Lo o) (hn : Lo.Nodup) : seg (cutO nx (lstO none Lo)) Lo.head? Lo none := by
  cases hL : Lo with
  | nil => rfl
  | cons c t =>
    obtain ⟨l0, z, hz⟩ := ex_last hL
    have hlz : lstO none Lo = some z := by rw [hz]; exact lstO_snoc
    have hzn : z ∉ l0 := by
      intro e9
      rw [hz] at hn
      exact (List.nodup_append.mp hn).2.2 z e9 z List.mem_cons_self rfl
    rw [← hL, hlz]
    show seg (va_up nx z none) _ _ _
    rw [hz] at h ⊢
    exact seg_last h hzn
theorem cutO_ne {nx : Nat → Option Nat} {o : Option Nat} {a : Nat} (h : o ≠ some a) : cutO nx o a = nx a := by
  unfold cutO
  split
  · rfl
  · rename_i z
    exact up_ne (fun e => h (by rw [e]))
