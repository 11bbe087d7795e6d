/-! ===== plain: a bin is split ===== -/
set_option maxRecDepth 100000
/-- a node stays where it is when the table doubles -/
def lob (hs : Nat → Int32) (cap : Nat) (a : Nat) : Bool := decide ((hs a &&& nI cap) = 0)
/-- of the nodes Lb those of done stand in two lists -/
def spI (hs : Nat → Int32) (cap : Nat) (nx0 pv0 : Nat → Option Nat) (Lb done rest Lo Hi : List Nat) (nx pv : Nat → Option Nat) : Prop :=
  Lb = done ++ rest ∧ Lo = done.filter (lob hs cap) ∧ Hi = done.filter (fun a => !lob hs cap a) ∧ seg nx Lo.head? Lo none ∧ seg nx Hi.head? Hi none ∧ bck pv none Lo ∧ bck pv none Hi ∧ (∀ a, a ∉ done → nx a = nx0 a ∧ pv a = pv0 a) ∧ Lb.Nodup
theorem snoc_seg {nx nx' : Nat → Option Nat} {Lo : List Nat} {e : Nat} (h : seg nx Lo.head? Lo none) (hn : Lo.Nodup) (he : e ∉ Lo) (e1 : nx' e = none) (e2 : ∀ z, lstO none Lo = some z → nx' z = some e) (e3 : ∀ a, a ∈ Lo → lstO none Lo ≠ some a → nx' a = nx a) : seg nx' (Lo ++ [e]).head? (Lo ++ [e]) none := by
  cases hL : Lo with
  | nil => exact ⟨rfl, e1⟩
  | cons c t =>
    obtain ⟨l0, z, hz⟩ := ex_last hL
    have hlz : lstO none Lo = some z := by rw [hz]; exact lstO_snoc
    have hzn : z ∉ l0 := by
      intro e9
      rw [hz] at hn
      exact (List.nodup_append.mp hn).2.2 z e9 z List.mem_cons_self rfl
    have hhd : (c :: t ++ [e]).head? = Lo.head? := by rw [hL]; rfl
    rw [hhd, ← hL]
    refine seg_app.mpr ⟨some e, ?_, rfl, e1⟩
    rw [hz] at h ⊢
    have g := seg_last (o2 := some e) h hzn
    refine seg_congr (fun a ha => ?_) g
    by_cases e9 : a = z
    · rw [e9, up_same]; exact e2 z hlz
    · rw [up_ne e9]
      refine e3 a (by rw [hz]; exact ha) (fun e8 => e9 ?_)
      rw [hlz] at e8
      exact (Option.some.inj e8).symm
theorem fl_mem {p : Nat → Bool} {a : Nat} {l : List Nat} (h : a ∈ l.filter p) : a ∈ l := (List.mem_filter.mp h).1
theorem spI.lo {hs : Nat → Int32} {cap : Nat} {nx0 pv0 : Nat → Option Nat} {Lb done rest Lo Hi : List Nat} {nx pv : Nat → Option Nat} {e : Nat} (h : spI hs cap nx0 pv0 Lb done (e :: rest) Lo Hi nx pv) (hl : lob hs cap e = true) {nx' pv' : Nat → Option Nat} (e1 : nx' e = none) (e2 : ∀ z, lstO none Lo = some z → nx' z = some e) (e3 : ∀ a, a ≠ e → lstO none Lo ≠ some a → nx' a = nx a) (e4 : pv' e = lstO none Lo) (e5 : ∀ a, a ≠ e → pv' a = pv a) : spI hs cap nx0 pv0 Lb (done ++ [e]) rest (Lo ++ [e]) Hi nx' pv' := by
  obtain ⟨h1, h2, h3, h4, h5, h6, h7, h8, h9⟩ := h
  have hnd := h9
  rw [h1] at hnd
  have hed : e ∉ done := (nd_split hnd).1
  have hndd : done.Nodup := (List.nodup_append.mp hnd).1
  have heLo : e ∉ Lo := fun q => hed (fl_mem (by rw [← h2]; exact q))
  have heHi : e ∉ Hi := fun q => hed (fl_mem (by rw [← h3]; exact q))
  have hdis : ∀ a, a ∈ Hi → lstO none Lo ≠ some a := fun a ha q => by
    obtain ⟨l0, hz⟩ := lstO_some q
    have ha2 : a ∈ Lo := by rw [hz]; exact List.mem_append_right _ List.mem_cons_self
    rw [h2] at ha2
    rw [h3] at ha
    have g1 := (List.mem_filter.mp ha2).2
    have g2 := (List.mem_filter.mp ha).2
    rw [g1] at g2
    cases g2
  refine ⟨by rw [h1, List.append_assoc]; rfl, ?_, ?_, snoc_seg h4 (by rw [h2]; exact nd_fl hndd) heLo e1 e2 (fun a ha na => e3 a (fun q => heLo (by rw [← q]; exact ha)) na), ?_, ?_, bck_congr (fun a ha => e5 a (fun q => heHi (by rw [← q]; exact ha))) h7, fun a ha => ?_, h9⟩
  · rw [List.filter_append, ← h2, List.filter_cons, hl, if_pos rfl]; rfl
  · rw [List.filter_append, ← h3, List.filter_cons, hl]
    simp
  · exact seg_congr (fun a ha => e3 a (fun q => heHi (by rw [← q]; exact ha)) (hdis a ha)) h5
  · exact bck_app.mpr ⟨bck_congr (fun a ha => e5 a (fun q => heLo (by rw [← q]; exact ha))) h6, e4, trivial⟩
  · have na : a ≠ e := fun q => ha (by rw [q]; exact List.mem_append_right _ List.mem_cons_self)
    have nd : a ∉ done := fun q => ha (List.mem_append_left _ q)
    obtain ⟨g1, g2⟩ := h8 a nd
    refine ⟨(e3 a na (fun q => ?_)).trans g1, (e5 a na).trans g2⟩
    obtain ⟨l0, hz⟩ := lstO_some q
    exact nd (fl_mem (p := lob hs cap) (by rw [← h2, hz]; exact List.mem_append_right _ List.mem_cons_self))
theorem spI.hi {hs : Nat → Int32} {cap : Nat} {nx0 pv0 : Nat → Option Nat} {Lb done rest Lo Hi : List Nat} {nx pv : Nat → Option Nat} {e : Nat} (h : spI hs cap nx0 pv0 Lb done (e :: rest) Lo Hi nx pv) (hl : lob hs cap e = false) {nx' pv' : Nat → Option Nat} (e1 : nx' e = none) (e2 : ∀ z, lstO none Hi = some z → nx' z = some e) (e3 : ∀ a, a ≠ e → lstO none Hi ≠ some a → nx' a = nx a) (e4 : pv' e = lstO none Hi) (e5 : ∀ a, a ≠ e → pv' a = pv a) : spI hs cap nx0 pv0 Lb (done ++ [e]) rest Lo (Hi ++ [e]) nx' pv' := by
  obtain ⟨h1, h2, h3, h4, h5, h6, h7, h8, h9⟩ := h
  have hnd := h9
  rw [h1] at hnd
  have hed : e ∉ done := (nd_split hnd).1
  have hndd : done.Nodup := (List.nodup_append.mp hnd).1
  have heLo : e ∉ Lo := fun q => hed (fl_mem (by rw [← h2]; exact q))
  have heHi : e ∉ Hi := fun q => hed (fl_mem (by rw [← h3]; exact q))
  have hdis : ∀ a, a ∈ Lo → lstO none Hi ≠ some a := fun a ha q => by
    obtain ⟨l0, hz⟩ := lstO_some q
    have ha2 : a ∈ Hi := by rw [hz]; exact List.mem_append_right _ List.mem_cons_self
    rw [h3] at ha2
    rw [h2] at ha
    have g1 := (List.mem_filter.mp ha2).2
    have g2 := (List.mem_filter.mp ha).2
    rw [g2] at g1
    cases g1
  refine ⟨by rw [h1, List.append_assoc]; rfl, ?_, ?_, ?_, snoc_seg h5 (by rw [h3]; exact nd_fl hndd) heHi e1 e2 (fun a ha na => e3 a (fun q => heHi (by rw [← q]; exact ha)) na), bck_congr (fun a ha => e5 a (fun q => heLo (by rw [← q]; exact ha))) h6, ?_, fun a ha => ?_, h9⟩
  · rw [List.filter_append, ← h2, List.filter_cons, hl]
    simp
  · rw [List.filter_append, ← h3, List.filter_cons, hl]
    simp
  · exact seg_congr (fun a ha => e3 a (fun q => heLo (by rw [← q]; exact ha)) (hdis a ha)) h4
  · exact bck_app.mpr ⟨bck_congr (fun a ha => e5 a (fun q => heHi (by rw [← q]; exact ha))) h7, e4, trivial⟩
  · have na : a ≠ e := fun q => ha (by rw [q]; exact List.mem_append_right _ List.mem_cons_self)
    have nd : a ∉ done := fun q => ha (List.mem_append_left _ q)
    obtain ⟨g1, g2⟩ := h8 a nd
    refine ⟨(e3 a na (fun q => ?_)).trans g1, (e5 a na).trans g2⟩
    obtain ⟨l0, hz⟩ := lstO_some q
    exact nd (fl_mem (p := fun a => !lob hs cap a) (by rw [← h3, hz]; exact List.mem_append_right _ List.mem_cons_self))
theorem spI.start {hs : Nat → Int32} {cap : Nat} {nx pv : Nat → Option Nat} {Lb : List Nat} (h : Lb.Nodup) : spI hs cap nx pv Lb [] Lb [] [] nx pv := ⟨rfl, rfl, rfl, rfl, rfl, trivial, trivial, fun _ _ => ⟨rfl, rfl⟩, h⟩
section BR2
variable {L ord Lb Lo Hi L1 ord1 L2 ord2 N1 N2 : List Nat} {kd : Nat → Bool} {hs : Nat → Int32} {ky vl : Nat → Nat} {nx bf af pa lf rt pv : Nat → Option Nat} {kd1 : Nat → Bool} {hs1 : Nat → Int32} {ky1 vl1 : Nat → Nat} {nx1 bf1 af1 pa1 lf1 rt1 pv1 : Nat → Option Nat} {kd2 : Nat → Bool} {hs2 : Nat → Int32} {ky2 vl2 : Nat → Nat} {nx2 bf2 af2 pa2 lf2 rt2 pv2 : Nat → Option Nat} {hd1 tl1 hd2 tl2 : Option Nat}
/-- two lists of a bin are rebuilt, one behind the other -/
theorem brI.trans (h : brI L ord kd hs ky vl nx pa lf rt pv Lo L1 ord1 kd1 hs1 ky1 vl1 nx1 bf1 af1 pa1 lf1 rt1 pv1 hd1 tl1 N1) (h2 : brI L1 ord1 kd1 hs1 ky1 vl1 nx1 pa1 lf1 rt1 pv1 Hi L2 ord2 kd2 hs2 ky2 vl2 nx2 bf2 af2 pa2 lf2 rt2 pv2 hd2 tl2 N2) (hLo : ∀ a, a ∈ Lo → a ∈ Lb) (hHi : ∀ a, a ∈ Hi → a ∈ Lb) (hLb : ∀ a, a ∈ Lb → a ∈ Lo ∨ a ∈ Hi) (hdis : ∀ a, a ∈ Lo → a ∉ Hi) (hLbL : ∀ a, a ∈ Lb → a ∈ L) (hlen : Lo.length + Hi.length = Lb.length) (hordL : ∀ a, a ∈ ord → a ∈ L) : brI L ord kd hs ky vl nx pa lf rt pv Lb L2 ord2 kd2 hs2 ky2 vl2 nx2 bf2 af2 pa2 lf2 rt2 pv2 hd2 tl2 (N1 ++ N2) := by
  obtain ⟨a1, a2, a3, a4, a5, a6, a7, a8, a9⟩ := h
  obtain ⟨b1, b2, b3, b4, b5, b6, b7, b8, b9⟩ := h2
  have n1H : ∀ a, a ∈ N1 → a ∉ Hi := fun a ha q => hdis a (a4 a ha (hLbL a (hHi a q))) q
  refine ⟨fun a ha na => ?_, b2, fun a => ?_, fun a ha hL => ?_, b5, fun a ha => b6 a (a6 a ha), b7.trans a7, fun a ha => ?_, by rw [List.length_append, a9, b9, hlen]⟩
  · have g1 := a1 a ha (fun q => na (hLo a q))
    have g2 := b1 a (a6 a ha) (fun q => na (hHi a q))
    obtain ⟨c1, c2, c3, c4, c5, c6, c7, c8, c9⟩ := g1
    obtain ⟨d1, d2, d3, d4, d5, d6, d7, d8, d9⟩ := g2
    exact ⟨d1.trans c1, d2.trans c2, d3.trans c3, d4.trans c4, d5.trans c5, d6.trans c6, d7.trans c7, d8.trans c8, d9.trans c9⟩
  · rw [b3, a3, List.mem_append]
    constructor
    · rintro (⟨⟨q1, q2⟩ | q1, q3⟩ | q1)
      · exact Or.inl ⟨q1, fun q => (hLb a q).elim q2 q3⟩
      · exact Or.inr (Or.inl q1)
      · exact Or.inr (Or.inr q1)
    · rintro (⟨q1, q2⟩ | q1 | q1)
      · exact Or.inl ⟨Or.inl ⟨q1, fun q => q2 (hLo a q)⟩, fun q => q2 (hHi a q)⟩
      · exact Or.inl ⟨Or.inr q1, n1H a q1⟩
      · exact Or.inr q1
  · rcases List.mem_append.mp ha with ha | ha
    · exact hLo a (a4 a ha hL)
    · exact hHi a (b4 a ha (a6 a hL))
  · rcases List.mem_append.mp ha with ha | ha
    · obtain ⟨c, hc, e⟩ := a8 a ha
      have hao : a ∈ ord1 := (a3 a).mpr (Or.inr ha)
      exact ⟨c, hLo c hc, ((b1 a (a5 a hao) (n1H a ha)).2.1).trans e⟩
    · obtain ⟨c, hc, e⟩ := b8 a ha
      exact ⟨c, hHi c hc, e.trans (a1 c (hLbL c (hHi c hc)) (fun q => hdis c q hc)).2.1⟩
/-- what the first rebuilt stays as it is -/
theorem brI.bin1 {o : Option Nat} (h : brI L ord kd hs ky vl nx pa lf rt pv Lo L1 ord1 kd1 hs1 ky1 vl1 nx1 bf1 af1 pa1 lf1 rt1 pv1 hd1 tl1 N1) (h2 : brI L1 ord1 kd1 hs1 ky1 vl1 nx1 pa1 lf1 rt1 pv1 Hi L2 ord2 kd2 hs2 ky2 vl2 nx2 bf2 af2 pa2 lf2 rt2 pv2 hd2 tl2 N2) (hHiL : ∀ a, a ∈ Hi → a ∈ L) (hdis : ∀ a, a ∈ Lo → a ∉ Hi) (hB : binI kd1 hs1 nx1 pa1 lf1 rt1 pv1 o N1) : binI kd2 hs2 nx2 pa2 lf2 rt2 pv2 o N1 := by
  obtain ⟨a1, a2, a3, a4, a5, a6, a7, a8, a9⟩ := h
  refine hB.congr (fun a ha => ?_)
  have hao : a ∈ ord1 := (a3 a).mpr (Or.inr ha)
  have naH : a ∉ Hi := fun q => hdis a (a4 a ha (hHiL a q)) q
  obtain ⟨d1, d2, d3, d4, d5, d6, d7, d8, d9⟩ := h2.1 a (a5 a hao) naH
  exact ⟨d1, d2, d5, d6, d7, d8, d9⟩
theorem brI.pre {nx0 pv0 : Nat → Option Nat} (h : brI L ord kd hs ky vl nx pa lf rt pv Lb L1 ord1 kd1 hs1 ky1 vl1 nx1 bf1 af1 pa1 lf1 rt1 pv1 hd1 tl1 N1) (e : ∀ a, a ∉ Lb → nx a = nx0 a ∧ pv a = pv0 a) : brI L ord kd hs ky vl nx0 pa lf rt pv0 Lb L1 ord1 kd1 hs1 ky1 vl1 nx1 bf1 af1 pa1 lf1 rt1 pv1 hd1 tl1 N1 := by
  obtain ⟨a1, a2⟩ := h
  refine ⟨fun a ha na => ?_, a2⟩
  obtain ⟨c1, c2, c3, c4, c5, c6, c7, c8, c9⟩ := a1 a ha na
  obtain ⟨g1, g2⟩ := e a na
  exact ⟨c1, c2, c3, c4, c5.trans g1, c6, c7, c8, c9.trans g2⟩
/-- nothing is rebuilt: the nodes are as they are -/
theorem brI.same (hl : lnk bf af hd1 tl1 ord) (hoL : ∀ a, a ∈ ord → a ∈ L) (hLo : ∀ a, a ∈ Lb → a ∈ ord) : brI L ord kd hs ky vl nx pa lf rt pv Lb L ord kd hs ky vl nx bf af pa lf rt pv hd1 tl1 Lb := by
  refine ⟨fun a _ _ => ⟨rfl, rfl, rfl, rfl, rfl, rfl, rfl, rfl, rfl⟩, hl, fun a => ⟨fun h => ?_, fun h => h.elim (fun h => h.1) (hLo a)⟩, fun a h _ => h, hoL, fun a h => h, rfl, fun a h => ⟨a, h, rfl⟩, rfl⟩
  by_cases q : a ∈ Lb
  · exact Or.inr q
  · exact Or.inl ⟨h, q⟩
/-- the nodes of a list are made a tree -/
theorem br_tfy {l1 l2 : List Nat} {root : Nat} {rd rd2 : Nat → Int32} (hl : lnk bf af hd1 tl1 ord) (hoL : ∀ a, a ∈ ord → a ∈ L) (hLo : ∀ a, a ∈ Lb → a ∈ ord) (hk : ∀ a, a ∈ Lb → kd a = true) (hlen : 6 < Lb.length) (hnd : Lb.Nodup) (hN : Lb = l1 ++ root :: l2) (hT : tI (fun a => (hs a).toInt) (fun a => a ∈ Lb) pa2 lf2 rt2 root) (hseg : seg nx2 (some root) (root :: (l1 ++ l2)) none) (hbck : bck pv2 none (root :: (l1 ++ l2))) (hu : ∀ a, a ∉ Lb → nx2 a = nx a ∧ pv2 a = pv a) (ho : oF (fun a => a ∈ Lb) pa lf rt rd pa2 lf2 rt2 rd2) :
    brI L ord kd hs ky vl nx pa lf rt pv Lb L ord kd hs ky vl nx2 bf af pa2 lf2 rt2 pv2 hd1 tl1 (root :: (l1 ++ l2)) ∧ binI kd hs nx2 pa2 lf2 rt2 pv2 (some root) (root :: (l1 ++ l2)) := by
  have hmem : ∀ a, a ∈ root :: (l1 ++ l2) ↔ a ∈ Lb := fun a => by rw [hN]; exact mid_mem
  have hlNs : (root :: (l1 ++ l2)).length = Lb.length := by
    rw [hN, List.length_append, List.length_cons, List.length_cons, List.length_append]; omega
  refine ⟨⟨fun a _ na => ?_, hl, fun a => ?_, fun a h _ => (hmem a).mp h, hoL, fun a h => h, rfl, fun a h => ⟨a, (hmem a).mp h, rfl⟩, hlNs⟩, hseg, ?_, Or.inr ⟨fun a ha => hk a ((hmem a).mp ha), by rw [hlNs]; exact hlen, hbck, root, l1 ++ l2, rfl, hT.congr hmem (fun _ _ => rfl) (fun _ _ => rfl) (fun _ _ => rfl)⟩⟩
  · obtain ⟨u1, u2⟩ := hu a na
    obtain ⟨o1, o2, o3, -⟩ := ho a na
    exact ⟨rfl, rfl, rfl, rfl, u1, o1, o2, o3, u2⟩
  · rw [hmem]
    constructor
    · intro h
      by_cases q : a ∈ Lb
      · exact Or.inr q
      · exact Or.inl ⟨h, q⟩
    · rintro (h | h)
      · exact h.1
      · exact hLo a h
  · rw [hN] at hnd
    obtain ⟨n1, n2, n3, n4⟩ := nd_split hnd
    exact List.nodup_cons.mpr ⟨fun e => (List.mem_append.mp e).elim n1 n2, n3⟩
end BR2
