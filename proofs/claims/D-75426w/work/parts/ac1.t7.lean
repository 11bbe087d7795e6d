/-! ===== plain: a bin is rebuilt ===== -/
set_option maxRecDepth 100000
/-- the nodes Lb of a bin are rebuilt, or replaced, as Ns; the others are as they were -/
def brI (L ord : List Nat) (kd : Nat → Bool) (hs : Nat → Int32) (ky vl : Nat → Nat) (nx pa lf rt pv : Nat → Option Nat) (Lb L' ord' : List Nat) (kd' : Nat → Bool) (hs' : Nat → Int32) (ky' vl' : Nat → Nat) (nx' bf' af' pa' lf' rt' pv' : Nat → Option Nat) (hd' tl' : Option Nat) (Ns : List Nat) : Prop :=
  (∀ a, a ∈ L → a ∉ Lb → kd' a = kd a ∧ hs' a = hs a ∧ ky' a = ky a ∧ vl' a = vl a ∧ nx' a = nx a ∧ pa' a = pa a ∧ lf' a = lf a ∧ rt' a = rt a ∧ pv' a = pv a) ∧ lnk bf' af' hd' tl' ord' ∧ (∀ a, a ∈ ord' ↔ (a ∈ ord ∧ a ∉ Lb) ∨ a ∈ Ns) ∧ (∀ a, a ∈ Ns → a ∈ L → a ∈ Lb) ∧ (∀ a, a ∈ ord' → a ∈ L') ∧ (∀ a, a ∈ L → a ∈ L') ∧ ord'.map (dt hs' ky' vl') = ord.map (dt hs ky vl) ∧ (∀ a, a ∈ Ns → ∃ c, c ∈ Lb ∧ hs' a = hs c) ∧ Ns.length = Lb.length
section BR
variable {L ord Lb L' ord' Ns : List Nat} {kd : Nat → Bool} {hs : Nat → Int32} {ky vl : Nat → Nat} {nx bf af pa lf rt pv : Nat → Option Nat} {kd' : Nat → Bool} {hs' : Nat → Int32} {ky' vl' : Nat → Nat} {nx' bf' af' pa' lf' rt' pv' : Nat → Option Nat} {hd' tl' : Option Nat}
theorem map_dt_hs {l l' : List Nat} {hs hs' : Nat → Int32} {ky ky' vl vl' : Nat → Nat} (h : l'.map (dt hs' ky' vl') = l.map (dt hs ky vl)) : l'.map hs' = l.map hs := by
  have h9 := congrArg (List.map (fun q : Int32 × Nat × Nat => q.1)) h
  rw [List.map_map, List.map_map] at h9
  exact h9
theorem mem_map_eq {l l' : List Nat} {hs hs' : Nat → Int32} (h : l'.map hs' = l.map hs) {a : Nat} (ha : a ∈ l') : ∃ c, c ∈ l ∧ hs' a = hs c := by
  have h1 : hs' a ∈ l.map hs := by rw [← h]; exact List.mem_map.mpr ⟨a, ha, rfl⟩
  obtain ⟨c, h2, h3⟩ := List.mem_map.mp h1
  exact ⟨c, h2, h3.symm⟩
/-- hashes stay apart -/
theorem inj_map {hs hs' : Nat → Int32} : ∀ {l l' : List Nat}, l'.map hs' = l.map hs → l.Nodup → l'.Nodup → (∀ a c, a ∈ l → c ∈ l → hs a = hs c → a = c) → ∀ a c, a ∈ l' → c ∈ l' → hs' a = hs' c → a = c := by
  intro l l' h hn hn' hi
  have nd : (l.map hs).Nodup := by
    have : ∀ m : List Nat, m.Nodup → (∀ a c, a ∈ m → c ∈ m → hs a = hs c → a = c) → (m.map hs).Nodup := by
      intro m
      induction m with
      | nil => intro _ _; exact List.nodup_nil
      | cons x m ih =>
        intro h1 h2
        obtain ⟨h3, h4⟩ := List.nodup_cons.mp h1
        rw [List.map_cons]
        refine List.nodup_cons.mpr ⟨fun e => ?_, ih h4 (fun a c ha hc => h2 a c (List.mem_cons_of_mem _ ha) (List.mem_cons_of_mem _ hc))⟩
        obtain ⟨c, hc, e2⟩ := List.mem_map.mp e
        have := h2 c x (List.mem_cons_of_mem _ hc) List.mem_cons_self e2
        exact h3 (by rw [← this]; exact hc)
    exact this l hn hi
  rw [← h] at nd
  have : ∀ m : List Nat, (m.map hs').Nodup → ∀ a c, a ∈ m → c ∈ m → hs' a = hs' c → a = c := by
    intro m
    induction m with
    | nil => intro _ a c ha; exact absurd ha List.not_mem_nil
    | cons x m ih =>
      intro h1 a c ha hc e
      rw [List.map_cons] at h1
      obtain ⟨h3, h4⟩ := List.nodup_cons.mp h1
      rcases List.mem_cons.mp ha with ha | ha
      · rcases List.mem_cons.mp hc with hc | hc
        · exact ha.trans hc.symm
        · exact absurd (List.mem_map.mpr ⟨c, hc, by rw [← e, ha]⟩) h3
      · rcases List.mem_cons.mp hc with hc | hc
        · exact absurd (List.mem_map.mpr ⟨a, ha, by rw [e, hc]⟩) h3
        · exact ih h4 a c ha hc e
  exact this l' nd
theorem br_tree {hd1 tl1 : Option Nat} {N L1 ord1 l1 l2 : List Nat} {kd1 : Nat → Bool} {hs1 : Nat → Int32} {ky1 vl1 : Nat → Nat} {nx1 bf1 af1 pa1 lf1 rt1 pv1 : Nat → Option Nat} {nx2 pa2 lf2 rt2 pv2 : Nat → Option Nat} {rd1 rd2 : Nat → Int32} {root : Nat} (hR : rbI true L kd hs ky vl nx pa lf rt pv ord Lb Lb [] N L1 kd1 hs1 ky1 vl1 nx1 bf1 af1 pa1 lf1 rt1 pv1 hd1 tl1 ord1) (hlen : 6 < Lb.length) (hN : N = l1 ++ root :: l2) (hT : tI (fun a => (hs1 a).toInt) (fun a => a ∈ N) pa2 lf2 rt2 root) (hseg : seg nx2 (some root) (root :: (l1 ++ l2)) none) (hbck : bck pv2 none (root :: (l1 ++ l2))) (hu : ∀ a, a ∉ N → nx2 a = nx1 a ∧ pv2 a = pv1 a) (ho : oF (fun a => a ∈ N) pa1 lf1 rt1 rd1 pa2 lf2 rt2 rd2) :
    brI L ord kd hs ky vl nx pa lf rt pv Lb L1 ord1 kd1 hs1 ky1 vl1 nx2 bf1 af1 pa2 lf2 rt2 pv2 hd1 tl1 (root :: (l1 ++ l2)) ∧ binI kd1 hs1 nx2 pa2 lf2 rt2 pv2 (some root) (root :: (l1 ++ l2)) := by
  obtain ⟨h1, h2, h3, h4, h5, h6, h7, h8, h9, h10, h11, h12, h13⟩ := hR
  have hmem : ∀ a, a ∈ root :: (l1 ++ l2) ↔ a ∈ N := fun a => by
    rw [hN]
    simp only [List.mem_cons, List.mem_append]
    constructor
    · rintro (h | h | h)
      · exact Or.inr (Or.inl h)
      · exact Or.inl h
      · exact Or.inr (Or.inr h)
    · rintro (h | h | h)
      · exact Or.inr (Or.inl h)
      · exact Or.inl h
      · exact Or.inr (Or.inr h)
  have hlN : N.length = Lb.length := by
    have := congrArg List.length h6
    rw [List.length_map, List.length_map] at this
    exact this
  have hlNs : (root :: (l1 ++ l2)).length = N.length := by
    rw [hN, List.length_append, List.length_cons, List.length_cons, List.length_append]; omega
  refine ⟨⟨fun a ha hna => ?_, h8, fun a => ?_, fun a ha hL => absurd hL (h2 a ((hmem a).mp ha)).2.1, fun a ha => ?_, fun a ha => (h7 a ha).1, h10, fun a ha => ?_, hlNs.trans hlN⟩, hseg, ?_, Or.inr ⟨fun a ha => (h2 a ((hmem a).mp ha)).2.2, by rw [hlNs, hlN]; exact hlen, hbck, root, l1 ++ l2, rfl, hT.congr hmem (fun _ _ => rfl) (fun _ _ => rfl) (fun _ _ => rfl)⟩⟩
  · obtain ⟨g0, g1, g2, g3, g4, g5, g6, g7, g8, g9⟩ := h7 a ha
    have na : a ∉ N := fun e => (h2 a e).2.1 ha
    obtain ⟨u1, u2⟩ := hu a na
    obtain ⟨o1, o2, o3, -⟩ := ho a na
    exact ⟨g1, g2, g3, g4, u1.trans g5, o1.trans g6, o2.trans g7, o3.trans g8, u2.trans g9⟩
  · rw [hmem, h9]
  · rcases (h9 a).mp ha with ⟨g, -⟩ | g
    · exact (h7 a (h11 a g)).1
    · exact (h2 a g).1
  · exact mem_map_eq (map_dt_hs h6) ((hmem a).mp ha)
  · have hn := h3
    rw [hN] at hn
    obtain ⟨n1, n2, n3, n4⟩ := nd_split hn
    refine List.nodup_cons.mpr ⟨fun e => ?_, n3⟩
    rcases List.mem_append.mp e with e | e
    · exact n1 e
    · exact n2 e
theorem br_plain {hd1 tl1 : Option Nat} {N L1 ord1 : List Nat} {kd1 : Nat → Bool} {hs1 : Nat → Int32} {ky1 vl1 : Nat → Nat} {nx1 bf1 af1 pa1 lf1 rt1 pv1 : Nat → Option Nat} (hR : rbI false L kd hs ky vl nx pa lf rt pv ord Lb Lb [] N L1 kd1 hs1 ky1 vl1 nx1 bf1 af1 pa1 lf1 rt1 pv1 hd1 tl1 ord1) : brI L ord kd hs ky vl nx pa lf rt pv Lb L1 ord1 kd1 hs1 ky1 vl1 nx1 bf1 af1 pa1 lf1 rt1 pv1 hd1 tl1 N ∧ binI kd1 hs1 nx1 pa1 lf1 rt1 pv1 N.head? N := by
  obtain ⟨h1, h2, h3, h4, h5, h6, h7, h8, h9, h10, h11, h12, h13⟩ := hR
  have hlN : N.length = Lb.length := by
    have := congrArg List.length h6
    rw [List.length_map, List.length_map] at this
    exact this
  refine ⟨⟨fun a ha hna => ?_, h8, h9, fun a ha hL => absurd hL (h2 a ha).2.1, fun a ha => ?_, fun a ha => (h7 a ha).1, h10, fun a ha => mem_map_eq (map_dt_hs h6) ha, hlN⟩, h4, h3, Or.inl fun a ha => (h2 a ha).2.2⟩
  · obtain ⟨g0, g⟩ := h7 a ha
    exact g
  · rcases (h9 a).mp ha with ⟨g, -⟩ | g
    · exact (h7 a (h11 a g)).1
    · exact (h2 a g).1
end BR
