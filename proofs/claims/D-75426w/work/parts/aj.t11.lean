/-! ===== plain: bins dealt out, a table doubled ===== -/
set_option maxRecDepth 100000
theorem lt30 {n : Nat} (h : n ≤ 1024) : nI n < 1073741824 := by
  rw [Int32.lt_iff_toInt_lt, nI_toInt (by omega)]
  have h0 : (1073741824 : Int32).toInt = 1073741824 := rfl
  omega
theorem ishl1 {n : Nat} (h : n ≤ 1024) : nI n <<< ((1 : Int32) &&& 31) = nI (2 * n) := by
  have key : ∀ m : Fin 1025, nI m.1 <<< ((1 : Int32) &&& 31) = nI (2 * m.1) := by decide +kernel
  exact key ⟨n, by omega⟩
theorem br_deal {L ord Lb Lo Hi : List Nat} {kd : Nat → Bool} {hs : Nat → Int32} {ky vl : Nat → Nat} {nx bf af pa lf rt pv : Nat → Option Nat} {nx1 : Nat → Option Nat} {cap : Nat} {hd tl : Option Nat} (hl : lnk bf af hd tl ord) (hoL : ∀ a, a ∈ ord → a ∈ L) (hLo : ∀ a, a ∈ Lb → a ∈ ord) (hk : ∀ a, a ∈ Lb → kd a = false) (h : dlI hs cap nx Lb Lb [] Lo Hi nx1) :
    brI L ord kd hs ky vl nx pa lf rt pv Lb L ord kd hs ky vl (cutO (cutO nx1 (lstO none Lo)) (lstO none Hi)) bf af pa lf rt pv hd tl (Lo ++ Hi) ∧ binI kd hs (cutO (cutO nx1 (lstO none Lo)) (lstO none Hi)) pa lf rt pv Lo.head? Lo ∧ binI kd hs (cutO (cutO nx1 (lstO none Lo)) (lstO none Hi)) pa lf rt pv Hi.head? Hi := by
  obtain ⟨h1, h2, h3, ⟨o1, h4⟩, ⟨o2, h5⟩, h8, h9⟩ := h
  have hLom : ∀ a, a ∈ Lo → a ∈ Lb ∧ lob hs cap a = true := fun a ha => by rw [h2] at ha; exact List.mem_filter.mp ha
  have hHim : ∀ a, a ∈ Hi → a ∈ Lb ∧ lob hs cap a = false := fun a ha => by
    rw [h3] at ha
    have q := List.mem_filter.mp ha
    exact ⟨q.1, by have h8 := q.2; cases hq : lob hs cap a with
      | true => rw [hq] at h8; cases h8
      | false => rfl⟩
  have hdis : ∀ a, a ∈ Lo → a ∉ Hi := fun a ha h => by have q := (hLom a ha).2; rw [(hHim a h).2] at q; cases q
  have hall : ∀ a, a ∈ Lb → a ∈ Lo ∨ a ∈ Hi := fun a ha => by
    cases hq : lob hs cap a with
    | true => left; rw [h2]; exact List.mem_filter.mpr ⟨ha, hq⟩
    | false => right; rw [h3]; exact List.mem_filter.mpr ⟨ha, by rw [hq]; rfl⟩
  have lLo : ∀ a, lstO none Lo = some a → a ∈ Lo := fun a e => by
    obtain ⟨l0, hz⟩ := lstO_some e
    rw [hz]; exact List.mem_append_right _ List.mem_cons_self
  have lHi : ∀ a, lstO none Hi = some a → a ∈ Hi := fun a e => by
    obtain ⟨l0, hz⟩ := lstO_some e
    rw [hz]; exact List.mem_append_right _ List.mem_cons_self
  have ndLo : Lo.Nodup := by rw [h2]; exact nd_fl h9
  have ndHi : Hi.Nodup := by rw [h3]; exact nd_fl h9
  refine ⟨⟨fun a ha na => ⟨rfl, rfl, rfl, rfl, ?_, rfl, rfl, rfl, rfl⟩, hl, fun a => ?_, fun a ha _ => ?_, hoL, fun a ha => ha, rfl, fun a ha => ⟨a, ?_, rfl⟩, ?_⟩, ⟨?_, ndLo, Or.inl fun a ha => hk a (hLom a ha).1⟩, ⟨?_, ndHi, Or.inl fun a ha => hk a (hHim a ha).1⟩⟩
  · rw [cutO_ne (fun e => na (hHim a (lHi a e)).1), cutO_ne (fun e => na (hLom a (lLo a e)).1)]
    exact h8 a na
  · constructor
    · intro ha
      by_cases hb : a ∈ Lb
      · exact Or.inr (List.mem_append.mpr (hall a hb))
      · exact Or.inl ⟨ha, hb⟩
    · rintro (⟨h, -⟩ | h)
      · exact h
      · rcases List.mem_append.mp h with h | h
        · exact hLo a (hLom a h).1
        · exact hLo a (hHim a h).1
  · rcases List.mem_append.mp ha with h | h
    · exact (hLom a h).1
    · exact (hHim a h).1
  · rcases List.mem_append.mp ha with h | h
    · exact (hLom a h).1
    · exact (hHim a h).1
  · rw [List.length_append, h2, h3]; exact fl_len
  · exact seg_congr (fun a ha => cutO_ne (fun e => hdis a ha (lHi a e))) (cut_seg h4 ndLo)
  · exact cut_seg (seg_congr (fun a ha => cutO_ne (fun e => hdis a (lLo a e) ha)) h5) ndHi
theorem dl_ix {hs : Nat → Int32} {cap j : Nat} {nx nx1 : Nat → Option Nat} {Lb Lo Hi : List Nat} (hc : capI cap) (h : dlI hs cap nx Lb Lb [] Lo Hi nx1) (hj : ∀ a, a ∈ Lb → ixN (hs a) cap = j) : (∀ a, a ∈ Lo → ixN (hs a) (2 * cap) = j) ∧ ∀ a, a ∈ Hi → ixN (hs a) (2 * cap) = j + cap := by
  obtain ⟨h1, h2, h3, -⟩ := h
  constructor
  · intro a ha
    rw [h2] at ha
    obtain ⟨q1, q2⟩ := List.mem_filter.mp ha
    rw [ix_dbl hc, hj a q1]
    exact if_pos q2
  · intro a ha
    rw [h3] at ha
    obtain ⟨q1, q2⟩ := List.mem_filter.mp ha
    rw [ix_dbl hc, hj a q1]
    refine if_neg (fun e => ?_)
    have e' : lob hs cap a = true := e
    rw [e'] at q2
    cases q2
theorem lob_ix {hs : Nat → Int32} {cap j a : Nat} (hc : capI cap) (hj : ixN (hs a) cap = j) : ixN (hs a) (2 * cap) = if lob hs cap a = true then j else j + cap := by
  rw [ix_dbl hc, hj]; rfl
theorem rz_nf1 {α : Type} {nf : Nat → Option α} {j cap : Nat} {v : Option α} (hc : 1 ≤ cap) (h : nf (j + cap) = none) : va_up (va_up nf j v) (j + cap) none = va_up nf j v := up_idv ((up_ne (by omega)).trans h)
theorem rz_nf2 {α : Type} {nf : Nat → Option α} {j : Nat} (h : nf j = none) : va_up nf j none = nf := up_idv h
theorem rz_start {cap : Nat} {of : Nat → Option Nat} {bins : Nat → List Nat} {L ord : List Nat} {kd : Nat → Bool} {hs : Nat → Int32} {ky vl : Nat → Nat} {nx bf af pa lf rt pv : Nat → Option Nat} {hd tl : Option Nat} (hb : binsI kd hs nx pa lf rt pv of cap bins ord) (hl : lnk bf af hd tl ord) (hoL : ∀ a, a ∈ ord → a ∈ L) : rzI cap 0 (ord.map (dt hs ky vl)) of (fun _ => none) bins (fun _ => []) L ord kd hs ky vl nx bf af pa lf rt pv hd tl :=
  ⟨fun b _ h => ⟨hb.1 b h, rfl, rfl, hb.2 b h⟩, fun b h => absurd h (Nat.not_lt_zero _), hl, hoL, rfl⟩
theorem rz_end {cap : Nat} {D : List (Int32 × Nat × Nat)} {of nf : Nat → Option Nat} {bins nb : Nat → List Nat} {L ord : List Nat} {kd : Nat → Bool} {hs : Nat → Int32} {ky vl : Nat → Nat} {nx bf af pa lf rt pv : Nat → Option Nat} {hd tl : Option Nat} (h : rzI cap cap D of nf bins nb L ord kd hs ky vl nx bf af pa lf rt pv hd tl) : binsI kd hs nx pa lf rt pv nf (2 * cap) nb ord := by
  obtain ⟨h1, h2, h3, h4, h5⟩ := h
  constructor
  · intro b hb
    by_cases hbc : b < cap
    · exact (h2 b hbc).1
    · have := (h2 (b - cap) (by omega)).2.1
      rw [show b - cap + cap = b by omega] at this
      exact this
  · intro b hb
    by_cases hbc : b < cap
    · exact (h2 b hbc).2.2.1
    · have := (h2 (b - cap) (by omega)).2.2.2
      rw [show b - cap + cap = b by omega] at this
      exact this
