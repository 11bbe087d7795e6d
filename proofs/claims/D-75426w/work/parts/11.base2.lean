set_option maxRecDepth 100000
/-! ===== contracts over a world; reading worlds ===== -/
def xF (ws : xW) : Nat → Prop := fun a => ∃ (i : Nat) (e : xE), ws[i]? = some (a, e)
def xIn (ws : xW) (V : xV) : Prop := (∀ (i : Nat) (q : Nat × xE), ws[i]? = some q → V.2 q.1 = some q.2 ∧ q.1 < V.1) ∧ ∀ (i j : Nat) (p q : Nat × xE), ws[i]? = some p → ws[j]? = some q → p.1 = q.1 → i = j
theorem xIn.st {ws : xW} {V : xV} (h : xIn ws V) : xSt (xF ws) V ws V := ⟨fun i q hi => ⟨(h.1 i q hi).1, (h.1 i q hi).2, Or.inl ⟨i, q.2, hi⟩⟩, h.2, Nat.le_refl _, fun _ _ _ => rfl⟩
theorem xIn.nil {V : xV} : xIn [] V := ⟨fun i q h => by simp at h, fun i j p q h => by simp at h⟩
/-- the heap is still V, which has the cells ws -/
def xRo (ws : xW) (V0 V : xV) : Prop := V = V0 ∧ xIn ws V0
theorem xRo.get {ws : xW} {V0 V : xV} (h : xRo ws V0 V) (i : Nat) {a : Nat} {e : xE} (hi : ws[i]? = some (a, e)) : V.2 a = some e := by
  rw [h.1]; exact (h.2.1 i _ hi).1
theorem xIn.sub {ws wc : xW} {V : xV} (h : xIn ws V) (is : List Nat) (hn : va_nd is = true) (hs : is.map (fun i => ws[i]?) = wc.map some) : xIn wc V := by
  have at' : ∀ (k : Nat) (q : Nat × xE), wc[k]? = some q → ∃ i, is[k]? = some i ∧ ws[i]? = some q := by
    intro k q hq
    have h1 : (is.map (fun i => ws[i]?))[k]? = some (some q) := by rw [hs, List.getElem?_map, hq]; rfl
    rw [List.getElem?_map] at h1
    cases hi : is[k]? with
    | none => rw [hi] at h1; cases h1
    | some i => rw [hi] at h1; exact ⟨i, rfl, Option.some.inj h1⟩
  refine ⟨fun k q hq => ?_, fun i j p q hp hq hpq => ?_⟩
  · obtain ⟨i, -, hi⟩ := at' k q hq
    exact h.1 i q hi
  · obtain ⟨i', hi', hp'⟩ := at' i p hp
    obtain ⟨j', hj', hq'⟩ := at' j q hq
    have := h.2 i' j' p q hp' hq' hpq
    subst this
    exact va_nd_inj _ hn _ _ _ hi' hj'
theorem xSt.in {F : Nat → Prop} {V0 V : xV} {ws : xW} (h : xSt F V0 ws V) : xIn ws V := ⟨fun i q hi => ⟨(h.1 i q hi).1, (h.1 i q hi).2.1⟩, h.2.1⟩
theorem xRo.in {ws : xW} {V0 V : xV} (h : xRo ws V0 V) : xIn ws V := by rw [h.1]; exact h.2
theorem xSt.sub {F : Nat → Prop} {V0 V : xV} {ws wc : xW} (h : xSt F V0 ws V) (is : List Nat) (hn : va_nd is = true) (hs : is.map (fun i => ws[i]?) = wc.map some) : xSt F V0 wc V := by
  have hin := h.in.sub is hn hs
  refine ⟨fun k q hq => ?_, hin.2, h.2.2.1, h.2.2.2⟩
  have h1 : (is.map (fun i => ws[i]?))[k]? = some (some q) := by rw [hs, List.getElem?_map, hq]; rfl
  rw [List.getElem?_map] at h1
  cases hi : is[k]? with
  | none => rw [hi] at h1; cases h1
  | some i =>
    rw [hi] at h1
    exact h.1 i q (Option.some.inj h1)
/-- behind a call: what the callee was lent comes back changed, the rest is unchanged -/
theorem xSt.join {F : Nat → Prop} {V0 V V' : xV} {ws wc wr w1 : xW} (h : xSt F V0 ws V) (isC isR : List Nat) (hC : isC.map (fun i => ws[i]?) = wc.map some) (hR : isR.map (fun i => ws[i]?) = wr.map some) (hn : va_nd isR = true) (hdis : ∀ i ∈ isR, i ∉ isC) (h' : xSt (xF wc) V w1 V') : xSt F V0 (wr ++ w1) V' := by
  have at' : ∀ {is : List Nat} {w : xW}, is.map (fun i => ws[i]?) = w.map some → ∀ (k : Nat) (q : Nat × xE), w[k]? = some q → ∃ i, is[k]? = some i ∧ ws[i]? = some q := by
    intro is w hs k q hq
    have h1 : (is.map (fun i => ws[i]?))[k]? = some (some q) := by rw [hs, List.getElem?_map, hq]; rfl
    rw [List.getElem?_map] at h1
    cases hi : is[k]? with
    | none => rw [hi] at h1; cases h1
    | some i => rw [hi] at h1; exact ⟨i, rfl, Option.some.inj h1⟩
  obtain ⟨h1, h2, h3, h4⟩ := h
  obtain ⟨g1, g2, g3, g4⟩ := h'
  have apart : ∀ (k : Nat) (q : Nat × xE), wr[k]? = some q → q.1 < V.1 ∧ ¬ xF wc q.1 := by
    intro k q hq
    obtain ⟨i, a1, a2⟩ := at' hR k q hq
    refine ⟨(h1 i q a2).2.1, fun ⟨k2, e, hk⟩ => ?_⟩
    obtain ⟨j, b1, b2⟩ := at' hC k2 (q.1, e) hk
    have hij := h2 i j q (q.1, e) a2 b2 rfl
    subst hij
    exact hdis i (List.mem_of_getElem? a1) (List.mem_of_getElem? b1)
  have lent : ∀ a : Nat, xF wc a → F a ∨ V0.1 ≤ a := by
    intro a ⟨k, e, hk⟩
    obtain ⟨j, b1, b2⟩ := at' hC k (a, e) hk
    exact (h1 j _ b2).2.2
  have hg : ∀ (j : Nat) (q : Nat × xE), (wr ++ w1)[j]? = some q → (j < wr.length ∧ wr[j]? = some q) ∨ (wr.length ≤ j ∧ w1[j - wr.length]? = some q) := by
    intro j q hq
    by_cases hj : j < wr.length
    · rw [List.getElem?_append_left hj] at hq
      exact Or.inl ⟨hj, hq⟩
    · rw [List.getElem?_append_right (by omega)] at hq
      exact Or.inr ⟨by omega, hq⟩
  refine ⟨fun j q hq => ?_, fun i j p q hp hq hpq => ?_, Nat.le_trans h3 g3, fun a ha hF => ?_⟩
  · rcases hg j q hq with ⟨-, hq⟩ | ⟨-, hq⟩
    · obtain ⟨i, a1, a2⟩ := at' hR j q hq
      obtain ⟨b1, b2⟩ := apart j q hq
      obtain ⟨c1, c2, c3⟩ := h1 i q a2
      exact ⟨(g4 q.1 b1 b2).trans c1, Nat.lt_of_lt_of_le c2 g3, c3⟩
    · obtain ⟨c1, c2, c3⟩ := g1 _ q hq
      exact ⟨c1, c2, c3.elim (fun h => lent _ h) (fun h => Or.inr (Nat.le_trans h3 h))⟩
  · rcases hg i p hp with ⟨l1, hp⟩ | ⟨l1, hp⟩ <;> rcases hg j q hq with ⟨l2, hq⟩ | ⟨l2, hq⟩
    · obtain ⟨i', a1, a2⟩ := at' hR i p hp
      obtain ⟨j', b1, b2⟩ := at' hR j q hq
      have := h2 i' j' p q a2 b2 hpq
      subst this
      exact va_nd_inj _ hn _ _ _ a1 b1
    · exfalso
      obtain ⟨b1, b2⟩ := apart i p hp
      rw [hpq] at b1 b2
      exact (g1 _ q hq).2.2.elim b2 (fun h => by omega)
    · exfalso
      obtain ⟨b1, b2⟩ := apart j q hq
      rw [← hpq] at b1 b2
      exact (g1 _ p hp).2.2.elim b2 (fun h => by omega)
    · have := g2 _ _ p q hp hq hpq
      omega
  · rw [g4 a (Nat.lt_of_lt_of_le ha h3) (fun h => (lent a h).elim hF (fun h => by omega))]
    exact h4 a ha hF
def xRm (l : Launch) (G : xG) (y : MethodName) (w : Cond) (rm : Room) (As : List Value) (wc : xW) (r : Option Value) : Prop := ∀ V, xIn wc V → xMet l G y [w] rm As V (fun v V' => v = r ∧ V' = V) (fun _ _ => False)
def xWm (l : Launch) (G : xG) (y : MethodName) (w : Cond) (rm : Room) (As : List Value) (wc : xW) (Q : Option Value → xW → Prop) (X : Nat → xW → Prop) : Prop := ∀ V, xIn wc V → xMet l G y [w] rm As V (fun v V' => ∃ w', Q v w' ∧ xSt (xF wc) V w' V') (fun q V' => ∃ w', X q w' ∧ xSt (xF wc) V w' V')
section XInv2
variable {C : xC} {I : xV → Prop} {k n pc : Nat} {lv lv' : List (Nat × Value)} {st stk : List Value} {own : String} {cc : ByteArray} {nL0 : Nat} {ret : Option FieldType} {rm : Room}
variable {y : MethodName} {bytes : ByteArray} {maxL ix : Nat} {ret2 : Option FieldType} {rm2 : Room}
theorem rx_false {q : Nat} : rx C (fun V' => ∃ V : xV, I V ∧ False) k n pc lv st q := by
  obtain ⟨p, l, e, R, s, m, args, below, meth, c, G, nL, Q, X⟩ := C
  intro V H locs ls ⟨_, _, h⟩
  exact h.elim
theorem rn_same {v : Option Value} {r : Option Value} (kk : rn C I k n pc lv (r.toList ++ st)) : rn C (fun V' => ∃ V, I V ∧ (v = r ∧ V' = V)) k n pc lv (v.toList ++ st) := by
  obtain ⟨p, l, e, R, s, m, args, below, meth, c, G, nL, Q, X⟩ := C
  intro V H locs ls ⟨V1, h1, h2, h3⟩
  subst h2; subst h3
  exact kk _ H locs ls h1
/-- calls that only read: r on the stack, or nothing -/
theorem r_invSr (hC : xCtx C own cc nL0 ret rm) (As : List Value) {wc : xW} (r : Value) (hm : xMS y bytes maxL ret2 As.length) (hlink : Cond.methodLink own ix y ∈ lw_all) (hM : xRm (xL C) (xGG C) y (Cond.code y bytes maxL ret2) rm2 As wc (some r)) (hw : ∀ V, I V → xIn wc V)
    (hR : (rm2.frames + 1).ble rm.frames = true ∧ (8 + (maxL + 11) + rm2.locals).ble rm.locals = true) (k1 n1 : Nat) (hk1 : k + rm2.cells = k1) (hn1 : n + rm2.slots = n1) (hk : k1 ≤ rm.cells) (hn : n1 ≤ rm.slots) (hst : As.reverse ++ st = stk) (h8 : (st.map fun v => v.category).sum ≤ 8) (hd : decode cc pc = .ok (.invokestatic ix, 3)) (pc1 : Nat) (hp : pc + 3 = pc1)
    (kk : rn C I k1 n1 pc1 lv (r :: st)) : rn C I k n pc lv stk := by
  subst hk1 hn1
  exact r_invS hC As hm hlink (fun V hV => hM V (hw V hV)) hR hk hn hst h8 hd pc1 hp (fun _ => rn_same kk) (fun _ => rx_false)
theorem r_invSr0 (hC : xCtx C own cc nL0 ret rm) (As : List Value) {wc : xW} (hm : xMS y bytes maxL ret2 As.length) (hlink : Cond.methodLink own ix y ∈ lw_all) (hM : xRm (xL C) (xGG C) y (Cond.code y bytes maxL ret2) rm2 As wc none) (hw : ∀ V, I V → xIn wc V)
    (hR : (rm2.frames + 1).ble rm.frames = true ∧ (8 + (maxL + 11) + rm2.locals).ble rm.locals = true) (k1 n1 : Nat) (hk1 : k + rm2.cells = k1) (hn1 : n + rm2.slots = n1) (hk : k1 ≤ rm.cells) (hn : n1 ≤ rm.slots) (hst : As.reverse ++ st = stk) (h8 : (st.map fun v => v.category).sum ≤ 8) (hd : decode cc pc = .ok (.invokestatic ix, 3)) (pc1 : Nat) (hp : pc + 3 = pc1)
    (kk : rn C I k1 n1 pc1 lv st) : rn C I k n pc lv stk := by
  subst hk1 hn1
  exact r_invS hC As hm hlink (fun V hV => hM V (hw V hV)) hR hk hn hst h8 hd pc1 hp (fun _ => rn_same (r := none) kk) (fun _ => rx_false)
theorem r_invVr (hC : xCtx C own cc nL0 ret rm) {ci N : Nat} {cN : String} {T9 : u_T} {ty9 : Nat → FieldType} (hcls : xCls ci cN T9 N ty9) (b : Nat) (As : List Value) {wc : xW} (r : Value) (hm : xMV cN y bytes maxL ret2 As.length) (hlink : Cond.methodLink own ix y ∈ lw_all) {fs : List Value} (hrecv : ∀ V, I V → V.2 b = some (.inr (ci, fs))) (hM : xRm (xL C) (xGG C) y (Cond.code y bytes maxL ret2) rm2 (.ref b :: As) wc (some r)) (hw : ∀ V, I V → xIn wc V)
    (hR : (rm2.frames + 1).ble rm.frames = true ∧ (8 + (maxL + 11) + rm2.locals).ble rm.locals = true) (k1 n1 : Nat) (hk1 : k + rm2.cells = k1) (hn1 : n + rm2.slots = n1) (hk : k1 ≤ rm.cells) (hn : n1 ≤ rm.slots) (hst : As.reverse ++ .ref b :: st = stk) (h8 : (st.map fun v => v.category).sum ≤ 8) (hd : decode cc pc = .ok (.invokevirtual ix, 3)) (pc1 : Nat) (hp : pc + 3 = pc1)
    (kk : rn C I k1 n1 pc1 lv (r :: st)) : rn C I k n pc lv stk := by
  subst hk1 hn1
  exact r_invV hC hcls b As hm hlink (fun V hV => ⟨fs, hrecv V hV⟩) (fun V hV => hM V (hw V hV)) hR hk hn hst h8 hd pc1 hp (fun _ => rn_same kk) (fun _ => rx_false)
theorem r_invVr0 (hC : xCtx C own cc nL0 ret rm) {ci N : Nat} {cN : String} {T9 : u_T} {ty9 : Nat → FieldType} (hcls : xCls ci cN T9 N ty9) (b : Nat) (As : List Value) {wc : xW} (hm : xMV cN y bytes maxL ret2 As.length) (hlink : Cond.methodLink own ix y ∈ lw_all) {fs : List Value} (hrecv : ∀ V, I V → V.2 b = some (.inr (ci, fs))) (hM : xRm (xL C) (xGG C) y (Cond.code y bytes maxL ret2) rm2 (.ref b :: As) wc none) (hw : ∀ V, I V → xIn wc V)
    (hR : (rm2.frames + 1).ble rm.frames = true ∧ (8 + (maxL + 11) + rm2.locals).ble rm.locals = true) (k1 n1 : Nat) (hk1 : k + rm2.cells = k1) (hn1 : n + rm2.slots = n1) (hk : k1 ≤ rm.cells) (hn : n1 ≤ rm.slots) (hst : As.reverse ++ .ref b :: st = stk) (h8 : (st.map fun v => v.category).sum ≤ 8) (hd : decode cc pc = .ok (.invokevirtual ix, 3)) (pc1 : Nat) (hp : pc + 3 = pc1)
    (kk : rn C I k1 n1 pc1 lv st) : rn C I k n pc lv stk := by
  subst hk1 hn1
  exact r_invV hC hcls b As hm hlink (fun V hV => ⟨fs, hrecv V hV⟩) (fun V hV => hM V (hw V hV)) hR hk hn hst h8 hd pc1 hp (fun _ => rn_same (r := none) kk) (fun _ => rx_false)
theorem rn_join {F : Nat → Prop} {V0 : xV} {ws wc wr : xW} {v : Option Value} {Q : Option Value → xW → Prop} (isC isR : List Nat) (hCp : isC.map (fun i => ws[i]?) = wc.map some) (hRp : isR.map (fun i => ws[i]?) = wr.map some) (hnd : va_nd isR = true) (hdis : ∀ i ∈ isR, i ∉ isC) (kk : ∀ w', Q v w' → rn C (xSt F V0 (wr ++ w')) k n pc lv st) : rn C (fun V' => ∃ V, xSt F V0 ws V ∧ ∃ w', Q v w' ∧ xSt (xF wc) V w' V') k n pc lv st := by
  obtain ⟨p, l, e, R, s, m, args, below, meth, c, G, nL, Q0, X⟩ := C
  intro V H locs ls ⟨V1, h1, w', h2, h3⟩
  exact kk w' h2 V H locs ls (h1.join isC isR hCp hRp hnd hdis h3)
theorem rx_join {F : Nat → Prop} {V0 : xV} {ws wc wr : xW} {q : Nat} {X9 : Nat → xW → Prop} (isC isR : List Nat) (hCp : isC.map (fun i => ws[i]?) = wc.map some) (hRp : isR.map (fun i => ws[i]?) = wr.map some) (hnd : va_nd isR = true) (hdis : ∀ i ∈ isR, i ∉ isC) (kk : ∀ w', X9 q w' → rx C (xSt F V0 (wr ++ w')) k n pc lv st q) : rx C (fun V' => ∃ V, xSt F V0 ws V ∧ ∃ w', X9 q w' ∧ xSt (xF wc) V w' V') k n pc lv st q := by
  obtain ⟨p, l, e, R, s, m, args, below, meth, c, G, nL, Q0, X⟩ := C
  intro V H locs ls ⟨V1, h1, w', h2, h3⟩
  exact kk w' h2 V H locs ls (h1.join isC isR hCp hRp hnd hdis h3)
/-- a static call over a world -/
theorem r_invSw (hC : xCtx C own cc nL0 ret rm) {F : Nat → Prop} {V0 : xV} {ws : xW} (As : List Value) {wc : xW} (wr : xW) {Q : Option Value → xW → Prop} {X9 : Nat → xW → Prop} (hm : xMS y bytes maxL ret2 As.length) (hlink : Cond.methodLink own ix y ∈ lw_all) (hM : xWm (xL C) (xGG C) y (Cond.code y bytes maxL ret2) rm2 As wc Q X9) (isC isR : List Nat) (hCp : isC.map (fun i => ws[i]?) = wc.map some) (hRp : isR.map (fun i => ws[i]?) = wr.map some) (hnC : va_nd isC = true) (hnd : va_nd isR = true) (hdis : ∀ i ∈ isR, i ∉ isC)
    (hR : (rm2.frames + 1).ble rm.frames = true ∧ (8 + (maxL + 11) + rm2.locals).ble rm.locals = true) (k1 n1 : Nat) (hk1 : k + rm2.cells = k1) (hn1 : n + rm2.slots = n1) (hk : k1 ≤ rm.cells) (hn : n1 ≤ rm.slots) (hst : As.reverse ++ st = stk) (h8 : (st.map fun v => v.category).sum ≤ 8) (hd : decode cc pc = .ok (.invokestatic ix, 3)) (pc1 : Nat) (hp : pc + 3 = pc1)
    (kk : ∀ v w', Q v w' → rn C (xSt F V0 (wr ++ w')) k1 n1 pc1 lv (v.toList ++ st))
    (kx : ∀ q w', X9 q w' → rx C (xSt F V0 (wr ++ w')) k1 n1 pc lv st q) : rn C (xSt F V0 ws) k n pc lv stk := by
  subst hk1 hn1
  exact r_invS hC As hm hlink (fun V hV => hM V (hV.in.sub isC hnC hCp)) hR hk hn hst h8 hd pc1 hp (fun v => rn_join isC isR hCp hRp hnd hdis (kk v)) (fun q => rx_join isC isR hCp hRp hnd hdis (kx q))
theorem r_invVw (hC : xCtx C own cc nL0 ret rm) {F : Nat → Prop} {V0 : xV} {ws : xW} {ci N : Nat} {cN : String} {T9 : u_T} {ty9 : Nat → FieldType} (hcls : xCls ci cN T9 N ty9) (b : Nat) (As : List Value) {wc : xW} (wr : xW) {Q : Option Value → xW → Prop} {X9 : Nat → xW → Prop} (hm : xMV cN y bytes maxL ret2 As.length) (hlink : Cond.methodLink own ix y ∈ lw_all) (i0 : Nat) {fs : List Value} (hrecv : ws[i0]? = some (b, .inr (ci, fs))) (hM : xWm (xL C) (xGG C) y (Cond.code y bytes maxL ret2) rm2 (.ref b :: As) wc Q X9) (isC isR : List Nat) (hCp : isC.map (fun i => ws[i]?) = wc.map some) (hRp : isR.map (fun i => ws[i]?) = wr.map some) (hnC : va_nd isC = true) (hnd : va_nd isR = true) (hdis : ∀ i ∈ isR, i ∉ isC)
    (hR : (rm2.frames + 1).ble rm.frames = true ∧ (8 + (maxL + 11) + rm2.locals).ble rm.locals = true) (k1 n1 : Nat) (hk1 : k + rm2.cells = k1) (hn1 : n + rm2.slots = n1) (hk : k1 ≤ rm.cells) (hn : n1 ≤ rm.slots) (hst : As.reverse ++ .ref b :: st = stk) (h8 : (st.map fun v => v.category).sum ≤ 8) (hd : decode cc pc = .ok (.invokevirtual ix, 3)) (pc1 : Nat) (hp : pc + 3 = pc1)
    (kk : ∀ v w', Q v w' → rn C (xSt F V0 (wr ++ w')) k1 n1 pc1 lv (v.toList ++ st))
    (kx : ∀ q w', X9 q w' → rx C (xSt F V0 (wr ++ w')) k1 n1 pc lv st q) : rn C (xSt F V0 ws) k n pc lv stk := by
  subst hk1 hn1
  exact r_invV hC hcls b As hm hlink (fun V hV => ⟨fs, hV.get i0 hrecv⟩) (fun V hV => hM V (hV.in.sub isC hnC hCp)) hR hk hn hst h8 hd pc1 hp (fun v => rn_join isC isR hCp hRp hnd hdis (kk v)) (fun q => rx_join isC isR hCp hRp hnd hdis (kx q))
theorem r_invIw (hC : xCtx C own cc nL0 ret rm) {F : Nat → Prop} {V0 : xV} {ws : xW} (b : Nat) (As : List Value) {wc : xW} (wr : xW) {Q : Option Value → xW → Prop} {X9 : Nat → xW → Prop} (hm : xMI y bytes maxL As.length) (hlink : Cond.methodLink own ix y ∈ lw_all) (hM : xWm (xL C) (xGG C) y (Cond.code y bytes maxL none) rm2 (.ref b :: As) wc Q X9) (isC isR : List Nat) (hCp : isC.map (fun i => ws[i]?) = wc.map some) (hRp : isR.map (fun i => ws[i]?) = wr.map some) (hnC : va_nd isC = true) (hnd : va_nd isR = true) (hdis : ∀ i ∈ isR, i ∉ isC)
    (hR : (rm2.frames + 1).ble rm.frames = true ∧ (8 + (maxL + 11) + rm2.locals).ble rm.locals = true) (k1 n1 : Nat) (hk1 : k + rm2.cells = k1) (hn1 : n + rm2.slots = n1) (hk : k1 ≤ rm.cells) (hn : n1 ≤ rm.slots) (hst : As.reverse ++ .ref b :: st = stk) (h8 : (st.map fun v => v.category).sum ≤ 8) (hd : decode cc pc = .ok (.invokespecial ix, 3)) (pc1 : Nat) (hp : pc + 3 = pc1)
    (kk : ∀ v w', Q v w' → rn C (xSt F V0 (wr ++ w')) k1 n1 pc1 lv (v.toList ++ st))
    (kx : ∀ q w', X9 q w' → rx C (xSt F V0 (wr ++ w')) k1 n1 pc lv st q) : rn C (xSt F V0 ws) k n pc lv stk := by
  subst hk1 hn1
  exact r_invI hC b As hm hlink (fun V hV => hM V (hV.in.sub isC hnC hCp)) hR hk hn hst h8 hd pc1 hp (fun v => rn_join isC isR hCp hRp hnd hdis (kk v)) (fun q => rx_join isC isR hCp hRp hnd hdis (kx q))
/-- names for a number -/
theorem r_nmi {x : Int32} (kk : ∀ z : Int32, z = x → rn C I k n pc lv (.int z :: st)) : rn C I k n pc lv (.int x :: st) := kk x rfl
theorem r_nml {x : Int64} (kk : ∀ z : Int64, z = x → rn C I k n pc lv (.long z :: st)) : rn C I k n pc lv (.long x :: st) := kk x rfl
/-! long comparisons with their branch -/
theorem r_lclt (hC : xCtx C own cc nL0 ret rm) {x y9 : Int64} {off : Int} (tgt : Nat) (hd : decode cc pc = .ok (.lcmp, 1)) (hd2 : decode cc (pc + 1) = .ok (.ifCond .lt off, 3)) (ht : ((pc + 1 : Nat) : Int) + off = (tgt : Int)) (pc1 : Nat) (hp : pc + 4 = pc1) (kt : x < y9 → rn C I k n tgt lv st) (kf : ¬ x < y9 → rn C I k n pc1 lv st) : rn C I k n pc lv (.long y9 :: .long x :: st) :=
  r_lcmp hC hd _ rfl (r_iflt hC tgt hd2 ht pc1 hp (fun h => kt ((lg_cmp_lt x y9).mp h)) (fun h => kf (fun h2 => h ((lg_cmp_lt x y9).mpr h2))))
theorem r_lcge (hC : xCtx C own cc nL0 ret rm) {x y9 : Int64} {off : Int} (tgt : Nat) (hd : decode cc pc = .ok (.lcmp, 1)) (hd2 : decode cc (pc + 1) = .ok (.ifCond .ge off, 3)) (ht : ((pc + 1 : Nat) : Int) + off = (tgt : Int)) (pc1 : Nat) (hp : pc + 4 = pc1) (kt : y9 ≤ x → rn C I k n tgt lv st) (kf : ¬ y9 ≤ x → rn C I k n pc1 lv st) : rn C I k n pc lv (.long y9 :: .long x :: st) :=
  r_lcmp hC hd _ rfl (r_ifge hC tgt hd2 ht pc1 hp (fun h => kt ((lg_cmp_ge x y9).mp h)) (fun h => kf (fun h2 => h ((lg_cmp_ge x y9).mpr h2))))
theorem r_lcgt (hC : xCtx C own cc nL0 ret rm) {x y9 : Int64} {off : Int} (tgt : Nat) (hd : decode cc pc = .ok (.lcmp, 1)) (hd2 : decode cc (pc + 1) = .ok (.ifCond .gt off, 3)) (ht : ((pc + 1 : Nat) : Int) + off = (tgt : Int)) (pc1 : Nat) (hp : pc + 4 = pc1) (kt : y9 < x → rn C I k n tgt lv st) (kf : ¬ y9 < x → rn C I k n pc1 lv st) : rn C I k n pc lv (.long y9 :: .long x :: st) :=
  r_lcmp hC hd _ rfl (r_ifgt hC tgt hd2 ht pc1 hp (fun h => kt ((lg_cmp_gt x y9).mp h)) (fun h => kf (fun h2 => h ((lg_cmp_gt x y9).mpr h2))))
theorem r_lcle (hC : xCtx C own cc nL0 ret rm) {x y9 : Int64} {off : Int} (tgt : Nat) (hd : decode cc pc = .ok (.lcmp, 1)) (hd2 : decode cc (pc + 1) = .ok (.ifCond .le off, 3)) (ht : ((pc + 1 : Nat) : Int) + off = (tgt : Int)) (pc1 : Nat) (hp : pc + 4 = pc1) (kt : x ≤ y9 → rn C I k n tgt lv st) (kf : ¬ x ≤ y9 → rn C I k n pc1 lv st) : rn C I k n pc lv (.long y9 :: .long x :: st) :=
  r_lcmp hC hd _ rfl (r_ifle hC tgt hd2 ht pc1 hp (fun h => kt ((lg_cmp_le x y9).mp h)) (fun h => kf (fun h2 => h ((lg_cmp_le x y9).mpr h2))))
theorem r_lceq (hC : xCtx C own cc nL0 ret rm) {x y9 : Int64} {off : Int} (tgt : Nat) (hd : decode cc pc = .ok (.lcmp, 1)) (hd2 : decode cc (pc + 1) = .ok (.ifCond .eq off, 3)) (ht : ((pc + 1 : Nat) : Int) + off = (tgt : Int)) (pc1 : Nat) (hp : pc + 4 = pc1) (kt : x = y9 → rn C I k n tgt lv st) (kf : ¬ x = y9 → rn C I k n pc1 lv st) : rn C I k n pc lv (.long y9 :: .long x :: st) :=
  r_lcmp hC hd _ rfl (r_ifeq hC tgt hd2 ht pc1 hp (fun h => kt ((lg_cmp_eq x y9).mp h)) (fun h => kf (fun h2 => h ((lg_cmp_eq x y9).mpr h2))))
theorem r_lcne (hC : xCtx C own cc nL0 ret rm) {x y9 : Int64} {off : Int} (tgt : Nat) (hd : decode cc pc = .ok (.lcmp, 1)) (hd2 : decode cc (pc + 1) = .ok (.ifCond .ne off, 3)) (ht : ((pc + 1 : Nat) : Int) + off = (tgt : Int)) (pc1 : Nat) (hp : pc + 4 = pc1) (kt : ¬ x = y9 → rn C I k n tgt lv st) (kf : x = y9 → rn C I k n pc1 lv st) : rn C I k n pc lv (.long y9 :: .long x :: st) :=
  r_lcmp hC hd _ rfl (r_ifne hC tgt hd2 ht pc1 hp (fun h => kt (fun h2 => h ((lg_cmp_eq x y9).mpr h2))) (fun h => kf ((lg_cmp_eq x y9).mp h)))
end XInv2
