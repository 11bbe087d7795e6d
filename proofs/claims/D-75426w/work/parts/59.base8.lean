/-! ===== calls of every kind; throwing ===== -/
set_option maxRecDepth 100000
/-- a call at pc: what comes back, or is thrown, is what the callee's contract says -/
def xCall (C : xC) (I : xV → Prop) (k n pc len : Nat) (lv : List (Nat × Value)) (stk st : List Value) (rm2 : Room) (Q2 : xV → Option Value → xV → Prop) (X2 : xV → Nat → xV → Prop) : Prop :=
  (∀ v, rn C (fun V' => ∃ V, I V ∧ Q2 V v V') (k + rm2.cells) (n + rm2.slots) (pc + len) lv (v.toList ++ st)) → (∀ q, rx C (fun V' => ∃ V, I V ∧ X2 V q V') (k + rm2.cells) (n + rm2.slots) pc lv st q) → rn C I k n pc lv stk
/-- the order of the cells doesn't matter -/
theorem xSt.perm {F : Nat → Prop} {V0 V : xV} {ws ws' : xW} (h : xSt F V0 ws V) (hp : ws.Perm ws') : xSt F V0 ws' V := by
  obtain ⟨h1, h2, h3, h4⟩ := h
  have m1 : ∀ q, q ∈ ws' → V.2 q.1 = some q.2 ∧ q.1 < V.1 ∧ (F q.1 ∨ V0.1 ≤ q.1) := fun q hq => by
    obtain ⟨i, hi⟩ := List.getElem?_of_mem (hp.mem_iff.mpr hq)
    exact h1 i q hi
  have nd : ws.Pairwise (fun p q => p.1 ≠ q.1) := by
    rw [List.pairwise_iff_getElem]
    intro i j hi hj hij he
    have := h2 i j _ _ (List.getElem?_eq_getElem hi) (List.getElem?_eq_getElem hj) he
    omega
  have nd' : ws'.Pairwise (fun p q => p.1 ≠ q.1) := (hp.pairwise_iff (fun h e => h e.symm)).mp nd
  rw [List.pairwise_iff_getElem] at nd'
  refine ⟨fun i q hq => m1 q (List.mem_of_getElem? hq), fun i j p q hp9 hq9 hpq => ?_, h3, h4⟩
  obtain ⟨hi, rfl⟩ := List.getElem?_eq_some_iff.mp hp9
  obtain ⟨hj, rfl⟩ := List.getElem?_eq_some_iff.mp hq9
  refine Classical.byContradiction fun hne => ?_
  rcases Nat.lt_or_gt_of_ne hne with hlt | hlt
  · exact nd' i j hi hj hlt hpq
  · exact nd' j i hj hi hlt hpq.symm
theorem xIn.perm {V : xV} {ws ws' : xW} (h : xIn ws V) (hp : ws.Perm ws') : xIn ws' V := (h.st.perm hp).in
theorem xIn.left {V : xV} {wc wr : xW} (h : xIn (wc ++ wr) V) : xIn wc V := by
  refine ⟨fun i q hi => ?_, fun i j p q hi hj hpq => ?_⟩
  · have hl := (List.getElem?_eq_some_iff.mp hi).1
    exact h.1 i q (by rw [List.getElem?_append_left hl]; exact hi)
  · have hl := (List.getElem?_eq_some_iff.mp hi).1
    have hl2 := (List.getElem?_eq_some_iff.mp hj).1
    exact h.2 i j p q (by rw [List.getElem?_append_left hl]; exact hi) (by rw [List.getElem?_append_left hl2]; exact hj) hpq
theorem va_nd_range : ∀ (m s : Nat), va_nd (List.range' s m) = true := by
  intro m
  induction m with
  | zero => intro s; rfl
  | succ m ih =>
    intro s
    rw [List.range'_succ, va_nd, ih, Bool.and_true]
    refine decide_eq_true fun h => ?_
    obtain ⟨h1, h2⟩ := List.mem_range'_1.mp h
    omega
theorem range_at : ∀ (a b c : xW), (List.range' a.length b.length).map (fun i => (a ++ b ++ c)[i]?) = b.map some := by
  intro a b
  induction b generalizing a with
  | nil => intro c; rfl
  | cons x b ih =>
    intro c
    rw [List.length_cons, List.range'_succ, List.map_cons, List.map_cons]
    have h := ih (a ++ [x]) c
    rw [List.length_append, List.length_cons, List.length_nil] at h
    rw [show a ++ x :: b ++ c = a ++ [x] ++ b ++ c by simp]
    rw [h]
    congr 1
    simp
/-- the first cells are lent, the rest stays -/
theorem xSt.joinA {F : Nat → Prop} {V0 V V' : xV} {wc wr w1 : xW} (h : xSt F V0 (wc ++ wr) V) (h' : xSt (xF wc) V w1 V') : xSt F V0 (wr ++ w1) V' := by
  refine h.join (List.range' 0 wc.length) (List.range' wc.length wr.length) ?_ ?_ (va_nd_range _ _) ?_ h'
  · exact range_at [] wc wr
  · have := range_at wc wr []
    rw [List.append_nil] at this
    exact this
  · intro i hi hi2
    obtain ⟨h1, h2⟩ := List.mem_range'_1.mp hi
    obtain ⟨h3, h4⟩ := List.mem_range'_1.mp hi2
    omega
section XCALL
variable {C : xC} {I : xV → Prop} {k n pc len : Nat} {lv lv' : List (Nat × Value)} {st stk : List Value} {own : String} {cc : ByteArray} {nL0 : Nat} {ret : Option FieldType} {rm : Room}
variable {y : MethodName} {bytes : ByteArray} {maxL ix : Nat} {ret2 : Option FieldType} {rm2 : Room} {Q2 : xV → Option Value → xV → Prop} {X2 : xV → Nat → xV → Prop}
theorem xCall.w {F : Nat → Prop} {V0 : xV} {ws wc wr : xW} {Q : Option Value → xW → Prop} {X9 : Nat → xW → Prop} (h : xCall C (xSt F V0 ws) k n pc len lv stk st rm2 (fun V v V' => ∃ w', Q v w' ∧ xSt (xF wc) V w' V') (fun V q V' => ∃ w', X9 q w' ∧ xSt (xF wc) V w' V')) (isC isR : List Nat) (hCp : isC.map (fun i => ws[i]?) = wc.map some) (hRp : isR.map (fun i => ws[i]?) = wr.map some) (hnd : va_nd isR = true) (hdis : ∀ i ∈ isR, i ∉ isC) (k1 n1 pc1 : Nat) (hk1 : k + rm2.cells = k1) (hn1 : n + rm2.slots = n1) (hp : pc + len = pc1)
    (kk : ∀ v w', Q v w' → rn C (xSt F V0 (wr ++ w')) k1 n1 pc1 lv (v.toList ++ st)) (kx : ∀ q w', X9 q w' → rx C (xSt F V0 (wr ++ w')) k1 n1 pc lv st q) : rn C (xSt F V0 ws) k n pc lv stk := by
  subst hk1 hn1 hp
  exact h (fun v => rn_join isC isR hCp hRp hnd hdis (kk v)) (fun q => rx_join isC isR hCp hRp hnd hdis (kx q))
theorem xCall.p {F : Nat → Prop} {V0 : xV} {ws wc wr : xW} {Q : Option Value → xW → Prop} {X9 : Nat → xW → Prop} (h : xCall C (xSt F V0 ws) k n pc len lv stk st rm2 (fun V v V' => ∃ w', Q v w' ∧ xSt (xF wc) V w' V') (fun V q V' => ∃ w', X9 q w' ∧ xSt (xF wc) V w' V')) (hP : ws.Perm (wc ++ wr)) (k1 n1 pc1 : Nat) (hk1 : k + rm2.cells = k1) (hn1 : n + rm2.slots = n1) (hp : pc + len = pc1)
    (kk : ∀ v w', Q v w' → rn C (xSt F V0 (wr ++ w')) k1 n1 pc1 lv (v.toList ++ st)) (kx : ∀ q w', X9 q w' → rx C (xSt F V0 (wr ++ w')) k1 n1 pc lv st q) : rn C (xSt F V0 ws) k n pc lv stk := by
  subst hk1 hn1 hp
  refine h (fun v => ?_) (fun q => ?_)
  · obtain ⟨p, l, e, R, s, m, args, below, meth, c, G, nL, Q0, X⟩ := C
    intro V H locs ls ⟨V1, h1, w', h2, h3⟩
    exact kk v w' h2 V H locs ls ((h1.perm hP).joinA h3)
  · obtain ⟨p, l, e, R, s, m, args, below, meth, c, G, nL, Q0, X⟩ := C
    intro V H locs ls ⟨V1, h1, w', h2, h3⟩
    exact kx q w' h2 V H locs ls ((h1.perm hP).joinA h3)
theorem xCall.r {r : Option Value} (h : xCall C I k n pc len lv stk st rm2 (fun V v V' => v = r ∧ V' = V) (fun _ _ _ => False)) (k1 n1 pc1 : Nat) (hk1 : k + rm2.cells = k1) (hn1 : n + rm2.slots = n1) (hp : pc + len = pc1) (kk : rn C I k1 n1 pc1 lv (r.toList ++ st)) : rn C I k n pc lv stk := by
  subst hk1 hn1 hp
  exact h (fun _ => rn_same kk) (fun _ => rx_false)

theorem r_cS (hC : xCtx C own cc nL0 ret rm) (As : List Value) (hm : xMS y bytes maxL ret2 As.length) (hlink : Cond.methodLink own ix y ∈ lw_all)  (hM : ∀ V, I V → xMet (xL C) (xGG C) y [Cond.code y bytes maxL ret2] rm2 As V (Q2 V) (X2 V))
    (hR : (rm2.frames + 1).ble rm.frames = true ∧ (8 + (maxL + 11) + rm2.locals).ble rm.locals = true) (hk : k + rm2.cells ≤ rm.cells) (hn : n + rm2.slots ≤ rm.slots) (hst : As.reverse ++ st = stk) (h8 : (st.map fun v => v.category).sum ≤ 8) (hd : decode cc pc = .ok (.invokestatic ix, 3)) : xCall C I k n pc 3 lv stk st rm2 Q2 X2 := by
  intro kk kx
  obtain ⟨p, l, e, R, s, m, args, below, meth, c, G, nL, Q, X⟩ := C
  obtain ⟨hx, hb, hml, hnL, hown, hts, hK, hr, hlocks, hW0, hRm, -⟩ := hC
  subst hRm
  obtain ⟨hstat, hini, hcode, hpl⟩ := hm
  obtain ⟨hy, hlen⟩ := xPlain_spec hpl
  intro V H locs ls hV hRep hL hl T hT X0
  have hbk := xBack (p := p) (e := e) (below := below) (sargs := args) (len := 3) (W9 := 8) xCode_code (hM V hV) (Nat.le_of_ble_eq_true hR.1) (Nat.le_of_ble_eq_true hR.2) (xWarmG hts hcode) (xWarmIni (hts _ hini))
  rcases vx_callS X0 hx hown (hts _ hlink) (hts _ hstat) (hts _ hini) (hts _ hcode) hy hbk (g := F0 m pc ls stk) rfl (hl.1.trans hml.symm) (argsL := As) (rest := st) hlen hst.symm (lv_room h8) (by rw [hb]; exact hd)
    (fun vm₁ hW₁ => ⟨hk, hn, rfl, State.WarmedH.trans hW0 hW₁, by show xRep G V T.heap; rw [hT]; exact hRep⟩) with ⟨v, vm₁, B, hW1, X', ⟨V', L, hRep', hQ, hlo, hL', hc, hs⟩, hsteps⟩ | ⟨q, vm₁, B, hW1, X', ⟨V', L, hRep', hQ, hcell, hlo, hL', hc, hs⟩, hsteps⟩
  · rw [hlo, hc, hs] at X'
    obtain ⟨t, a1, b1⟩ := kk v V' B.U.heap (locs ++ L) ls ⟨V, hV, hQ⟩ hRep' (fun q hq => (List.mem_append.mp hq).elim (hL q) (hL' q)) hl B.U rfl X'
    exact ⟨t, hsteps t a1, b1⟩
  · rw [hlo, hc, hs] at X'
    obtain ⟨t, a1, b1⟩ := kx q V' B.U.heap (locs ++ L) ls ⟨V, hV, hQ⟩ hcell hRep' (fun q hq => (List.mem_append.mp hq).elim (hL q) (hL' q)) hl B.U rfl X'
    exact ⟨t, hsteps.trans a1, b1⟩
theorem r_cV (hC : xCtx C own cc nL0 ret rm) {ci N : Nat} {cN : String} {T9 : u_T} {ty9 : Nat → FieldType} (hcls : xCls ci cN T9 N ty9) (b : Nat) (As : List Value) (hm : xMV cN y bytes maxL ret2 As.length) (hlink : Cond.methodLink own ix y ∈ lw_all) (hrecv : ∀ V, I V → ∃ fs, V.2 b = some (.inr (ci, fs))) (hM : ∀ V, I V → xMet (xL C) (xGG C) y [Cond.code y bytes maxL ret2] rm2 (.ref b :: As) V (Q2 V) (X2 V))
    (hR : (rm2.frames + 1).ble rm.frames = true ∧ (8 + (maxL + 11) + rm2.locals).ble rm.locals = true) (hk : k + rm2.cells ≤ rm.cells) (hn : n + rm2.slots ≤ rm.slots) (hst : As.reverse ++ .ref b :: st = stk) (h8 : (st.map fun v => v.category).sum ≤ 8) (hd : decode cc pc = .ok (.invokevirtual ix, 3)) : xCall C I k n pc 3 lv stk st rm2 Q2 X2 := by
  intro kk kx
  obtain ⟨p, l, e, R, s, m, args, below, meth, c, G, nL, Q, X⟩ := C
  obtain ⟨hx, hb, hml, hnL, hown, hts, hK, hr, hlocks, hW0, hRm, -⟩ := hC
  subst hRm
  obtain ⟨hinst, hsel, hini, hcode, hpl⟩ := hm
  obtain ⟨hy, hlen⟩ := xPlain_spec hpl
  intro V H locs ls hV hRep hL hl T hT X0
  have hbk := xBack (p := p) (e := e) (below := below) (sargs := args) (len := 3) (W9 := 8) xCode_code (hM V hV) (Nat.le_of_ble_eq_true hR.1) (Nat.le_of_ble_eq_true hR.2) (xWarmG hts hcode) (xWarmIni (hts _ hini))
  obtain ⟨fs, hfs⟩ := hrecv V hV
  obtain ⟨cell, c1, c2, c3, -⟩ := (hRep.at hfs).obj hcls
  rcases vx_callV X0 hx (C := cN) hown (hts _ hlink) (hts _ hinst) (hts _ hsel) (hts _ hcode) hy hbk (b := b) (by rw [hT]; exact c1) (by rw [c3]; rfl) (by rw [c2]; exact (hK.1 ci _ hcls.1).2.1) (g := F0 m pc ls stk) rfl (hl.1.trans hml.symm) (argsL := As) (rest := st) hlen hst.symm (lv_room h8) (by rw [hb]; exact hd)
    (fun vm₁ hW₁ => ⟨hk, hn, rfl, State.WarmedH.trans hW0 hW₁, by show xRep G V T.heap; rw [hT]; exact hRep⟩) with ⟨v, vm₁, B, hW1, X', ⟨V', L, hRep', hQ, hlo, hL', hc, hs⟩, hsteps⟩ | ⟨q, vm₁, B, hW1, X', ⟨V', L, hRep', hQ, hcell, hlo, hL', hc, hs⟩, hsteps⟩
  · rw [hlo, hc, hs] at X'
    obtain ⟨t, a1, b1⟩ := kk v V' B.U.heap (locs ++ L) ls ⟨V, hV, hQ⟩ hRep' (fun q hq => (List.mem_append.mp hq).elim (hL q) (hL' q)) hl B.U rfl X'
    exact ⟨t, hsteps t a1, b1⟩
  · rw [hlo, hc, hs] at X'
    obtain ⟨t, a1, b1⟩ := kx q V' B.U.heap (locs ++ L) ls ⟨V, hV, hQ⟩ hcell hRep' (fun q hq => (List.mem_append.mp hq).elim (hL q) (hL' q)) hl B.U rfl X'
    exact ⟨t, hsteps.trans a1, b1⟩
theorem r_cI (hC : xCtx C own cc nL0 ret rm) (b : Nat) (As : List Value) (hm : xMI y bytes maxL As.length) (hlink : Cond.methodLink own ix y ∈ lw_all)  (hM : ∀ V, I V → xMet (xL C) (xGG C) y [Cond.code y bytes maxL none] rm2 (.ref b :: As) V (Q2 V) (X2 V))
    (hR : (rm2.frames + 1).ble rm.frames = true ∧ (8 + (maxL + 11) + rm2.locals).ble rm.locals = true) (hk : k + rm2.cells ≤ rm.cells) (hn : n + rm2.slots ≤ rm.slots) (hst : As.reverse ++ .ref b :: st = stk) (h8 : (st.map fun v => v.category).sum ≤ 8) (hd : decode cc pc = .ok (.invokespecial ix, 3)) : xCall C I k n pc 3 lv stk st rm2 Q2 X2 := by
  intro kk kx
  obtain ⟨p, l, e, R, s, m, args, below, meth, c, G, nL, Q, X⟩ := C
  obtain ⟨hx, hb, hml, hnL, hown, hts, hK, hr, hlocks, hW0, hRm, -⟩ := hC
  subst hRm
  obtain ⟨hinst, hini, hcode, hpl, hy1⟩ := hm
  obtain ⟨hy, hlen⟩ := xPlain_spec hpl
  intro V H locs ls hV hRep hL hl T hT X0
  have hbk := xBack (p := p) (e := e) (below := below) (sargs := args) (len := 3) (W9 := 8) xCode_code (hM V hV) (Nat.le_of_ble_eq_true hR.1) (Nat.le_of_ble_eq_true hR.2) (xWarmG hts hcode) (xWarmIni (hts _ hini))
  rcases vx_callI X0 hx hown hy1 (hts _ hlink) (hts _ hinst) (hts _ hcode) hy hbk (g := F0 m pc ls stk) rfl (hl.1.trans hml.symm) (a := b) (argsL := As) (rest := st) hlen hst.symm (lv_room h8) (by rw [hb]; exact hd)
    (fun vm₁ hW₁ => ⟨hk, hn, rfl, State.WarmedH.trans hW0 hW₁, by show xRep G V T.heap; rw [hT]; exact hRep⟩) with ⟨v, vm₁, B, hW1, X', ⟨V', L, hRep', hQ, hlo, hL', hc, hs⟩, hsteps⟩ | ⟨q, vm₁, B, hW1, X', ⟨V', L, hRep', hQ, hcell, hlo, hL', hc, hs⟩, hsteps⟩
  · rw [hlo, hc, hs] at X'
    obtain ⟨t, a1, b1⟩ := kk v V' B.U.heap (locs ++ L) ls ⟨V, hV, hQ⟩ hRep' (fun q hq => (List.mem_append.mp hq).elim (hL q) (hL' q)) hl B.U rfl X'
    exact ⟨t, hsteps t a1, b1⟩
  · rw [hlo, hc, hs] at X'
    obtain ⟨t, a1, b1⟩ := kx q V' B.U.heap (locs ++ L) ls ⟨V, hV, hQ⟩ hcell hRep' (fun q hq => (List.mem_append.mp hq).elim (hL q) (hL' q)) hl B.U rfl X'
    exact ⟨t, hsteps.trans a1, b1⟩
theorem r_cSN (hC : xCtx C own cc nL0 ret rm) (hG : xGood (xGG C)) {host : String} (As : List Value) (hm : xMS y bytes maxL ret2 As.length) (hlink : Cond.methodLinkNest own ix y host ∈ lw_tbl)  (hM : ∀ V, I V → xMet (xL C) (xGG C) y [Cond.code y bytes maxL ret2] rm2 As V (Q2 V) (X2 V))
    (hR : (rm2.frames + 1).ble rm.frames = true ∧ (8 + (maxL + 11) + rm2.locals).ble rm.locals = true) (hk : k + rm2.cells ≤ rm.cells) (hn : n + rm2.slots ≤ rm.slots) (hst : As.reverse ++ st = stk) (h8 : (st.map fun v => v.category).sum ≤ 8) (hd : decode cc pc = .ok (.invokestatic ix, 3)) : xCall C I k n pc 3 lv stk st rm2 Q2 X2 := by
  intro kk kx
  obtain ⟨p, l, e, R, s, m, args, below, meth, c, G, nL, Q, X⟩ := C
  obtain ⟨hx, hb, hml, hnL, hown, hts, hK, hr, hlocks, hW0, hRm, -⟩ := hC
  subst hRm
  obtain ⟨hstat, hini, hcode, hpl⟩ := hm
  obtain ⟨hy, hlen⟩ := xPlain_spec hpl
  intro V H locs ls hV hRep hL hl T hT X0
  have hbk := xBack (p := p) (e := e) (below := below) (sargs := args) (len := 3) (W9 := 8) xCode_code (hM V hV) (Nat.le_of_ble_eq_true hR.1) (Nat.le_of_ble_eq_true hR.2) (xWarmG hts hcode) (xWarmIni (hts _ hini))
  rcases vx_callSN X0 hx hown (va_Nw.use rfl (va_Nw.warmM hW0 (xT hG rfl hlink))) (hts _ hstat) (hts _ hini) (hts _ hcode) hy hbk (g := F0 m pc ls stk) rfl (hl.1.trans hml.symm) (argsL := As) (rest := st) hlen hst.symm (lv_room h8) (by rw [hb]; exact hd)
    (fun vm₁ hW₁ => ⟨hk, hn, rfl, State.WarmedH.trans hW0 hW₁, by show xRep G V T.heap; rw [hT]; exact hRep⟩) with ⟨v, vm₁, B, hW1, X', ⟨V', L, hRep', hQ, hlo, hL', hc, hs⟩, hsteps⟩ | ⟨q, vm₁, B, hW1, X', ⟨V', L, hRep', hQ, hcell, hlo, hL', hc, hs⟩, hsteps⟩
  · rw [hlo, hc, hs] at X'
    obtain ⟨t, a1, b1⟩ := kk v V' B.U.heap (locs ++ L) ls ⟨V, hV, hQ⟩ hRep' (fun q hq => (List.mem_append.mp hq).elim (hL q) (hL' q)) hl B.U rfl X'
    exact ⟨t, hsteps t a1, b1⟩
  · rw [hlo, hc, hs] at X'
    obtain ⟨t, a1, b1⟩ := kx q V' B.U.heap (locs ++ L) ls ⟨V, hV, hQ⟩ hcell hRep' (fun q hq => (List.mem_append.mp hq).elim (hL q) (hL' q)) hl B.U rfl X'
    exact ⟨t, hsteps.trans a1, b1⟩
theorem r_cIN (hC : xCtx C own cc nL0 ret rm) (hG : xGood (xGG C)) {host : String} (b : Nat) (As : List Value) (hm : xMI y bytes maxL As.length) (hlink : Cond.methodLinkNest own ix y host ∈ lw_tbl)  (hM : ∀ V, I V → xMet (xL C) (xGG C) y [Cond.code y bytes maxL none] rm2 (.ref b :: As) V (Q2 V) (X2 V))
    (hR : (rm2.frames + 1).ble rm.frames = true ∧ (8 + (maxL + 11) + rm2.locals).ble rm.locals = true) (hk : k + rm2.cells ≤ rm.cells) (hn : n + rm2.slots ≤ rm.slots) (hst : As.reverse ++ .ref b :: st = stk) (h8 : (st.map fun v => v.category).sum ≤ 8) (hd : decode cc pc = .ok (.invokespecial ix, 3)) : xCall C I k n pc 3 lv stk st rm2 Q2 X2 := by
  intro kk kx
  obtain ⟨p, l, e, R, s, m, args, below, meth, c, G, nL, Q, X⟩ := C
  obtain ⟨hx, hb, hml, hnL, hown, hts, hK, hr, hlocks, hW0, hRm, -⟩ := hC
  subst hRm
  obtain ⟨hinst, hini, hcode, hpl, hy1⟩ := hm
  obtain ⟨hy, hlen⟩ := xPlain_spec hpl
  intro V H locs ls hV hRep hL hl T hT X0
  have hbk := xBack (p := p) (e := e) (below := below) (sargs := args) (len := 3) (W9 := 8) xCode_code (hM V hV) (Nat.le_of_ble_eq_true hR.1) (Nat.le_of_ble_eq_true hR.2) (xWarmG hts hcode) (xWarmIni (hts _ hini))
  rcases vx_callIN X0 hx hown hy1 (va_Nw.use rfl (va_Nw.warmM hW0 (xT hG rfl hlink))) (hts _ hinst) (hts _ hcode) hy hbk (g := F0 m pc ls stk) rfl (hl.1.trans hml.symm) (a := b) (argsL := As) (rest := st) hlen hst.symm (lv_room h8) (by rw [hb]; exact hd)
    (fun vm₁ hW₁ => ⟨hk, hn, rfl, State.WarmedH.trans hW0 hW₁, by show xRep G V T.heap; rw [hT]; exact hRep⟩) with ⟨v, vm₁, B, hW1, X', ⟨V', L, hRep', hQ, hlo, hL', hc, hs⟩, hsteps⟩ | ⟨q, vm₁, B, hW1, X', ⟨V', L, hRep', hQ, hcell, hlo, hL', hc, hs⟩, hsteps⟩
  · rw [hlo, hc, hs] at X'
    obtain ⟨t, a1, b1⟩ := kk v V' B.U.heap (locs ++ L) ls ⟨V, hV, hQ⟩ hRep' (fun q hq => (List.mem_append.mp hq).elim (hL q) (hL' q)) hl B.U rfl X'
    exact ⟨t, hsteps t a1, b1⟩
  · rw [hlo, hc, hs] at X'
    obtain ⟨t, a1, b1⟩ := kx q V' B.U.heap (locs ++ L) ls ⟨V, hV, hQ⟩ hcell hRep' (fun q hq => (List.mem_append.mp hq).elim (hL q) (hL' q)) hl B.U rfl X'
    exact ⟨t, hsteps.trans a1, b1⟩
theorem xCode_with {y : MethodName} {bytes : ByteArray} {maxL : Nat} {ret : Option FieldType} {hh : List (Nat × Nat × Nat × Nat)} : xCode y bytes maxL (Cond.codeWith y bytes maxL ret hh) := by
  intro a U mk hn h
  obtain ⟨m9, methY, cY, hn9, hmY, hcY, -, hlY, -⟩ := Cond.codeWith_spec h
  cases hn.symm.trans hn9
  exact ⟨methY, cY, hmY, hcY, hlY⟩
def xMSW (y : MethodName) (bytes : ByteArray) (maxL : Nat) (ret : Option FieldType) (hh : List (Nat × Nat × Nat × Nat)) (n : Nat) : Prop := Cond.static y ∈ lw_all ∧ Cond.initialized y.cls ∈ lw_all ∧ Cond.codeWith y bytes maxL ret hh ∈ lw_all ∧ xPlain y n = true
def xMVW (Cn : String) (y : MethodName) (bytes : ByteArray) (maxL : Nat) (ret : Option FieldType) (hh : List (Nat × Nat × Nat × Nat)) (n : Nat) : Prop := Cond.instanceMethod y ∈ lw_all ∧ Cond.selects Cn y y ∈ lw_all ∧ Cond.initialized y.cls ∈ lw_all ∧ Cond.codeWith y bytes maxL ret hh ∈ lw_all ∧ xPlain y n = true
theorem r_cSX (hC : xCtx C own cc nL0 ret rm) {hh : List (Nat × Nat × Nat × Nat)} (As : List Value) (hm : xMSW y bytes maxL ret2 hh As.length) (hlink : Cond.methodLink own ix y ∈ lw_all)  (hM : ∀ V, I V → xMet (xL C) (xGG C) y [Cond.codeWith y bytes maxL ret2 hh] rm2 As V (Q2 V) (X2 V))
    (hR : (rm2.frames + 1).ble rm.frames = true ∧ (8 + (maxL + 11) + rm2.locals).ble rm.locals = true) (hk : k + rm2.cells ≤ rm.cells) (hn : n + rm2.slots ≤ rm.slots) (hst : As.reverse ++ st = stk) (h8 : (st.map fun v => v.category).sum ≤ 8) (hd : decode cc pc = .ok (.invokestatic ix, 3)) : xCall C I k n pc 3 lv stk st rm2 Q2 X2 := by
  intro kk kx
  obtain ⟨p, l, e, R, s, m, args, below, meth, c, G, nL, Q, X⟩ := C
  obtain ⟨hx, hb, hml, hnL, hown, hts, hK, hr, hlocks, hW0, hRm, -⟩ := hC
  subst hRm
  obtain ⟨hstat, hini, hcode, hpl⟩ := hm
  obtain ⟨hy, hlen⟩ := xPlain_spec hpl
  intro V H locs ls hV hRep hL hl T hT X0
  have hbk := xBack (p := p) (e := e) (below := below) (sargs := args) (len := 3) (W9 := 8) xCode_with (hM V hV) (Nat.le_of_ble_eq_true hR.1) (Nat.le_of_ble_eq_true hR.2) (xWarmG hts hcode) (xWarmIni (hts _ hini))
  rcases vx_callSX X0 hx hown (hts _ hlink) (hts _ hstat) (hts _ hini) (hts _ hcode) hy hbk (g := F0 m pc ls stk) rfl (hl.1.trans hml.symm) (argsL := As) (rest := st) hlen hst.symm (lv_room h8) (by rw [hb]; exact hd)
    (fun vm₁ hW₁ => ⟨hk, hn, rfl, State.WarmedH.trans hW0 hW₁, by show xRep G V T.heap; rw [hT]; exact hRep⟩) with ⟨v, vm₁, B, hW1, X', ⟨V', L, hRep', hQ, hlo, hL', hc, hs⟩, hsteps⟩ | ⟨q, vm₁, B, hW1, X', ⟨V', L, hRep', hQ, hcell, hlo, hL', hc, hs⟩, hsteps⟩
  · rw [hlo, hc, hs] at X'
    obtain ⟨t, a1, b1⟩ := kk v V' B.U.heap (locs ++ L) ls ⟨V, hV, hQ⟩ hRep' (fun q hq => (List.mem_append.mp hq).elim (hL q) (hL' q)) hl B.U rfl X'
    exact ⟨t, hsteps t a1, b1⟩
  · rw [hlo, hc, hs] at X'
    obtain ⟨t, a1, b1⟩ := kx q V' B.U.heap (locs ++ L) ls ⟨V, hV, hQ⟩ hcell hRep' (fun q hq => (List.mem_append.mp hq).elim (hL q) (hL' q)) hl B.U rfl X'
    exact ⟨t, hsteps.trans a1, b1⟩
theorem r_cVX (hC : xCtx C own cc nL0 ret rm) {hh : List (Nat × Nat × Nat × Nat)} {ci N : Nat} {cN : String} {T9 : u_T} {ty9 : Nat → FieldType} (hcls : xCls ci cN T9 N ty9) (b : Nat) (As : List Value) (hm : xMVW cN y bytes maxL ret2 hh As.length) (hlink : Cond.methodLink own ix y ∈ lw_all) (hrecv : ∀ V, I V → ∃ fs, V.2 b = some (.inr (ci, fs))) (hM : ∀ V, I V → xMet (xL C) (xGG C) y [Cond.codeWith y bytes maxL ret2 hh] rm2 (.ref b :: As) V (Q2 V) (X2 V))
    (hR : (rm2.frames + 1).ble rm.frames = true ∧ (8 + (maxL + 11) + rm2.locals).ble rm.locals = true) (hk : k + rm2.cells ≤ rm.cells) (hn : n + rm2.slots ≤ rm.slots) (hst : As.reverse ++ .ref b :: st = stk) (h8 : (st.map fun v => v.category).sum ≤ 8) (hd : decode cc pc = .ok (.invokevirtual ix, 3)) : xCall C I k n pc 3 lv stk st rm2 Q2 X2 := by
  intro kk kx
  obtain ⟨p, l, e, R, s, m, args, below, meth, c, G, nL, Q, X⟩ := C
  obtain ⟨hx, hb, hml, hnL, hown, hts, hK, hr, hlocks, hW0, hRm, -⟩ := hC
  subst hRm
  obtain ⟨hinst, hsel, hini, hcode, hpl⟩ := hm
  obtain ⟨hy, hlen⟩ := xPlain_spec hpl
  intro V H locs ls hV hRep hL hl T hT X0
  have hbk := xBack (p := p) (e := e) (below := below) (sargs := args) (len := 3) (W9 := 8) xCode_with (hM V hV) (Nat.le_of_ble_eq_true hR.1) (Nat.le_of_ble_eq_true hR.2) (xWarmG hts hcode) (xWarmIni (hts _ hini))
  obtain ⟨fs, hfs⟩ := hrecv V hV
  obtain ⟨cell, c1, c2, c3, -⟩ := (hRep.at hfs).obj hcls
  rcases vx_callVX X0 hx (C := cN) hown (hts _ hlink) (hts _ hinst) (hts _ hsel) (hts _ hcode) hy hbk (b := b) (by rw [hT]; exact c1) (by rw [c3]; rfl) (by rw [c2]; exact (hK.1 ci _ hcls.1).2.1) (g := F0 m pc ls stk) rfl (hl.1.trans hml.symm) (argsL := As) (rest := st) hlen hst.symm (lv_room h8) (by rw [hb]; exact hd)
    (fun vm₁ hW₁ => ⟨hk, hn, rfl, State.WarmedH.trans hW0 hW₁, by show xRep G V T.heap; rw [hT]; exact hRep⟩) with ⟨v, vm₁, B, hW1, X', ⟨V', L, hRep', hQ, hlo, hL', hc, hs⟩, hsteps⟩ | ⟨q, vm₁, B, hW1, X', ⟨V', L, hRep', hQ, hcell, hlo, hL', hc, hs⟩, hsteps⟩
  · rw [hlo, hc, hs] at X'
    obtain ⟨t, a1, b1⟩ := kk v V' B.U.heap (locs ++ L) ls ⟨V, hV, hQ⟩ hRep' (fun q hq => (List.mem_append.mp hq).elim (hL q) (hL' q)) hl B.U rfl X'
    exact ⟨t, hsteps t a1, b1⟩
  · rw [hlo, hc, hs] at X'
    obtain ⟨t, a1, b1⟩ := kx q V' B.U.heap (locs ++ L) ls ⟨V, hV, hQ⟩ hcell hRep' (fun q hq => (List.mem_append.mp hq).elim (hL q) (hL' q)) hl B.U rfl X'
    exact ⟨t, hsteps.trans a1, b1⟩
/-- a method x of an interface is y in the class Cn -/
def xMF (Cn : String) (x y : MethodName) (bytes : ByteArray) (maxL : Nat) (ret : Option FieldType) (n : Nat) : Prop := Cond.instanceMethod y ∈ lw_all ∧ Cond.selects Cn x y ∈ lw_all ∧ Cond.initialized y.cls ∈ lw_all ∧ Cond.code y bytes maxL ret ∈ lw_all ∧ xPlain x n = true ∧ Cond.declares x ∈ lw_tbl ∧ Cond.interfaceMethod x.cls x.cls x.name x.desc ∈ lw_tbl ∧ Cond.publicMethod y ∈ lw_tbl ∧ Cond.unhidden Cn x.name x.desc ∈ lw_tbl ∧ Cond.castable Cn x.cls ∈ lw_tbl
theorem r_cF (hC : xCtx C own cc nL0 ret rm) (hG : xGood (xGG C)) {x : MethodName} {count : Nat} {ci N : Nat} {cN : String} {T9 : u_T} {ty9 : Nat → FieldType} (hcls : xCls ci cN T9 N ty9) (b : Nat) (As : List Value) (hm : xMF cN x y bytes maxL ret2 As.length) (hlink : Cond.methodLink own ix x ∈ lw_all) (hrecv : ∀ V, I V → ∃ fs, V.2 b = some (.inr (ci, fs))) (hM : ∀ V, I V → xMet (xL C) (xGG C) y [Cond.code y bytes maxL ret2] rm2 (.ref b :: As) V (Q2 V) (X2 V))
    (hR : (rm2.frames + 1).ble rm.frames = true ∧ (8 + (maxL + 11) + rm2.locals).ble rm.locals = true) (hk : k + rm2.cells ≤ rm.cells) (hn : n + rm2.slots ≤ rm.slots) (hst : As.reverse ++ .ref b :: st = stk) (h8 : (st.map fun v => v.category).sum ≤ 8) (hd : decode cc pc = .ok (.invokeinterface ix count, 5)) : xCall C I k n pc 5 lv stk st rm2 Q2 X2 := by
  intro kk kx
  obtain ⟨p, l, e, R, s, m, args, below, meth, c, G, nL, Q, X⟩ := C
  obtain ⟨hx, hb, hml, hnL, hown, hts, hK, hr, hlocks, hW0, hRm, -⟩ := hC
  subst hRm
  obtain ⟨hinst, hsel, hini, hcode, hpl, hw1, hw2, hw3, hw4, hw5⟩ := hm
  obtain ⟨hy, hlen⟩ := xPlain_spec hpl
  obtain ⟨-, b9, ht, -⟩ := id hG
  obtain ⟨hF1, hF2, hF3, hF4, hF5⟩ := va_Fw.moved hy hW0.alike (va_Fw.of (ht _ hw1) (ht _ hw2) (ht _ hw3) (ht _ hw4) (ht _ hw5))
  intro V H locs ls hV hRep hL hl T hT X0
  have hbk := xBack (p := p) (e := e) (below := below) (sargs := args) (len := 5) (W9 := 8) xCode_code (hM V hV) (Nat.le_of_ble_eq_true hR.1) (Nat.le_of_ble_eq_true hR.2) (xWarmG hts hcode) (xWarmIni (hts _ hini))
  obtain ⟨fs, hfs⟩ := hrecv V hV
  obtain ⟨cell, c1, c2, c3, -⟩ := (hRep.at hfs).obj hcls
  obtain ⟨kB, hkB, -⟩ := (hK.1 ci _ hcls.1).2.2
  rcases vx_callIF X0 hx (C := cN) hown (hts _ hlink) (va_any rfl hF1) (va_any rfl hF2) (hts _ hsel) (hts _ hinst) (va_any rfl hF3) (va_any rfl hF4) (va_any rfl hF5) (hts _ hcode) hy hbk (b := b) (by rw [hT]; exact c1) (by rw [c3]; rfl) (by rw [c2]; exact (hK.1 ci _ hcls.1).2.1) (by rw [c2]; exact hkB) (g := F0 m pc ls stk) rfl (hl.1.trans hml.symm) (argsL := As) (rest := st) hlen hst.symm (lv_room h8) (by rw [hb]; exact hd)
    (fun vm₁ hW₁ => ⟨hk, hn, rfl, State.WarmedH.trans hW0 hW₁, by show xRep G V T.heap; rw [hT]; exact hRep⟩) with ⟨v, vm₁, B, hW1, X', ⟨V', L, hRep', hQ, hlo, hL', hc, hs⟩, hsteps⟩ | ⟨q, vm₁, B, hW1, X', ⟨V', L, hRep', hQ, hcell, hlo, hL', hc, hs⟩, hsteps⟩
  · rw [hlo, hc, hs] at X'
    obtain ⟨t, a1, b1⟩ := kk v V' B.U.heap (locs ++ L) ls ⟨V, hV, hQ⟩ hRep' (fun q hq => (List.mem_append.mp hq).elim (hL q) (hL' q)) hl B.U rfl X'
    exact ⟨t, hsteps t a1, b1⟩
  · rw [hlo, hc, hs] at X'
    obtain ⟨t, a1, b1⟩ := kx q V' B.U.heap (locs ++ L) ls ⟨V, hV, hQ⟩ hcell hRep' (fun q hq => (List.mem_append.mp hq).elim (hL q) (hL' q)) hl B.U rfl X'
    exact ⟨t, hsteps.trans a1, b1⟩
end XCALL
