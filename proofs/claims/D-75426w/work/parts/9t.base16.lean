/-! ===== calls of a superclass's method ===== -/
set_option maxRecDepth 100000
section VXU
variable {p : Program} {l : Launch} {e : Env} {R : Room} {s : State} {m : MethodId} {args : Array Value} {below : List Frame} {meth : Method} {c : Code} {T : State} {locs : List Loc} {cells slots : Nat}
theorem vx_callU (X : Stand p l e R s m args below meth c T locs cells slots) (hexec : p.tables.exec = Jvm.exec) {own : String} {index : Nat} {y : MethodName} {bytes : ByteArray} {maxL : Nat} {ret : Option FieldType}
    (hown : s.vm.findClass own = some m.cls) (hlink : (Cond.methodLink own index y).before args s = true) (hsame : (Cond.sameMethod y.cls y.cls y.name y.desc).before args s = true) (hsup : (Cond.superclass own y.cls).before args s = true) (hno : y.name ≠ "<init>") (hinst : (Cond.instanceMethod y).before args s = true)
    (hcode : (Cond.code y bytes maxL ret).before args s = true)
    {W9 : Nat} {Pre : Pt → Array Value → Prop} {Post : Pt → Array Value → Option Value → Pt → Prop} {PostX : Pt → Array Value → Addr → Pt → Prop} (hK : vx_Back l R p e below s args y 3 W9 Pre Post PostX)
    {b : Addr} {cellB : Cell} {kB : Class} (hcell : T.heap[b]? = some cellB) (hobj : cellB.vm.isStatics = false) (hkB : s.vm.classes[cellB.cls]? = some kB)
    {g : JFrame} (hg : g.method = m) (hsize : g.locals.size = c.maxLocals) {argsL rest : List Value} (hlen : ∀ sig, parseMethodDescriptor y.desc = some sig → argsL.length = sig.parameters.length)
    (hstack : g.stack = argsL.reverse ++ .ref b :: rest) (hW : 2 * g.monitorRoom + (rest.map fun v => v.category).sum ≤ W9) (hdg : decode c.code g.pc = .ok (.invokespecial index, 3))
    (hpre : ∀ vm₁, s.WarmedH vm₁ → Pre ⟨T.setVm vm₁, locs, cells, slots⟩ (Value.ref b :: argsL).toArray) :
    (∃ (v : Option Value) (vm₁ : Vm) (B : Pt), s.WarmedH vm₁ ∧ Stand p l e R s m args below meth c B.U B.locs B.cells B.slots ∧ Post ⟨T.setVm vm₁, locs, cells, slots⟩ (Value.ref b :: argsL).toArray v B ∧
      ∀ target, Steps p.tables e below (B.U.setTop { g with pc := g.pc + 3, stack := v.toList ++ rest }) target → Steps p.tables e below (T.setTop g) target) ∨
    (∃ (q : Addr) (vm₁ : Vm) (B : Pt), s.WarmedH vm₁ ∧ Stand p l e R s m args below meth c B.U B.locs B.cells B.slots ∧ PostX ⟨T.setVm vm₁, locs, cells, slots⟩ (Value.ref b :: argsL).toArray q B ∧
      Steps p.tables e below (T.setTop g) ((B.U.setTop { g with stack := rest }).pushFrame (.throwing q))) := by
  obtain ⟨mk, methM, hnamed, hmethM, hstM, habM⟩ := Cond.instanceMethod_spec hinst
  obtain ⟨methM', cM, hmethM', -, -, -, -, -, -, hsigM⟩ := Cond.code_spec hnamed hcode
  cases hmethM.symm.trans hmethM'
  obtain ⟨p9, k9, kp9, f1, f2, f3, f4, -, -, f5⟩ := Cond.superclass_spec hown hsup
  have hcl : s.vm.findClass y.cls = some mk.cls := findClass_of_methodNamed hnamed
  cases f1.symm.trans hcl
  have hsub : s.vm.isSubclass mk.cls mk.cls = true := by simp [Vm.isSubclass, Vm.isSubclassAux]
  obtain ⟨vm₁, X₁, hstep₁⟩ := X.invokespecialUp hexec hown hlink hsame (r0 := mk) (r := methM) hnamed hmethM hstM habM hno f2 f5 hcl f4 hsub hcell (fun z h => by rw [h] at hobj; cases hobj) hkB (g := g) hg (hlen _ hsigM) hstack hdg
  rcases hK m meth c ⟨T.setVm vm₁, locs, cells, slots⟩ { g with stack := rest } (.invokespecial index) mk (Value.ref b :: argsL).toArray X₁ hg hsize hdg hW (X₁.named hnamed) (hpre vm₁ X₁.warmed) with ⟨v, B, X', hpost, hsteps⟩ | ⟨q, B, X', hpost, hsteps⟩
  · exact Or.inl ⟨v, vm₁, B, X₁.warmed, X', hpost, fun target h => hstep₁ _ (hsteps.trans h)⟩
  · exact Or.inr ⟨q, vm₁, B, X₁.warmed, X', hpost, hstep₁ _ hsteps⟩
theorem vx_callVP (X : Stand p l e R s m args below meth c T locs cells slots) (hexec : p.tables.exec = Jvm.exec) {own : String} {index : Nat} {y : MethodName} {bytes : ByteArray} {maxL : Nat} {ret : Option FieldType}
    (hown : s.vm.findClass own = some m.cls) (hlink : (Cond.methodLink own index y).before args s = true) (hsame : (Cond.sameMethod y.cls y.cls y.name y.desc).before args s = true) (hpriv : (Cond.privateMethod y).before args s = true) (hinst : (Cond.instanceMethod y).before args s = true)
    (hcode : (Cond.code y bytes maxL ret).before args s = true) (hy : y.cls ≠ "java/lang/invoke/MethodHandle" ∧ y.cls ≠ "java/lang/invoke/VarHandle")
    {W9 : Nat} {Pre : Pt → Array Value → Prop} {Post : Pt → Array Value → Option Value → Pt → Prop} {PostX : Pt → Array Value → Addr → Pt → Prop} (hK : vx_Back l R p e below s args y 3 W9 Pre Post PostX)
    {b : Addr} {cellB : Cell} (hcell : T.heap[b]? = some cellB) (hobj : cellB.vm.isStatics = false)
    {g : JFrame} (hg : g.method = m) (hsize : g.locals.size = c.maxLocals) {argsL rest : List Value} (hlen : ∀ sig, parseMethodDescriptor y.desc = some sig → argsL.length = sig.parameters.length)
    (hstack : g.stack = argsL.reverse ++ .ref b :: rest) (hW : 2 * g.monitorRoom + (rest.map fun v => v.category).sum ≤ W9) (hdg : decode c.code g.pc = .ok (.invokevirtual index, 3))
    (hpre : ∀ vm₁, s.WarmedH vm₁ → Pre ⟨T.setVm vm₁, locs, cells, slots⟩ (Value.ref b :: argsL).toArray) :
    (∃ (v : Option Value) (vm₁ : Vm) (B : Pt), s.WarmedH vm₁ ∧ Stand p l e R s m args below meth c B.U B.locs B.cells B.slots ∧ Post ⟨T.setVm vm₁, locs, cells, slots⟩ (Value.ref b :: argsL).toArray v B ∧
      ∀ target, Steps p.tables e below (B.U.setTop { g with pc := g.pc + 3, stack := v.toList ++ rest }) target → Steps p.tables e below (T.setTop g) target) ∨
    (∃ (q : Addr) (vm₁ : Vm) (B : Pt), s.WarmedH vm₁ ∧ Stand p l e R s m args below meth c B.U B.locs B.cells B.slots ∧ PostX ⟨T.setVm vm₁, locs, cells, slots⟩ (Value.ref b :: argsL).toArray q B ∧
      Steps p.tables e below (T.setTop g) ((B.U.setTop { g with stack := rest }).pushFrame (.throwing q))) := by
  obtain ⟨mk, methM, hnamed, hmethM, hstM, habM⟩ := Cond.instanceMethod_spec hinst
  obtain ⟨methM', cM, hmethM', -, -, -, -, -, -, hsigM⟩ := Cond.code_spec hnamed hcode
  cases hmethM.symm.trans hmethM'
  obtain ⟨c2, kP, r2, q1, hkP, hkPi, q2, q3⟩ := Cond.sameMethod_found hsame
  have hcl : s.vm.findClass y.cls = some mk.cls := findClass_of_methodNamed hnamed
  cases q1.symm.trans hcl
  have hselP : selectMethod e.platform s.vm cellB.cls mk = .method mk := selectMethod_private hmethM (Cond.privateMethod_at hpriv mk methM hnamed hmethM)
  obtain ⟨vm₁, X₁, hstep₁⟩ := X.invokevirtual hexec hown hlink hnamed hmethM hstM hkP hkPi hy (a := b) (cell := cellB) hcell
    (fun z h => by rw [h] at hobj; cases hobj) hselP hmethM habM hkP hkPi (g := g) hg (argsL := argsL) (rest := rest) (hlen _ hsigM) hstack hdg
  rcases hK m meth c ⟨T.setVm vm₁, locs, cells, slots⟩ { g with stack := rest } (.invokevirtual index) mk (Value.ref b :: argsL).toArray X₁ hg hsize hdg hW (X₁.named hnamed) (hpre vm₁ X₁.warmed) with ⟨v, B, X', hpost, hsteps⟩ | ⟨q, B, X', hpost, hsteps⟩
  · exact Or.inl ⟨v, vm₁, B, X₁.warmed, X', hpost, fun target h => hstep₁ _ fun acts => by rw [doInvoke_state]; exact hsteps.trans h⟩
  · exact Or.inr ⟨q, vm₁, B, X₁.warmed, X', hpost, hstep₁ _ fun acts => by rw [doInvoke_state]; exact hsteps⟩
end VXU
/-- a private method -/
def xMP (y : MethodName) (bytes : ByteArray) (maxL : Nat) (ret : Option FieldType) (n : Nat) : Prop := Cond.instanceMethod y ∈ lw_all ∧ Cond.sameMethod y.cls y.cls y.name y.desc ∈ lw_all ∧ Cond.privateMethod y ∈ lw_tbl ∧ Cond.initialized y.cls ∈ lw_all ∧ Cond.code y bytes maxL ret ∈ lw_all ∧ xPlain y n = true
theorem va_Nw_warmP {y : MethodName} {s U : State} (hW : s.WarmedH U.vm) (hZ : va_Nw (.privateMethod y) s) : va_Nw (.privateMethod y) U := va_tabs rfl (rfl : (s.setVm U.vm).vm = U.vm) (by rw [Cond.privateMethod_setVm hW.alike]; exact hZ)
/-- the method y of the superclass of own -/
def xMU (own : String) (y : MethodName) (bytes : ByteArray) (maxL : Nat) (ret : Option FieldType) (n : Nat) : Prop := Cond.instanceMethod y ∈ lw_all ∧ Cond.sameMethod y.cls y.cls y.name y.desc ∈ lw_all ∧ Cond.superclass own y.cls ∈ lw_all ∧ y.name ≠ "<init>" ∧ Cond.initialized y.cls ∈ lw_all ∧ Cond.code y bytes maxL ret ∈ lw_all ∧ xPlain y n = true
section XCU
variable {C : xC} {I : xV → Prop} {k n pc len : Nat} {lv lv' : List (Nat × Value)} {st stk : List Value} {own : String} {cc : ByteArray} {nL0 : Nat} {ret : Option FieldType} {rm : Room}
variable {y : MethodName} {bytes : ByteArray} {maxL ix : Nat} {ret2 : Option FieldType} {rm2 : Room} {Q2 : xV → Option Value → xV → Prop} {X2 : xV → Nat → xV → Prop}
theorem r_cU (hC : xCtx C own cc nL0 ret rm) {ci N : Nat} {cN : String} {T9 : u_T} {ty9 : Nat → FieldType} (hcls : xCls ci cN T9 N ty9) (b : Nat) (As : List Value) (hm : xMU own y bytes maxL ret2 As.length) (hlink : Cond.methodLink own ix y ∈ lw_all) (hrecv : ∀ V, I V → ∃ fs, V.2 b = some (.inr (ci, fs))) (hM : ∀ V, I V → xMet (xL C) (xGG C) y [Cond.code y bytes maxL ret2] rm2 (.ref b :: As) V (Q2 V) (X2 V))
    (hR : (rm2.frames + 1).ble rm.frames = true ∧ (8 + (maxL + 11) + rm2.locals).ble rm.locals = true) (hk : k + rm2.cells ≤ rm.cells) (hn : n + rm2.slots ≤ rm.slots) (hst : As.reverse ++ .ref b :: st = stk) (h8 : (st.map fun v => v.category).sum ≤ 8) (hd : decode cc pc = .ok (.invokespecial ix, 3)) : xCall C I k n pc 3 lv stk st rm2 Q2 X2 := by
  intro kk kx
  obtain ⟨p, l, e, R, s, m, args, below, meth, c, G, nL, Q, X⟩ := C
  obtain ⟨hx, hb, hml, hnL, hown, hts, hK, hr, hlocks, hW0, hRm, -⟩ := hC
  subst hRm
  obtain ⟨hinst, hsame, hsup, hno, hini, hcode, hpl⟩ := hm
  obtain ⟨hy, hlen⟩ := xPlain_spec hpl
  intro V H locs ls hV hRep hL hl T hT X0
  have hbk := xBack (p := p) (e := e) (below := below) (sargs := args) (len := 3) (W9 := 8) xCode_code (hM V hV) (Nat.le_of_ble_eq_true hR.1) (Nat.le_of_ble_eq_true hR.2) (xWarmG hts hcode) (xWarmIni (hts _ hini))
  obtain ⟨fs, hfs⟩ := hrecv V hV
  obtain ⟨cell, c1, c2, c3, -⟩ := (hRep.at hfs).obj hcls
  obtain ⟨kB, hkB, -⟩ := (hK.1 ci _ hcls.1).2.2
  rcases vx_callU X0 hx hown (hts _ hlink) (hts _ hsame) (hts _ hsup) hno (hts _ hinst) (hts _ hcode) hbk (b := b) (by rw [hT]; exact c1) (by rw [c3]; rfl) (kB := kB) (by rw [c2]; exact hkB) (g := F0 m pc ls stk) rfl (hl.1.trans hml.symm) (argsL := As) (rest := st) hlen hst.symm (lv_room h8) (by rw [hb]; exact hd)
    (fun vm₁ hW₁ => ⟨hk, hn, rfl, State.WarmedH.trans hW0 hW₁, by show xRep G V T.heap; rw [hT]; exact hRep⟩) with ⟨v, vm₁, B, hW1, X', ⟨V', L, hRep', hQ, hlo, hL', hc, hs⟩, hsteps⟩ | ⟨q, vm₁, B, hW1, X', ⟨V', L, hRep', hQ, hcell, hlo, hL', hc, hs⟩, hsteps⟩
  · rw [hlo, hc, hs] at X'
    obtain ⟨t, a1, b1⟩ := kk v V' B.U.heap (locs ++ L) ls ⟨V, hV, hQ⟩ hRep' (fun q hq => (List.mem_append.mp hq).elim (hL q) (hL' q)) hl B.U rfl X'
    exact ⟨t, hsteps t a1, b1⟩
  · rw [hlo, hc, hs] at X'
    obtain ⟨t, a1, b1⟩ := kx q V' B.U.heap (locs ++ L) ls ⟨V, hV, hQ⟩ hcell hRep' (fun q hq => (List.mem_append.mp hq).elim (hL q) (hL' q)) hl B.U rfl X'
    exact ⟨t, hsteps.trans a1, b1⟩
theorem r_cVP (hC : xCtx C own cc nL0 ret rm) (hG : xGood (xGG C)) {ci N : Nat} {cN : String} {T9 : u_T} {ty9 : Nat → FieldType} (hcls : xCls ci cN T9 N ty9) (b : Nat) (As : List Value) (hm : xMP y bytes maxL ret2 As.length) (hlink : Cond.methodLink own ix y ∈ lw_all) (hrecv : ∀ V, I V → ∃ fs, V.2 b = some (.inr (ci, fs))) (hM : ∀ V, I V → xMet (xL C) (xGG C) y [Cond.code y bytes maxL ret2] rm2 (.ref b :: As) V (Q2 V) (X2 V))
    (hR : (rm2.frames + 1).ble rm.frames = true ∧ (8 + (maxL + 11) + rm2.locals).ble rm.locals = true) (hk : k + rm2.cells ≤ rm.cells) (hn : n + rm2.slots ≤ rm.slots) (hst : As.reverse ++ .ref b :: st = stk) (h8 : (st.map fun v => v.category).sum ≤ 8) (hd : decode cc pc = .ok (.invokevirtual ix, 3)) : xCall C I k n pc 3 lv stk st rm2 Q2 X2 := by
  intro kk kx
  obtain ⟨p, l, e, R, s, m, args, below, meth, c, G, nL, Q, X⟩ := C
  obtain ⟨hx, hb, hml, hnL, hown, hts, hK, hr, hlocks, hW0, hRm, -⟩ := hC
  subst hRm
  obtain ⟨hinst, hsame, hpriv, hini, hcode, hpl⟩ := hm
  obtain ⟨hy, hlen⟩ := xPlain_spec hpl
  intro V H locs ls hV hRep hL hl T hT X0
  have hbk := xBack (p := p) (e := e) (below := below) (sargs := args) (len := 3) (W9 := 8) xCode_code (hM V hV) (Nat.le_of_ble_eq_true hR.1) (Nat.le_of_ble_eq_true hR.2) (xWarmG hts hcode) (xWarmIni (hts _ hini))
  obtain ⟨fs, hfs⟩ := hrecv V hV
  obtain ⟨cell, c1, c2, c3, -⟩ := (hRep.at hfs).obj hcls
  rcases vx_callVP X0 hx hown (hts _ hlink) (hts _ hsame) (va_Nw.use rfl (va_Nw_warmP hW0 (xT hG rfl hpriv))) (hts _ hinst) (hts _ hcode) hy hbk (b := b) (by rw [hT]; exact c1) (by rw [c3]; rfl) (g := F0 m pc ls stk) rfl (hl.1.trans hml.symm) (argsL := As) (rest := st) hlen hst.symm (lv_room h8) (by rw [hb]; exact hd)
    (fun vm₁ hW₁ => ⟨hk, hn, rfl, State.WarmedH.trans hW0 hW₁, by show xRep G V T.heap; rw [hT]; exact hRep⟩) with ⟨v, vm₁, B, hW1, X', ⟨V', L, hRep', hQ, hlo, hL', hc, hs⟩, hsteps⟩ | ⟨q, vm₁, B, hW1, X', ⟨V', L, hRep', hQ, hcell, hlo, hL', hc, hs⟩, hsteps⟩
  · rw [hlo, hc, hs] at X'
    obtain ⟨t, a1, b1⟩ := kk v V' B.U.heap (locs ++ L) ls ⟨V, hV, hQ⟩ hRep' (fun q hq => (List.mem_append.mp hq).elim (hL q) (hL' q)) hl B.U rfl X'
    exact ⟨t, hsteps t a1, b1⟩
  · rw [hlo, hc, hs] at X'
    obtain ⟨t, a1, b1⟩ := kx q V' B.U.heap (locs ++ L) ls ⟨V, hV, hQ⟩ hcell hRep' (fun q hq => (List.mem_append.mp hq).elim (hL q) (hL' q)) hl B.U rfl X'
    exact ⟨t, hsteps.trans a1, b1⟩
end XCU
theorem mUJ5_compareTo_J6 : xMU RJ6 yJ5_compareTo cJ5_compareTo 6 (some .int) 1 := ⟨q2143, q3375, q498, by decide, q108, q2144, by decide +kernel⟩
theorem mUJ5_append_3_J6 : xMU RJ6 yJ5_append_3 cJ5_append_3 3 (some (.object "java/lang/AbstractStringBuilder")) 1 := ⟨q1133, q3371, q498, by decide, q108, q1134, by decide +kernel⟩
theorem mUJ5_append_J6 : xMU RJ6 yJ5_append cJ5_append 2 (some (.object "java/lang/AbstractStringBuilder")) 1 := ⟨q995, q3365, q498, by decide, q108, q996, by decide +kernel⟩
theorem mUJ5_append_2_J6 : xMU RJ6 yJ5_append_2 cJ5_append_2 4 (some (.object "java/lang/AbstractStringBuilder")) 1 := ⟨q1098, q3370, q498, by decide, q108, q1099, by decide +kernel⟩
theorem mUJ5_append_4_J6 : xMU RJ6 yJ5_append_4 cJ5_append_4 5 (some (.object "java/lang/AbstractStringBuilder")) 1 := ⟨q2521, q3377, q498, by decide, q108, q2522, by decide +kernel⟩
theorem mUJ5_charAt_J6 : xMU RJ6 yJ5_charAt cJ5_charAt 5 (some .char) 1 := ⟨q878, q3364, q498, by decide, q108, q879, by decide +kernel⟩
theorem mUJ5_setLength_J6 : xMU RJ6 yJ5_setLength cJ5_setLength 2 none 1 := ⟨q2492, q3376, q498, by decide, q108, q2493, by decide +kernel⟩
theorem mUJ5_length_J6 : xMU RJ6 yJ5_length cJ5_length 1 (some .int) 0 := ⟨q870, q3363, q498, by decide, q108, q871, by decide +kernel⟩
theorem mPJ5_appendNull : xMP yJ5_appendNull cJ5_appendNull 3 (some (.object "java/lang/AbstractStringBuilder")) 0 := ⟨q1137, q3372, q1136, q108, q1138, by decide +kernel⟩
theorem mPJ5_ensureCapacityInternal : xMP yJ5_ensureCapacityInternal cJ5_ensureCapacityInternal 3 none 1 := ⟨q999, q3366, q998, q108, q1000, by decide +kernel⟩
theorem mPJ5_inflate : xMP yJ5_inflate cJ5_inflate 2 none 0 := ⟨q1034, q3368, q1033, q108, q1035, by decide +kernel⟩
theorem mPJ5_inflateIfNeededFor : xMP yJ5_inflateIfNeededFor cJ5_inflateIfNeededFor 2 none 1 := ⟨q1157, q3374, q1156, q108, q1158, by decide +kernel⟩
theorem mPJ5_newCapacity : xMP yJ5_newCapacity cJ5_newCapacity 6 (some .int) 1 := ⟨q1003, q3367, q1002, q108, q1004, by decide +kernel⟩
theorem mPJ5_putStringAt : xMP yJ5_putStringAt cJ5_putStringAt 3 none 2 := ⟨q1153, q3373, q1152, q108, q1154, by decide +kernel⟩
/-! texts are compact -/
theorem za_CS {G : xG} (hG : xGood G) : xZ G "java/lang/String" "COMPACT_STRINGS" "Z" (.int 1) := by
  obtain ⟨-, b, ht, hn, -⟩ := hG
  replace hn := flat_of_before _ hn
  exact va_Zof (ht _ q477) (ht _ (lw_sub q110)) (va_eqt (hn _ (nr_at 18 rfl))) (fun a h => Nat.not_le.mpr h)
