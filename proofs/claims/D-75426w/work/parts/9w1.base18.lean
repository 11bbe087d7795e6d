/-! ===== virtual calls of a method that the receiver's class overrides or inherits ===== -/
set_option maxRecDepth 100000
/-- z's descriptor is told by the tables -/
def xSig (z : MethodName) : Prop := Cond.declares z ∈ lw_tbl ∨ (Cond.instanceMethod z ∈ lw_all ∧ ∃ bytes maxL ret, Cond.code z bytes maxL ret ∈ lw_all)
theorem va_Nw_warmD {y : MethodName} {s U : State} (hW : s.WarmedH U.vm) (hZ : va_Nw (.declares y) s) : va_Nw (.declares y) U := va_tabs rfl (rfl : (s.setVm U.vm).vm = U.vm) (by rw [Cond.declares_setVm hW.alike]; exact hZ)
section VXD
variable {p : Program} {l : Launch} {e : Env} {R : Room} {s : State} {m : MethodId} {args : Array Value} {below : List Frame} {meth : Method} {c : Code} {T : State} {locs : List Loc} {cells slots : Nat}
theorem vx_callVD (X : Stand p l e R s m args below meth c T locs cells slots) (hexec : p.tables.exec = Jvm.exec) {own C owner : String} {index : Nat} {x y : MethodName} {bytes : ByteArray} {maxL : Nat} {ret : Option FieldType}
    (hown : s.vm.findClass own = some m.cls) (hlink : (Cond.methodLink own index x).before args s = true) (hsame : (Cond.sameMethod x.cls owner x.name x.desc).before args s = true)
    (hsig0 : (Cond.declares ⟨owner, x.name, x.desc⟩).before args s = true ∨ ((Cond.instanceMethod ⟨owner, x.name, x.desc⟩).before args s = true ∧ ∃ b9 m9 r9, (Cond.code ⟨owner, x.name, x.desc⟩ b9 m9 r9).before args s = true))
    (hinst : (Cond.instanceMethod y).before args s = true) (hsel : (Cond.selects C x y).before args s = true)
    (hcode : (Cond.code y bytes maxL ret).before args s = true) (hy : owner ≠ "java/lang/invoke/MethodHandle" ∧ owner ≠ "java/lang/invoke/VarHandle")
    {W9 : Nat} {Pre : Pt → Array Value → Prop} {Post : Pt → Array Value → Option Value → Pt → Prop} {PostX : Pt → Array Value → Addr → Pt → Prop} (hK : vx_Back l R p e below s args y 3 W9 Pre Post PostX)
    {b : Addr} {cellB : Cell} (hcell : T.heap[b]? = some cellB) (hobj : cellB.vm.isStatics = false) (hcls : s.vm.findClass C = some cellB.cls)
    {g : JFrame} (hg : g.method = m) (hsize : g.locals.size = c.maxLocals) {argsL rest : List Value} (hlen : ∀ sig, parseMethodDescriptor x.desc = some sig → argsL.length = sig.parameters.length)
    (hstack : g.stack = argsL.reverse ++ .ref b :: rest) (hW : 2 * g.monitorRoom + (rest.map fun v => v.category).sum ≤ W9) (hdg : decode c.code g.pc = .ok (.invokevirtual index, 3))
    (hpre : ∀ vm₁, s.WarmedH vm₁ → Pre ⟨T.setVm vm₁, locs, cells, slots⟩ (Value.ref b :: argsL).toArray) :
    (∃ (v : Option Value) (vm₁ : Vm) (B : Pt), s.WarmedH vm₁ ∧ Stand p l e R s m args below meth c B.U B.locs B.cells B.slots ∧ Post ⟨T.setVm vm₁, locs, cells, slots⟩ (Value.ref b :: argsL).toArray v B ∧
      ∀ target, Steps p.tables e below (B.U.setTop { g with pc := g.pc + 3, stack := v.toList ++ rest }) target → Steps p.tables e below (T.setTop g) target) ∨
    (∃ (q : Addr) (vm₁ : Vm) (B : Pt), s.WarmedH vm₁ ∧ Stand p l e R s m args below meth c B.U B.locs B.cells B.slots ∧ PostX ⟨T.setVm vm₁, locs, cells, slots⟩ (Value.ref b :: argsL).toArray q B ∧
      Steps p.tables e below (T.setTop g) ((B.U.setTop { g with stack := rest }).pushFrame (.throwing q))) := by
  obtain ⟨r0, r, hn0, hr0, hst0, hsg⟩ : ∃ r0 r, s.methodNamed? ⟨owner, x.name, x.desc⟩ = some r0 ∧ s.vm.method? r0 = some r ∧ r.isStatic = false ∧ parseMethodDescriptor x.desc = some r.sig := by
    rcases hsig0 with h | ⟨hi, b9, m9, r9, h⟩
    · exact Cond.declares_spec h
    · obtain ⟨r0, r, hn0, hr0, hst0, -⟩ := Cond.instanceMethod_spec hi
      obtain ⟨meth1, c1, h2, -, -, -, -, -, -, h3⟩ := Cond.code_spec hn0 h
      cases hr0.symm.trans h2
      exact ⟨r0, r, hn0, hr0, hst0, h3⟩
  obtain ⟨mk, methM, hnamed, hmethM, hstM, habM⟩ := Cond.instanceMethod_spec hinst
  obtain ⟨cn9, ck9, rs, z1, z2, z3, z4, z5⟩ := Cond.sameMethod_found hsame
  obtain ⟨c2, r2, m2, q1, q2, q3, q4, kP, hkP, hkPi⟩ := Cond.selects_spec hsel
  cases hcls.symm.trans q1
  cases z4.symm.trans q2
  cases z5.symm.trans hn0
  cases hnamed.symm.trans q3
  have hselP : selectMethod e.platform s.vm cellB.cls r0 = .method mk := by rw [Launch.admits_selectMethod X.admits]; exact q4
  obtain ⟨vm₁, X₁, hstep₁⟩ := X.invokevirtualUp hexec hown hlink hsame hy hn0 hr0 hst0 (a := b) (cell := cellB) hcell
    (fun z h => by rw [h] at hobj; cases hobj) hselP hmethM habM hkP hkPi (g := g) hg (argsL := argsL) (rest := rest) (hlen _ hsg) hstack hdg
  rcases hK m meth c ⟨T.setVm vm₁, locs, cells, slots⟩ { g with stack := rest } (.invokevirtual index) mk (Value.ref b :: argsL).toArray X₁ hg hsize hdg hW (X₁.named hnamed) (hpre vm₁ X₁.warmed) with ⟨v, B, X', hpost, hsteps⟩ | ⟨q, B, X', hpost, hsteps⟩
  · exact Or.inl ⟨v, vm₁, B, X₁.warmed, X', hpost, fun target h => hstep₁ _ fun acts => by rw [doInvoke_state]; exact hsteps.trans h⟩
  · exact Or.inr ⟨q, vm₁, B, X₁.warmed, X', hpost, hstep₁ _ fun acts => by rw [doInvoke_state]; exact hsteps⟩
end VXD
/-- the method y is what the class Cn has for x, which the class owner declares -/
def xMD (Cn : String) (x : MethodName) (owner : String) (y : MethodName) (bytes : ByteArray) (maxL : Nat) (ret : Option FieldType) (n : Nat) : Prop := Cond.sameMethod x.cls owner x.name x.desc ∈ lw_all ∧ xSig ⟨owner, x.name, x.desc⟩ ∧ Cond.instanceMethod y ∈ lw_all ∧ Cond.selects Cn x y ∈ lw_all ∧ Cond.initialized y.cls ∈ lw_all ∧ Cond.code y bytes maxL ret ∈ lw_all ∧ xPlain ⟨owner, x.name, x.desc⟩ n = true
theorem xSig_at {G : xG} (hG : xGood G) {s : State} {args : Array Value} (hts : ∀ w ∈ lw_all, w.before args s = true) (hW : G.1.WarmedH s.vm) {z : MethodName} (h : xSig z) : (Cond.declares z).before args s = true ∨ ((Cond.instanceMethod z).before args s = true ∧ ∃ b9 m9 r9, (Cond.code z b9 m9 r9).before args s = true) := by
  rcases h with h | ⟨hi, b, m, r, h⟩
  · exact Or.inl (va_Nw.use rfl (va_Nw_warmD hW (xT hG rfl h)))
  · exact Or.inr ⟨hts _ hi, b, m, r, hts _ h⟩
section XCD
variable {C : xC} {I : xV → Prop} {k n pc len : Nat} {lv lv' : List (Nat × Value)} {st stk : List Value} {own : String} {cc : ByteArray} {nL0 : Nat} {ret : Option FieldType} {rm : Room}
variable {x y : MethodName} {owner : String} {bytes : ByteArray} {maxL ix : Nat} {ret2 : Option FieldType} {rm2 : Room} {Q2 : xV → Option Value → xV → Prop} {X2 : xV → Nat → xV → Prop}
theorem r_cVD (hC : xCtx C own cc nL0 ret rm) (hG : xGood (xGG C)) {ci N : Nat} {cN : String} {T9 : u_T} {ty9 : Nat → FieldType} (hcls : xCls ci cN T9 N ty9) (b : Nat) (As : List Value) (hm : xMD cN x owner y bytes maxL ret2 As.length) (hlink : Cond.methodLink own ix x ∈ lw_all) (hrecv : ∀ V, I V → ∃ fs, V.2 b = some (.inr (ci, fs))) (hM : ∀ V, I V → xMet (xL C) (xGG C) y [Cond.code y bytes maxL ret2] rm2 (.ref b :: As) V (Q2 V) (X2 V))
    (hR : (rm2.frames + 1).ble rm.frames = true ∧ (8 + (maxL + 11) + rm2.locals).ble rm.locals = true) (hk : k + rm2.cells ≤ rm.cells) (hn : n + rm2.slots ≤ rm.slots) (hst : As.reverse ++ .ref b :: st = stk) (h8 : (st.map fun v => v.category).sum ≤ 8) (hd : decode cc pc = .ok (.invokevirtual ix, 3)) : xCall C I k n pc 3 lv stk st rm2 Q2 X2 := by
  intro kk kx
  obtain ⟨p, l, e, R, s, m, args, below, meth, c, G, nL, Q, X⟩ := C
  obtain ⟨hx, hb, hml, hnL, hown, hts, hK, hr, hlocks, hW0, hRm, -⟩ := hC
  subst hRm
  obtain ⟨hsame, hsg, hinst, hsel, hini, hcode, hpl⟩ := hm
  obtain ⟨hy, hlen⟩ := xPlain_spec hpl
  intro V H locs ls hV hRep hL hl T hT X0
  have hbk := xBack (p := p) (e := e) (below := below) (sargs := args) (len := 3) (W9 := 8) xCode_code (hM V hV) (Nat.le_of_ble_eq_true hR.1) (Nat.le_of_ble_eq_true hR.2) (xWarmG hts hcode) (xWarmIni (hts _ hini))
  obtain ⟨fs, hfs⟩ := hrecv V hV
  obtain ⟨cell, c1, c2, c3, -⟩ := (hRep.at hfs).obj hcls
  rcases vx_callVD X0 hx (C := cN) hown (hts _ hlink) (hts _ hsame) (xSig_at hG hts hW0 hsg) (hts _ hinst) (hts _ hsel) (hts _ hcode) hy hbk (b := b) (by rw [hT]; exact c1) (by rw [c3]; rfl) (by rw [c2]; exact (hK.1 ci _ hcls.1).2.1) (g := F0 m pc ls stk) rfl (hl.1.trans hml.symm) (argsL := As) (rest := st) hlen hst.symm (lv_room h8) (by rw [hb]; exact hd)
    (fun vm₁ hW₁ => ⟨hk, hn, rfl, State.WarmedH.trans hW0 hW₁, by show xRep G V T.heap; rw [hT]; exact hRep⟩) with ⟨v, vm₁, B, hW1, X', ⟨V', L, hRep', hQ, hlo, hL', hc, hs⟩, hsteps⟩ | ⟨q, vm₁, B, hW1, X', ⟨V', L, hRep', hQ, hcell, hlo, hL', hc, hs⟩, hsteps⟩
  · rw [hlo, hc, hs] at X'
    obtain ⟨t, a1, b1⟩ := kk v V' B.U.heap (locs ++ L) ls ⟨V, hV, hQ⟩ hRep' (fun q hq => (List.mem_append.mp hq).elim (hL q) (hL' q)) hl B.U rfl X'
    exact ⟨t, hsteps t a1, b1⟩
  · rw [hlo, hc, hs] at X'
    obtain ⟨t, a1, b1⟩ := kx q V' B.U.heap (locs ++ L) ls ⟨V, hV, hQ⟩ hcell hRep' (fun q hq => (List.mem_append.mp hq).elim (hL q) (hL' q)) hl B.U rfl X'
    exact ⟨t, hsteps.trans a1, b1⟩
end XCD
theorem mDX16_equals_X16 : xMD RX16 ⟨"java/lang/Object", "equals", "(Ljava/lang/Object;)Z"⟩ "java/lang/Object" yX16_equals cX16_equals 3 (some .boolean) 1 := ⟨q1931, Or.inr ⟨q1930, _, _, _, q1959⟩, q1936, q1935, q138, q1937, by decide +kernel⟩
theorem mDX16_hashCode_X16 : xMD RX16 ⟨"java/lang/Object", "hashCode", "()I"⟩ "java/lang/Object" yX16_hashCode cX16_hashCode 1 (some .int) 0 := ⟨q1845, Or.inl q1842, q1850, q1849, q138, q1851, by decide +kernel⟩
theorem mDX12_code_X12 : xMD RX12 ⟨"ThreeBodies$TextException", "code", "()I"⟩ "ThreeBodies$TextException" yX12_code cX12_code 1 (some .int) 0 := ⟨q1473, Or.inl q1472, q1475, q1474, q129, q1476, by decide +kernel⟩
theorem mDX20_code_X20 : xMD RX20 ⟨"ThreeBodies$TextException", "code", "()I"⟩ "ThreeBodies$TextException" yX20_code cX20_code 1 (some .int) 0 := ⟨q1473, Or.inl q1472, q1478, q1477, q152, q1479, by decide +kernel⟩
theorem mDX11_code_X11 : xMD RX11 ⟨"ThreeBodies$TextException", "code", "()I"⟩ "ThreeBodies$TextException" yX11_code cX11_code 1 (some .int) 0 := ⟨q1473, Or.inl q1472, q1481, q1480, q128, q1482, by decide +kernel⟩
theorem mDX10_code_X10 : xMD RX10 ⟨"ThreeBodies$TextException", "code", "()I"⟩ "ThreeBodies$TextException" yX10_code cX10_code 1 (some .int) 0 := ⟨q1473, Or.inl q1472, q1484, q1483, q127, q1485, by decide +kernel⟩
theorem mDJ7_equals_J7 : xMD RJ7 ⟨"java/lang/Object", "equals", "(Ljava/lang/Object;)Z"⟩ "java/lang/Object" yJ7_equals cJ7_equals 3 (some .boolean) 1 := ⟨q1931, Or.inr ⟨q1930, _, _, _, q1959⟩, q1330, q1955, q110, q1332, by decide +kernel⟩
theorem mDJ7_hashCode_J7 : xMD RJ7 ⟨"java/lang/Object", "hashCode", "()I"⟩ "java/lang/Object" yJ7_hashCode cJ7_hashCode 2 (some .int) 0 := ⟨q1845, Or.inl q1842, q1869, q1868, q110, q1870, by decide +kernel⟩
theorem mDJ6_length_J6 : xMD RJ6 ⟨"java/lang/AbstractStringBuilder", "length", "()I"⟩ "java/lang/AbstractStringBuilder" yJ6_length cJ6_length 1 (some .int) 0 := ⟨q3363, Or.inr ⟨q870, _, _, _, q871⟩, q866, q3369, q109, q868, by decide +kernel⟩
theorem mDJ29_nextNode_J30 : xMD RJ30 ⟨"java/util/LinkedHashMap$LinkedEntryIterator", "nextNode", "()Ljava/util/LinkedHashMap$Entry;"⟩ "java/util/LinkedHashMap$LinkedHashIterator" yJ29_nextNode cJ29_nextNode 2 (some (.object "java/util/LinkedHashMap$Entry")) 0 := ⟨q774, Or.inr ⟨q777, _, _, _, q778⟩, q777, q776, q148, q778, by decide +kernel⟩
theorem mDJ21_afterNodeAccess_J21 : xMD RJ21 ⟨"java/util/HashMap", "afterNodeAccess", "(Ljava/util/HashMap$Node;)V"⟩ "java/util/HashMap" yJ21_afterNodeAccess cJ21_afterNodeAccess 7 none 1 := ⟨q2354, Or.inl q2356, q2164, q2355, q137, q2166, by decide +kernel⟩
theorem mDJ21_afterNodeInsertion_J21 : xMD RJ21 ⟨"java/util/HashMap", "afterNodeInsertion", "(Z)V"⟩ "java/util/HashMap" yJ21_afterNodeInsertion cJ21_afterNodeInsertion 4 none 1 := ⟨q2359, Or.inl q2367, q2361, q2360, q137, q2362, by decide +kernel⟩
theorem mDJ21_newNode_J21 : xMD RJ21 ⟨"java/util/HashMap", "newNode", "(ILjava/lang/Object;Ljava/lang/Object;Ljava/util/HashMap$Node;)Ljava/util/HashMap$Node;"⟩ "java/util/HashMap" yJ21_newNode cJ21_newNode 6 (some (.object "java/util/HashMap$Node")) 4 := ⟨q2290, Or.inl q2298, q2292, q2291, q137, q2293, by decide +kernel⟩
theorem mDJ21_newTreeNode_J21 : xMD RJ21 ⟨"java/util/HashMap", "newTreeNode", "(ILjava/lang/Object;Ljava/lang/Object;Ljava/util/HashMap$Node;)Ljava/util/HashMap$TreeNode;"⟩ "java/util/HashMap" yJ21_newTreeNode cJ21_newTreeNode 6 (some (.object "java/util/HashMap$TreeNode")) 4 := ⟨q2305, Or.inl q2338, q2307, q2306, q137, q2308, by decide +kernel⟩
theorem mDJ21_replacementNode_J21 : xMD RJ21 ⟨"java/util/HashMap", "replacementNode", "(Ljava/util/HashMap$Node;Ljava/util/HashMap$Node;)Ljava/util/HashMap$Node;"⟩ "java/util/HashMap" yJ21_replacementNode cJ21_replacementNode 5 (some (.object "java/util/HashMap$Node")) 2 := ⟨q2213, Or.inl q2269, q2215, q2214, q137, q2216, by decide +kernel⟩
theorem mDJ21_replacementTreeNode_J21 : xMD RJ21 ⟨"java/util/HashMap", "replacementTreeNode", "(Ljava/util/HashMap$Node;Ljava/util/HashMap$Node;)Ljava/util/HashMap$TreeNode;"⟩ "java/util/HashMap" yJ21_replacementTreeNode cJ21_replacementTreeNode 5 (some (.object "java/util/HashMap$TreeNode")) 2 := ⟨q2346, Or.inl q2350, q2348, q2347, q137, q2349, by decide +kernel⟩
theorem mDJ20_getNode_J21 : xMD RJ21 ⟨"java/util/LinkedHashMap", "getNode", "(Ljava/lang/Object;)Ljava/util/HashMap$Node;"⟩ "java/util/HashMap" yJ20_getNode cJ20_getNode 8 (some (.object "java/util/HashMap$Node")) 1 := ⟨q1834, Or.inr ⟨q1837, _, _, _, q1838⟩, q1837, q1836, q136, q1838, by decide +kernel⟩
