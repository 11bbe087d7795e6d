/-! ===== lambdas: the machine's own classes, their calls ===== -/
set_option maxRecDepth 100000
def lS (w : Cond) : Lambda.Shape := match xSite w with
  | some q => q.2.2.2
  | none => default
def lD (w : Cond) (h : String) : ClassFile := ((lS w).file h).getD { minorVersion := 0, majorVersion := 0, constantPool := #[], accessFlags := 0, thisClass := 0, superClass := 0, interfaces := #[], fields := #[], methods := #[], attributes := #[] }
def lF (w : Cond) (h : String) : Method := ((layoutMethods (lD w h)).bind (·[1]?)).getD default
/-- the class file that is made for a lambda: its second method, what it calls -/
def lamOK (w : Cond) (h : String) (cs : ByteArray) (ml : Nat) (ret : Option FieldType) (y : MethodName) (K ci nt n : Nat) : Prop :=
  ((lS w).file h).isSome = true ∧ ((layoutMethods (lD w h)).bind (·[1]?)).isSome = true ∧ ((lF w h).code.map fun c => (c.code.data, c.maxLocals)) = some (cs.data, ml) ∧ ((lF w h).accessFlags, (lF w h).sig.returnType) = (0x0001, ret) ∧
  ((lS w).implClass, (lS w).implName, (lS w).implDesc.toString) = (y.cls, y.name, y.desc) ∧ (lD w h).constantPool[K]? = some (.methodref ci nt) ∧ (lD w h).constantPool.className? ci = some y.cls ∧ (lD w h).constantPool.nameAndType? nt = some (y.name, y.desc) ∧
  (lD w h).constantPool[ci]? = some (.class_ n) ∧ (lD w h).constantPool.string? n = some y.cls ∧ ci ≠ (lD w h).thisClass
theorem lamM {vm : Vm} {d c : ClassId} {dk : Class} {w : Cond} {h : String} {cs : ByteArray} {ml : Nat} {ret : Option FieldType} {y : MethodName} {K ci nt n : Nat} (L : lamOK w h cs ml ret y K ci nt n) (hd : vm.classes[d]? = some dk) (hname : dk.name = h) (hm : Lambda.isMade { classPath := fun _ => none } vm d (lS w) c = true) :
    ∃ (k tk : Class) (file : ClassFile) (methk : Method) (ck : Code) (toy iface : ClassId) (t found : MethodId),
      vm.classes[c]? = some k ∧ k.name = h ++ "$$Lambda" ∧ k.cf = some file ∧ file.constantPool = (lD w h).constantPool ∧ vm.method? ⟨c, 1⟩ = some methk ∧ methk.code = some ck ∧ ck.code = cs ∧ ck.maxLocals = ml ∧ ck.exceptionTable = #[] ∧ methk.locks = false ∧ methk.accessFlags = 0x0001 ∧ methk.sig.returnType = ret ∧
      vm.findClass y.cls = some toy ∧ vm.classes[toy]? = some tk ∧ ((methodIn toy y.name y.desc tk.isInterface none).ask { classPath := fun _ => none } vm).1 = .ok t ∧ vm.methodReady c K t ∧ vm.classReady c ci toy ∧
      vm.findClass (lS w).iface = some iface ∧ ((methodIn iface (lS w).name (lS w).sam.toString true none).ask { classPath := fun _ => none } vm).1 = .ok found ∧ selectMethod {} vm c found = .method ⟨c, 1⟩ := by
  obtain ⟨L1, L2, L3, L4, L5, L6, L7, L8, L9, L10, L11⟩ := L
  simp only [Prod.mk.injEq] at L4 L5
  have hfile : (lS w).file h = some (lD w h) := by
    obtain ⟨x, hx⟩ := Option.isSome_iff_exists.mp L1
    simp [lD, hx]
  obtain ⟨dk', k, ok, tk, file, cf, object, iface, toy, lay, methods, target, found, hd', hk, hfl, hcf, -, hi, -, -, hms, ht, htk, hg, hfo, hrec, -, -, -, -, hpool, hmeth, -, -, hres, hsel⟩ := Lambda.isMade_spec hm
  cases hd.symm.trans hd'
  rw [hname, hfile] at hcf
  cases hcf
  have hsec : methods[1]? = some (lF w h) := by
    obtain ⟨x, hx⟩ := Option.isSome_iff_exists.mp L2
    have hf : lF w h = x := by simp [lF, hx]
    rw [hms] at hx
    rw [hf]
    exact hx
  obtain ⟨b, hb, hsame⟩ := hmeth 1 _ hsec
  obtain ⟨hn, hde, hsig, hflg, x, y9, hx, hy9, -, hml, hcode, hex⟩ := Lambda.sameMethod_spec hsame
  rw [hx] at L3
  simp only [Option.map_some, Option.some.injEq, Prod.mk.injEq] at L3
  rw [L5.1] at ht
  rw [L5.2.1, L5.2.2] at hg
  refine ⟨k, tk, file, b, y9, toy, iface, target, found, hk, by rw [hrec.1, hname], hfl, hpool.2.1, by simp [Vm.method?, hk, hb], hy9, ?_, by rw [hml]; exact L3.2, hex, ?_, by rw [hflg]; exact L4.1, by rw [hsig]; exact L4.2, ht, htk, hg, ⟨k, hk, hres K _ (Lambda.resolvedOf_method L6 L7 ht htk L8 hg)⟩, ⟨k, hk, hres ci _ (Lambda.resolvedOf_class L9 L11 L10 ht)⟩, hi, hfo, hsel⟩
  · rw [hcode]
    exact ByteArray.ext L3.1
  · simp [Method.locks, Method.isSynchronized, hflg, L4.1, hasFlag, Acc.synchronized]
section LAM
variable {p : Program} {l : Launch} {e : Env} {R : Room} {s : State} {m : MethodId} {args : Array Value} {below : List Frame} {meth : Method} {c : Code} {T : State} {locs : List Loc} {cells slots : Nat}
/-- a frame above has been left by a throw -/
theorem outOfT (X : Stand p l e R s m args below meth c T locs cells slots) {g : JFrame} (hg : g.method = m) {mk : MethodId} {a : Array Value} {t : State} {q : Addr} {L : List Loc} {k n : Nat}
    (hend : t.frames = .throwing q :: .java g :: below) (hW : (T.calling g mk a).WarmedH t.vm) (hsame : (T.calling g mk a).sameButNew ({ t with vm := (T.calling g mk a).vm } : State) L k n) :
    ∃ T', Stand p l e R s m args below meth c T' (locs ++ L) (cells + k) (slots + n) ∧ T'.heap = t.heap ∧ t = (T'.setTop g).pushFrame (.throwing q) := by
  subst hg
  have htop := X.here.top
  obtain ⟨e2, q2, q3, q4, q5, q6⟩ := hsame
  have e3 : t = ({ (T.calling g mk a).setFrames t.frames with heap := t.heap, slotsUsed := t.slotsUsed } : State).setVm t.vm := by
    have : t = ({ t with vm := (T.calling g mk a).vm } : State).setVm t.vm := rfl
    rw [e2] at this
    exact this
  have hW' : T.WarmedH t.vm := hW
  obtain ⟨g₀, hr⟩ := X.frames_eq
  have hr' : (({ T with heap := t.heap, slotsUsed := t.slotsUsed } : State).setVm t.vm).frames = .java g₀ :: below := hr
  have ht : t = ((({ T with heap := t.heap, slotsUsed := t.slotsUsed } : State).setVm t.vm).setTop g).pushFrame (.throwing q) := by
    refine e3.trans ?_
    rw [hend, State.calling_eq htop, State.setFrames_setFrames, State.pushFrame, State.frames_setTop _ hr', State.setTop_of_frames _ hr', State.setFrames_setFrames]
    rfl
  have hB : T.sameButNew ({ T with heap := t.heap, slotsUsed := t.slotsUsed } : State) L k n := by
    refine ⟨?_, q2, q3, q4, q5, q6⟩
    obtain ⟨th, hth, -⟩ := State.frames_cons hr
    show ({ T with heap := t.heap, slotsUsed := t.slotsUsed } : State) = { T.setFrames T.frames with heap := t.heap, slotsUsed := t.slotsUsed }
    rw [State.setFrames_self hth]
  exact ⟨({ T with heap := t.heap, slotsUsed := t.slotsUsed } : State).setVm t.vm,
    ⟨X.admits, X.cas, X.clock, X.frames, X.room, X.hears, X.method, X.code, (X.here.setHeapUsed t.heap t.slotsUsed).setVm hW'.alike, X.tail, State.WarmedH.trans X.warmed hW', X.limits, X.bytes, X.same.trans (hB.setVm s.vm)⟩, rfl, ht⟩
end LAM
/-- a field of a made class -/
def lL (w : Cond) (h : String) : Array Field × Array FieldType × Array FieldType := (layoutFields (lD w h) 0).getD (#[], #[], #[])
def lamFd (w : Cond) (h : String) (K j : Nat) : Prop := (layoutFields (lD w h) 0).isSome = true ∧ ∃ (ci nt : Nat) (nm ty : String), (lD w h).constantPool[K]? = some (.fieldref ci nt) ∧ (lD w h).constantPool.nameAndType? nt = some (nm, ty) ∧ (lL w h).1.findIdx? (·.name == nm) = some j ∧ ((lL w h).1[j]?).map (fun f => (f.isStatic, f.slot)) = some (false, j)
theorem lamF {vm : Vm} {d c : ClassId} {dk : Class} {w : Cond} {h : String} {K j : Nat} (L1 : ((lS w).file h).isSome = true) (F : lamFd w h K j) (hd : vm.classes[d]? = some dk) (hname : dk.name = h) (hm : Lambda.isMade { classPath := fun _ => none } vm d (lS w) c = true)
    (hO : ∀ o ok, vm.findClass "java/lang/Object" = some o → vm.classes[o]? = some ok → ok.instanceTypes.size = 0) : ∃ f, vm.fieldReady c K c f ∧ f.isStatic = false ∧ f.slot = j := by
  obtain ⟨F0, ci, nt, nm, ty, F1, F2, F3, F4⟩ := F
  have hfile : (lS w).file h = some (lD w h) := by
    obtain ⟨x, hx⟩ := Option.isSome_iff_exists.mp L1
    simp [lD, hx]
  have hlaid : layoutFields (lD w h) 0 = some (lL w h) := by
    obtain ⟨x, hx⟩ := Option.isSome_iff_exists.mp F0
    simp [lL, hx]
  obtain ⟨dk', k, ok, tk, file, cf, object, iface, toy, lay, methods, target, found, hd', hk, hfl, hcf, hobj, hi, hok, hlay, hms, ht, htk, hg, hfo, hrec, -, -, -, -, hpool, hmeth, hfields, -, hres, hsel⟩ := Lambda.isMade_spec hm
  cases hd.symm.trans hd'
  rw [hname, hfile] at hcf
  cases hcf
  rw [hO object ok hobj hok, hlaid] at hlay
  cases hlay
  obtain ⟨g0, hg0, hp0⟩ := Option.map_eq_some_iff.mp F4
  simp only [Prod.mk.injEq] at hp0
  exact ⟨g0, ⟨k, j, k, hk, hres K _ (Lambda.resolvedOf_field F1 F2 F3), hk, hfields j _ hg0⟩, hp0.1, hp0.2⟩
section LAM2
variable {p : Program} {l : Launch} {e : Env} {R : Room} {s : State} {m : MethodId} {args : Array Value} {below : List Frame} {meth : Method} {c : Code} {T : State} {locs : List Loc} {cells slots : Nat}
def lV_dec (cs : ByteArray) (K : Nat) : Prop := decode cs 0 = .ok (.aload_n 1, 1) ∧ decode cs 1 = .ok (.iload_n 2, 1) ∧ decode cs 2 = .ok (.invokestatic K, 3) ∧ decode cs 5 = .ok (.return_, 1)
theorem lV_back {G : xG} {ig : Instr} {len K : Nat} {cs : ByteArray} (hcs : lV_dec cs K) (X : Stand p l e R s m args below meth c T locs cells slots) (hexec : p.tables.exec = Jvm.exec) {g : JFrame} (hg : g.method = m) (hsize : g.locals.size = c.maxLocals) (hdg : decode c.code g.pc = .ok (ig, len))
    {mk t : MethodId} {methk metht : Method} {ck : Code} {kt : Class} (hmk : T.vm.method? mk = some methk) (hck : methk.code = some ck) (hbytes : ck.code = cs) (hml : ck.maxLocals = 3) (hex : ck.exceptionTable = #[]) (hlk : methk.locks = false) (hpk : T.plainMethod mk) (hretk : methk.sig.returnType = none)
    (href : plainRef T e mk.cls K) (hready : T.vm.methodReady mk.cls K t) (hkt : T.vm.classes[t.cls]? = some kt) (hmt : T.vm.method? t = some metht) (hpoly : signaturePolymorphic kt metht = false) (hstatic : metht.isStatic = true) (hinit : kt.init = .initialized) (hpar : metht.sig.parameters.length = 2)
    {y : MethodName} {w : Cond} {rm2 : Room} {bytes : ByteArray} {maxL : Nat} {a b1 : Nat} {z : Int32}  {V : xV} {Q2 : Option Value → xV → Prop} {X2 : Nat → xV → Prop} (hcd : xCode y bytes maxL w) (hM : xMet l G y [w] rm2 [.ref b1, .int z] V Q2 X2) (hn : T.methodNamed? y = some t)
    (hws : ∀ a' U, T.WarmedH U.vm → w.before a' U = true) (hini : ∀ a' U, T.WarmedH U.vm → (Cond.initialized y.cls).before a' U = true) (hv : ∀ v V', Q2 v V' → v = none)
    (hframes : rm2.frames + 2 ≤ R.frames) (hlocals : 2 * g.monitorRoom + (g.stack.map fun v => v.category).sum + (3 + 11) + (8 + (maxL + 11) + rm2.locals) ≤ R.locals) (hcells : cells + rm2.cells ≤ R.cells) (hslots : slots + rm2.slots ≤ R.slots) (hW : G.1.WarmedH T.vm) (hRep : xRep G V T.heap) :
    (∃ (v : Option Value) (T' : State) (V' : xV) (L : List Loc), Stand p l e R s m args below meth c T' (locs ++ L) (cells + rm2.cells) (slots + rm2.slots) ∧ xRep G V' T'.heap ∧ Q2 v V' ∧ (∀ q ∈ L, G.1.heap.size ≤ q.base) ∧ ∀ acts, Steps p.tables e below (doInvoke e (T.setTop g) acts mk #[.ref a, .ref b1, .int z]).1 (T'.setTop { g with pc := g.pc + len, stack := v.toList ++ g.stack })) ∨
    (∃ (q : Nat) (T' : State) (V' : xV) (L : List Loc), Stand p l e R s m args below meth c T' (locs ++ L) (cells + rm2.cells) (slots + rm2.slots) ∧ xRep G V' T'.heap ∧ X2 q V' ∧ (∃ (ci : Nat) (fs : List Value), V'.2 q = some (.inr (ci, fs))) ∧ (∀ q ∈ L, G.1.heap.size ≤ q.base) ∧ ∀ acts, Steps p.tables e below (doInvoke e (T.setTop g) acts mk #[.ref a, .ref b1, .int z]).1 ((T'.setTop g).pushFrame (.throwing q))) := by
  obtain ⟨d0, d1, d2, d5⟩ := hcs
  obtain ⟨Y₀, hin⟩ := X.into hg hsize hdg #[.ref a, .ref b1, .int z] (R' := { frames := rm2.frames + 1, locals := 8 + (maxL + 11) + rm2.locals, cells := rm2.cells, slots := rm2.slots }) hmk hck hlk hpk hframes (by rw [hml]; exact hlocals) hcells hslots
  generalize hU : (T.setTop g).pushFrame (.java (entryFrame mk #[.ref a, .ref b1, .int z] ck.maxLocals)) = U at Y₀ hin
  have hvm : U.vm = T.vm := by rw [← hU]; rfl
  have hhp : U.heap = T.heap := by rw [← hU]; rfl
  have hbk := xBack (l := l) (R := { frames := rm2.frames + 1, locals := 8 + (maxL + 11) + rm2.locals, cells := rm2.cells, slots := rm2.slots }) (p := p) (e := e) (below := .java g :: below) (s := T.calling g mk #[.ref a, .ref b1, .int z]) (sargs := #[.ref a, .ref b1, .int z]) (len := 3) (W9 := 8) hcd hM (Nat.le_refl _) (Nat.le_refl _) (fun a' U' h => hws a' U' h) (fun a' U' h => hini a' U' h)
  have hloc : entryFrame mk #[.ref a, .ref b1, .int z] ck.maxLocals = { method := mk, pc := 0, locals := #[.val (.ref a), .val (.ref b1), .val (.int z)], stack := [], locked := none } := by rw [hml]; rfl
  have hs : U.topJava?.isSome := Y₀.here.top
  have hent : ∀ target, (∀ acts', Steps p.tables e (.java g :: below) (doInvoke e (U.setTop { method := mk, pc := 2, locals := #[.val (.ref a), .val (.ref b1), .val (.int z)], stack := [], locked := none }) acts' t #[.ref b1, .int z]).1 target) → Steps p.tables e (.java g :: below) (U.setTop (entryFrame mk #[.ref a, .ref b1, .int z] ck.maxLocals)) target := by
    intro target hgo
    rw [hloc]
    jvm_step Y₀.here [hexec, hbytes, d0, Value.isRef]
    show Steps p.tables e (.java g :: below) (U.setTop { method := mk, pc := 1, locals := #[.val (.ref a), .val (.ref b1), .val (.int z)], stack := [.ref b1], locked := none }) target
    jvm_step Y₀.here [hexec, hbytes, d1]
    show Steps p.tables e (.java g :: below) (U.setTop { method := mk, pc := 2, locals := #[.val (.ref a), .val (.ref b1), .val (.int z)], stack := [.int z, .ref b1], locked := none }) target
    jvm_step Y₀.here [hexec, hbytes, d2, invokestatic.wp_ready (e := e) (s := U) (m := t) (k := kt) (meth := metht) (args := [.ref b1, .int z]) (rest := [])
      (f := { method := mk, pc := 2, locals := #[.val (.ref a), .val (.ref b1), .val (.int z)], stack := [.int z, .ref b1], locked := none }) hs (by rw [← hU]; exact href) (by rw [hvm]; exact hready) (by rw [hvm]; exact hkt) (by rw [hvm]; exact hmt) hpoly hstatic hinit hpar.symm rfl]
    intro acts'
    exact hgo acts'
  rcases hbk mk methk ck ⟨U, [], 0, 0⟩ { method := mk, pc := 2, locals := #[.val (.ref a), .val (.ref b1), .val (.int z)], stack := [], locked := none } (.invokestatic K) t #[.ref b1, .int z] Y₀ rfl (by rw [hml]; rfl) (by rw [hbytes]; exact d2) (by show 2 * 0 + 0 ≤ 8; omega) (by rw [← hU]; exact hn)
    ⟨by show 0 + rm2.cells ≤ rm2.cells; omega, by show 0 + rm2.slots ≤ rm2.slots; omega, rfl, by show G.1.WarmedH U.vm; rw [hvm]; exact hW, by show xRep G V U.heap; rw [hhp]; exact hRep⟩ with ⟨v, B, Y', ⟨V', L, hRep', hQ, hlo, hL', hc, hsl⟩, hsteps⟩ | ⟨q, B, Y', ⟨V', L, hRep', hQ, hcell9, hlo, hL', hc, hsl⟩, hsteps⟩
  · obtain rfl := hv v V' hQ
    obtain ⟨fs, hleave, -, hended, hWe, hsame⟩ := Y'.leave (v := none) (fun h => rfl) hlk
    obtain ⟨T', X', hW', -, ht⟩ := X.outOf hg hdg hended hWe hsame
    have hheap : B.U.heap = T'.heap := by
      have := congrArg (fun s9 : State => s9.heap) ht
      exact this
    have e1 : B.cells = rm2.cells := by rw [hc]; show 0 + _ = _; omega
    have e2 : B.slots = rm2.slots := by rw [hsl]; show 0 + _ = _; omega
    have e3 : B.locs = L := by rw [hlo]; rfl
    rw [e1, e2, e3] at X'
    refine Or.inl ⟨none, T', V', L, X', by rw [← hheap]; exact hRep', hQ, hL', fun acts => ?_⟩
    rw [hin acts]
    rw [← ht]
    refine Steps.weaken (mid := [.java g]) ?_
    refine hent _ fun acts' => ?_
    rw [doInvoke_state]
    refine hsteps.trans ?_
    jvm_step Y'.here [Y'.here.top, hexec, hbytes, d5, (show B.U.vm.method? mk = some methk from Y'.method'), hretk, narrow]
    intro acts''
    rw [hleave { method := mk, pc := 5, locals := #[.val (.ref a), .val (.ref b1), .val (.int z)], stack := [], locked := none } acts'' rfl rfl rfl]
    exact Steps.refl _
  · obtain ⟨st1, -, hend, hWe, hsame⟩ := Y'.leaveThrown q (g := { method := mk, pc := 2, locals := #[.val (.ref a), .val (.ref b1), .val (.int z)], stack := [], locked := none }) rfl rfl rfl (fun x hx => by rw [hex] at hx; cases hx) hlk
    obtain ⟨T', X', hheap, ht⟩ := outOfT X hg (t := B.U.setFrames (.throwing q :: .java g :: below)) hend hWe hsame
    have e1 : B.cells = rm2.cells := by rw [hc]; show 0 + _ = _; omega
    have e2 : B.slots = rm2.slots := by rw [hsl]; show 0 + _ = _; omega
    have e3 : B.locs = L := by rw [hlo]; rfl
    rw [e1, e2, e3] at X'
    refine Or.inr ⟨q, T', V', L, X', by rw [hheap]; exact hRep', hQ, hcell9, hL', fun acts => ?_⟩
    rw [hin acts]
    rw [← ht]
    refine Steps.weaken (mid := [.java g]) ?_
    refine hent _ fun acts' => ?_
    rw [doInvoke_state]
    exact hsteps.trans st1
def lI_dec (cs : ByteArray) (K : Nat) : Prop := decode cs 0 = .ok (.aload_n 1, 1) ∧ decode cs 1 = .ok (.iload_n 2, 1) ∧ decode cs 2 = .ok (.invokestatic K, 3) ∧ decode cs 5 = .ok (.ireturn, 1)
theorem lI_back {G : xG} {ig : Instr} {len K : Nat} {cs : ByteArray} (hcs : lI_dec cs K) (X : Stand p l e R s m args below meth c T locs cells slots) (hexec : p.tables.exec = Jvm.exec) {g : JFrame} (hg : g.method = m) (hsize : g.locals.size = c.maxLocals) (hdg : decode c.code g.pc = .ok (ig, len))
    {mk t : MethodId} {methk metht : Method} {ck : Code} {kt : Class} (hmk : T.vm.method? mk = some methk) (hck : methk.code = some ck) (hbytes : ck.code = cs) (hml : ck.maxLocals = 3) (hex : ck.exceptionTable = #[]) (hlk : methk.locks = false) (hpk : T.plainMethod mk) (hretk : methk.sig.returnType = some .int)
    (href : plainRef T e mk.cls K) (hready : T.vm.methodReady mk.cls K t) (hkt : T.vm.classes[t.cls]? = some kt) (hmt : T.vm.method? t = some metht) (hpoly : signaturePolymorphic kt metht = false) (hstatic : metht.isStatic = true) (hinit : kt.init = .initialized) (hpar : metht.sig.parameters.length = 2)
    {y : MethodName} {w : Cond} {rm2 : Room} {bytes : ByteArray} {maxL : Nat} {a b1 : Nat} {z : Int32}  {V : xV} {Q2 : Option Value → xV → Prop} {X2 : Nat → xV → Prop} (hcd : xCode y bytes maxL w) (hM : xMet l G y [w] rm2 [.ref b1, .int z] V Q2 X2) (hn : T.methodNamed? y = some t)
    (hws : ∀ a' U, T.WarmedH U.vm → w.before a' U = true) (hini : ∀ a' U, T.WarmedH U.vm → (Cond.initialized y.cls).before a' U = true) (hv : ∀ v V', Q2 v V' → ∃ r : Int32, v = some (.int r))
    (hframes : rm2.frames + 2 ≤ R.frames) (hlocals : 2 * g.monitorRoom + (g.stack.map fun v => v.category).sum + (3 + 11) + (8 + (maxL + 11) + rm2.locals) ≤ R.locals) (hcells : cells + rm2.cells ≤ R.cells) (hslots : slots + rm2.slots ≤ R.slots) (hW : G.1.WarmedH T.vm) (hRep : xRep G V T.heap) :
    (∃ (v : Option Value) (T' : State) (V' : xV) (L : List Loc), Stand p l e R s m args below meth c T' (locs ++ L) (cells + rm2.cells) (slots + rm2.slots) ∧ xRep G V' T'.heap ∧ Q2 v V' ∧ (∀ q ∈ L, G.1.heap.size ≤ q.base) ∧ ∀ acts, Steps p.tables e below (doInvoke e (T.setTop g) acts mk #[.ref a, .ref b1, .int z]).1 (T'.setTop { g with pc := g.pc + len, stack := v.toList ++ g.stack })) ∨
    (∃ (q : Nat) (T' : State) (V' : xV) (L : List Loc), Stand p l e R s m args below meth c T' (locs ++ L) (cells + rm2.cells) (slots + rm2.slots) ∧ xRep G V' T'.heap ∧ X2 q V' ∧ (∃ (ci : Nat) (fs : List Value), V'.2 q = some (.inr (ci, fs))) ∧ (∀ q ∈ L, G.1.heap.size ≤ q.base) ∧ ∀ acts, Steps p.tables e below (doInvoke e (T.setTop g) acts mk #[.ref a, .ref b1, .int z]).1 ((T'.setTop g).pushFrame (.throwing q))) := by
  obtain ⟨d0, d1, d2, d5⟩ := hcs
  obtain ⟨Y₀, hin⟩ := X.into hg hsize hdg #[.ref a, .ref b1, .int z] (R' := { frames := rm2.frames + 1, locals := 8 + (maxL + 11) + rm2.locals, cells := rm2.cells, slots := rm2.slots }) hmk hck hlk hpk hframes (by rw [hml]; exact hlocals) hcells hslots
  generalize hU : (T.setTop g).pushFrame (.java (entryFrame mk #[.ref a, .ref b1, .int z] ck.maxLocals)) = U at Y₀ hin
  have hvm : U.vm = T.vm := by rw [← hU]; rfl
  have hhp : U.heap = T.heap := by rw [← hU]; rfl
  have hbk := xBack (l := l) (R := { frames := rm2.frames + 1, locals := 8 + (maxL + 11) + rm2.locals, cells := rm2.cells, slots := rm2.slots }) (p := p) (e := e) (below := .java g :: below) (s := T.calling g mk #[.ref a, .ref b1, .int z]) (sargs := #[.ref a, .ref b1, .int z]) (len := 3) (W9 := 8) hcd hM (Nat.le_refl _) (Nat.le_refl _) (fun a' U' h => hws a' U' h) (fun a' U' h => hini a' U' h)
  have hloc : entryFrame mk #[.ref a, .ref b1, .int z] ck.maxLocals = { method := mk, pc := 0, locals := #[.val (.ref a), .val (.ref b1), .val (.int z)], stack := [], locked := none } := by rw [hml]; rfl
  have hs : U.topJava?.isSome := Y₀.here.top
  have hent : ∀ target, (∀ acts', Steps p.tables e (.java g :: below) (doInvoke e (U.setTop { method := mk, pc := 2, locals := #[.val (.ref a), .val (.ref b1), .val (.int z)], stack := [], locked := none }) acts' t #[.ref b1, .int z]).1 target) → Steps p.tables e (.java g :: below) (U.setTop (entryFrame mk #[.ref a, .ref b1, .int z] ck.maxLocals)) target := by
    intro target hgo
    rw [hloc]
    jvm_step Y₀.here [hexec, hbytes, d0, Value.isRef]
    show Steps p.tables e (.java g :: below) (U.setTop { method := mk, pc := 1, locals := #[.val (.ref a), .val (.ref b1), .val (.int z)], stack := [.ref b1], locked := none }) target
    jvm_step Y₀.here [hexec, hbytes, d1]
    show Steps p.tables e (.java g :: below) (U.setTop { method := mk, pc := 2, locals := #[.val (.ref a), .val (.ref b1), .val (.int z)], stack := [.int z, .ref b1], locked := none }) target
    jvm_step Y₀.here [hexec, hbytes, d2, invokestatic.wp_ready (e := e) (s := U) (m := t) (k := kt) (meth := metht) (args := [.ref b1, .int z]) (rest := [])
      (f := { method := mk, pc := 2, locals := #[.val (.ref a), .val (.ref b1), .val (.int z)], stack := [.int z, .ref b1], locked := none }) hs (by rw [← hU]; exact href) (by rw [hvm]; exact hready) (by rw [hvm]; exact hkt) (by rw [hvm]; exact hmt) hpoly hstatic hinit hpar.symm rfl]
    intro acts'
    exact hgo acts'
  rcases hbk mk methk ck ⟨U, [], 0, 0⟩ { method := mk, pc := 2, locals := #[.val (.ref a), .val (.ref b1), .val (.int z)], stack := [], locked := none } (.invokestatic K) t #[.ref b1, .int z] Y₀ rfl (by rw [hml]; rfl) (by rw [hbytes]; exact d2) (by show 2 * 0 + 0 ≤ 8; omega) (by rw [← hU]; exact hn)
    ⟨by show 0 + rm2.cells ≤ rm2.cells; omega, by show 0 + rm2.slots ≤ rm2.slots; omega, rfl, by show G.1.WarmedH U.vm; rw [hvm]; exact hW, by show xRep G V U.heap; rw [hhp]; exact hRep⟩ with ⟨v, B, Y', ⟨V', L, hRep', hQ, hlo, hL', hc, hsl⟩, hsteps⟩ | ⟨q, B, Y', ⟨V', L, hRep', hQ, hcell9, hlo, hL', hc, hsl⟩, hsteps⟩
  · obtain ⟨r, rfl⟩ := hv v V' hQ
    obtain ⟨fs, hleave, -, hended, hWe, hsame⟩ := Y'.leave (v := some (.int r)) (fun h => by rw [hretk] at h; cases h) hlk
    obtain ⟨T', X', hW', -, ht⟩ := X.outOf hg hdg hended hWe hsame
    have hheap : B.U.heap = T'.heap := by
      have := congrArg (fun s9 : State => s9.heap) ht
      exact this
    have e1 : B.cells = rm2.cells := by rw [hc]; show 0 + _ = _; omega
    have e2 : B.slots = rm2.slots := by rw [hsl]; show 0 + _ = _; omega
    have e3 : B.locs = L := by rw [hlo]; rfl
    rw [e1, e2, e3] at X'
    refine Or.inl ⟨some (.int r), T', V', L, X', by rw [← hheap]; exact hRep', hQ, hL', fun acts => ?_⟩
    rw [hin acts]
    rw [← ht]
    refine Steps.weaken (mid := [.java g]) ?_
    refine hent _ fun acts' => ?_
    rw [doInvoke_state]
    refine hsteps.trans ?_
    jvm_step Y'.here [Y'.here.top, hexec, hbytes, d5, (show B.U.vm.method? mk = some methk from Y'.method'), hretk, narrow]
    intro acts''
    rw [hleave { method := mk, pc := 5, locals := #[.val (.ref a), .val (.ref b1), .val (.int z)], stack := [], locked := none } acts'' rfl rfl rfl]
    exact Steps.refl _
  · obtain ⟨st1, -, hend, hWe, hsame⟩ := Y'.leaveThrown q (g := { method := mk, pc := 2, locals := #[.val (.ref a), .val (.ref b1), .val (.int z)], stack := [], locked := none }) rfl rfl rfl (fun x hx => by rw [hex] at hx; cases hx) hlk
    obtain ⟨T', X', hheap, ht⟩ := outOfT X hg (t := B.U.setFrames (.throwing q :: .java g :: below)) hend hWe hsame
    have e1 : B.cells = rm2.cells := by rw [hc]; show 0 + _ = _; omega
    have e2 : B.slots = rm2.slots := by rw [hsl]; show 0 + _ = _; omega
    have e3 : B.locs = L := by rw [hlo]; rfl
    rw [e1, e2, e3] at X'
    refine Or.inr ⟨q, T', V', L, X', by rw [hheap]; exact hRep', hQ, hcell9, hL', fun acts => ?_⟩
    rw [hin acts]
    rw [← ht]
    refine Steps.weaken (mid := [.java g]) ?_
    refine hent _ fun acts' => ?_
    rw [doInvoke_state]
    exact hsteps.trans st1
def lN_dec (cs : ByteArray) (K KF0 : Nat) : Prop := decode cs 0 = .ok (.aload_n 0, 1) ∧ decode cs 1 = .ok (.getfield KF0, 3) ∧ decode cs 4 = .ok (.aload_n 1, 1) ∧ decode cs 5 = .ok (.iload_n 2, 1) ∧ decode cs 6 = .ok (.invokestatic K, 3) ∧ decode cs 9 = .ok (.ireturn, 1)
theorem lN_back {G : xG} {ig : Instr} {len K : Nat} {KF0 : Nat} {cs : ByteArray} (hcs : lN_dec cs K KF0) (X : Stand p l e R s m args below meth c T locs cells slots) (hexec : p.tables.exec = Jvm.exec) {g : JFrame} (hg : g.method = m) (hsize : g.locals.size = c.maxLocals) (hdg : decode c.code g.pc = .ok (ig, len))
    {mk t : MethodId} {methk metht : Method} {ck : Code} {kt : Class} (hmk : T.vm.method? mk = some methk) (hck : methk.code = some ck) (hbytes : ck.code = cs) (hml : ck.maxLocals = 3) (hex : ck.exceptionTable = #[]) (hlk : methk.locks = false) (hpk : T.plainMethod mk) (hretk : methk.sig.returnType = some .int)
    (href : plainRef T e mk.cls K) (hready : T.vm.methodReady mk.cls K t) (hkt : T.vm.classes[t.cls]? = some kt) (hmt : T.vm.method? t = some metht) (hpoly : signaturePolymorphic kt metht = false) (hstatic : metht.isStatic = true) (hinit : kt.init = .initialized) (hpar : metht.sig.parameters.length = 3)
    {y : MethodName} {w : Cond} {rm2 : Room} {bytes : ByteArray} {maxL : Nat} {a b1 : Nat} {z : Int32} {v0 : Int32} {cell : Cell} (hcell : T.heap[a]? = some cell) (hkn : cell.vm = .none) {f0 : Field} (hf0 : T.vm.fieldReady mk.cls KF0 mk.cls f0) (hfs0 : f0.isStatic = false) (hfv0 : cell.slots[f0.slot]? = some (.int v0)) {V : xV} {Q2 : Option Value → xV → Prop} {X2 : Nat → xV → Prop} (hcd : xCode y bytes maxL w) (hM : xMet l G y [w] rm2 [.int v0, .ref b1, .int z] V Q2 X2) (hn : T.methodNamed? y = some t)
    (hws : ∀ a' U, T.WarmedH U.vm → w.before a' U = true) (hini : ∀ a' U, T.WarmedH U.vm → (Cond.initialized y.cls).before a' U = true) (hv : ∀ v V', Q2 v V' → ∃ r : Int32, v = some (.int r))
    (hframes : rm2.frames + 2 ≤ R.frames) (hlocals : 2 * g.monitorRoom + (g.stack.map fun v => v.category).sum + (3 + 11) + (8 + (maxL + 11) + rm2.locals) ≤ R.locals) (hcells : cells + rm2.cells ≤ R.cells) (hslots : slots + rm2.slots ≤ R.slots) (hW : G.1.WarmedH T.vm) (hRep : xRep G V T.heap) :
    (∃ (v : Option Value) (T' : State) (V' : xV) (L : List Loc), Stand p l e R s m args below meth c T' (locs ++ L) (cells + rm2.cells) (slots + rm2.slots) ∧ xRep G V' T'.heap ∧ Q2 v V' ∧ (∀ q ∈ L, G.1.heap.size ≤ q.base) ∧ ∀ acts, Steps p.tables e below (doInvoke e (T.setTop g) acts mk #[.ref a, .ref b1, .int z]).1 (T'.setTop { g with pc := g.pc + len, stack := v.toList ++ g.stack })) ∨
    (∃ (q : Nat) (T' : State) (V' : xV) (L : List Loc), Stand p l e R s m args below meth c T' (locs ++ L) (cells + rm2.cells) (slots + rm2.slots) ∧ xRep G V' T'.heap ∧ X2 q V' ∧ (∃ (ci : Nat) (fs : List Value), V'.2 q = some (.inr (ci, fs))) ∧ (∀ q ∈ L, G.1.heap.size ≤ q.base) ∧ ∀ acts, Steps p.tables e below (doInvoke e (T.setTop g) acts mk #[.ref a, .ref b1, .int z]).1 ((T'.setTop g).pushFrame (.throwing q))) := by
  obtain ⟨e0a, e0b, d0, d1, d2, d5⟩ := hcs
  obtain ⟨Y₀, hin⟩ := X.into hg hsize hdg #[.ref a, .ref b1, .int z] (R' := { frames := rm2.frames + 1, locals := 8 + (maxL + 11) + rm2.locals, cells := rm2.cells, slots := rm2.slots }) hmk hck hlk hpk hframes (by rw [hml]; exact hlocals) hcells hslots
  generalize hU : (T.setTop g).pushFrame (.java (entryFrame mk #[.ref a, .ref b1, .int z] ck.maxLocals)) = U at Y₀ hin
  have hvm : U.vm = T.vm := by rw [← hU]; rfl
  have hhp : U.heap = T.heap := by rw [← hU]; rfl
  have hbk := xBack (l := l) (R := { frames := rm2.frames + 1, locals := 8 + (maxL + 11) + rm2.locals, cells := rm2.cells, slots := rm2.slots }) (p := p) (e := e) (below := .java g :: below) (s := T.calling g mk #[.ref a, .ref b1, .int z]) (sargs := #[.ref a, .ref b1, .int z]) (len := 3) (W9 := 8) hcd hM (Nat.le_refl _) (Nat.le_refl _) (fun a' U' h => hws a' U' h) (fun a' U' h => hini a' U' h)
  have hloc : entryFrame mk #[.ref a, .ref b1, .int z] ck.maxLocals = { method := mk, pc := 0, locals := #[.val (.ref a), .val (.ref b1), .val (.int z)], stack := [], locked := none } := by rw [hml]; rfl
  have hs : U.topJava?.isSome := Y₀.here.top
  have hent : ∀ target, (∀ acts', Steps p.tables e (.java g :: below) (doInvoke e (U.setTop { method := mk, pc := 6, locals := #[.val (.ref a), .val (.ref b1), .val (.int z)], stack := [], locked := none }) acts' t #[.int v0, .ref b1, .int z]).1 target) → Steps p.tables e (.java g :: below) (U.setTop (entryFrame mk #[.ref a, .ref b1, .int z] ck.maxLocals)) target := by
    intro target hgo
    rw [hloc]
    jvm_step Y₀.here [hexec, hbytes, e0a, Value.isRef]
    show Steps p.tables e (.java g :: below) (U.setTop { method := mk, pc := 1, locals := #[.val (.ref a), .val (.ref b1), .val (.int z)], stack := [.ref a], locked := none }) target
    jvm_step Y₀.here [hexec, hbytes, e0b, getfield.wp_ready (e := e) (s := U) (c := mk.cls) (field := f0) (a := a) (rest := []) (cell := cell) (v := .int v0) (f := { method := mk, pc := 1, locals := #[.val (.ref a), .val (.ref b1), .val (.int z)], stack := [.ref a], locked := none }) hs (by rw [hvm]; exact hf0) hfs0 rfl (by rw [hhp]; exact hcell) (by rw [hkn]; intro h; cases h) hfv0]
    show Steps p.tables e (.java g :: below) (U.setTop { method := mk, pc := 4, locals := #[.val (.ref a), .val (.ref b1), .val (.int z)], stack := [.int v0], locked := none }) target
    jvm_step Y₀.here [hexec, hbytes, d0, Value.isRef]
    show Steps p.tables e (.java g :: below) (U.setTop { method := mk, pc := 5, locals := #[.val (.ref a), .val (.ref b1), .val (.int z)], stack := [.ref b1, .int v0], locked := none }) target
    jvm_step Y₀.here [hexec, hbytes, d1]
    show Steps p.tables e (.java g :: below) (U.setTop { method := mk, pc := 6, locals := #[.val (.ref a), .val (.ref b1), .val (.int z)], stack := [.int z, .ref b1, .int v0], locked := none }) target
    jvm_step Y₀.here [hexec, hbytes, d2, invokestatic.wp_ready (e := e) (s := U) (m := t) (k := kt) (meth := metht) (args := [.int v0, .ref b1, .int z]) (rest := [])
      (f := { method := mk, pc := 6, locals := #[.val (.ref a), .val (.ref b1), .val (.int z)], stack := [.int z, .ref b1, .int v0], locked := none }) hs (by rw [← hU]; exact href) (by rw [hvm]; exact hready) (by rw [hvm]; exact hkt) (by rw [hvm]; exact hmt) hpoly hstatic hinit hpar.symm rfl]
    intro acts'
    exact hgo acts'
  rcases hbk mk methk ck ⟨U, [], 0, 0⟩ { method := mk, pc := 6, locals := #[.val (.ref a), .val (.ref b1), .val (.int z)], stack := [], locked := none } (.invokestatic K) t #[.int v0, .ref b1, .int z] Y₀ rfl (by rw [hml]; rfl) (by rw [hbytes]; exact d2) (by show 2 * 0 + 0 ≤ 8; omega) (by rw [← hU]; exact hn)
    ⟨by show 0 + rm2.cells ≤ rm2.cells; omega, by show 0 + rm2.slots ≤ rm2.slots; omega, rfl, by show G.1.WarmedH U.vm; rw [hvm]; exact hW, by show xRep G V U.heap; rw [hhp]; exact hRep⟩ with ⟨v, B, Y', ⟨V', L, hRep', hQ, hlo, hL', hc, hsl⟩, hsteps⟩ | ⟨q, B, Y', ⟨V', L, hRep', hQ, hcell9, hlo, hL', hc, hsl⟩, hsteps⟩
  · obtain ⟨r, rfl⟩ := hv v V' hQ
    obtain ⟨fs, hleave, -, hended, hWe, hsame⟩ := Y'.leave (v := some (.int r)) (fun h => by rw [hretk] at h; cases h) hlk
    obtain ⟨T', X', hW', -, ht⟩ := X.outOf hg hdg hended hWe hsame
    have hheap : B.U.heap = T'.heap := by
      have := congrArg (fun s9 : State => s9.heap) ht
      exact this
    have e1 : B.cells = rm2.cells := by rw [hc]; show 0 + _ = _; omega
    have e2 : B.slots = rm2.slots := by rw [hsl]; show 0 + _ = _; omega
    have e3 : B.locs = L := by rw [hlo]; rfl
    rw [e1, e2, e3] at X'
    refine Or.inl ⟨some (.int r), T', V', L, X', by rw [← hheap]; exact hRep', hQ, hL', fun acts => ?_⟩
    rw [hin acts]
    rw [← ht]
    refine Steps.weaken (mid := [.java g]) ?_
    refine hent _ fun acts' => ?_
    rw [doInvoke_state]
    refine hsteps.trans ?_
    jvm_step Y'.here [Y'.here.top, hexec, hbytes, d5, (show B.U.vm.method? mk = some methk from Y'.method'), hretk, narrow]
    intro acts''
    rw [hleave { method := mk, pc := 9, locals := #[.val (.ref a), .val (.ref b1), .val (.int z)], stack := [], locked := none } acts'' rfl rfl rfl]
    exact Steps.refl _
  · obtain ⟨st1, -, hend, hWe, hsame⟩ := Y'.leaveThrown q (g := { method := mk, pc := 6, locals := #[.val (.ref a), .val (.ref b1), .val (.int z)], stack := [], locked := none }) rfl rfl rfl (fun x hx => by rw [hex] at hx; cases hx) hlk
    obtain ⟨T', X', hheap, ht⟩ := outOfT X hg (t := B.U.setFrames (.throwing q :: .java g :: below)) hend hWe hsame
    have e1 : B.cells = rm2.cells := by rw [hc]; show 0 + _ = _; omega
    have e2 : B.slots = rm2.slots := by rw [hsl]; show 0 + _ = _; omega
    have e3 : B.locs = L := by rw [hlo]; rfl
    rw [e1, e2, e3] at X'
    refine Or.inr ⟨q, T', V', L, X', by rw [hheap]; exact hRep', hQ, hcell9, hL', fun acts => ?_⟩
    rw [hin acts]
    rw [← ht]
    refine Steps.weaken (mid := [.java g]) ?_
    refine hent _ fun acts' => ?_
    rw [doInvoke_state]
    exact hsteps.trans st1
def lF_dec (cs : ByteArray) (K KF0 : Nat) : Prop := decode cs 0 = .ok (.aload_n 0, 1) ∧ decode cs 1 = .ok (.getfield KF0, 3) ∧ decode cs 4 = .ok (.aload_n 1, 1) ∧ decode cs 5 = .ok (.iload_n 2, 1) ∧ decode cs 6 = .ok (.invokestatic K, 3) ∧ decode cs 9 = .ok (.ireturn, 1)
theorem lF_back {G : xG} {ig : Instr} {len K : Nat} {KF0 : Nat} {cs : ByteArray} (hcs : lF_dec cs K KF0) (X : Stand p l e R s m args below meth c T locs cells slots) (hexec : p.tables.exec = Jvm.exec) {g : JFrame} (hg : g.method = m) (hsize : g.locals.size = c.maxLocals) (hdg : decode c.code g.pc = .ok (ig, len))
    {mk t : MethodId} {methk metht : Method} {ck : Code} {kt : Class} (hmk : T.vm.method? mk = some methk) (hck : methk.code = some ck) (hbytes : ck.code = cs) (hml : ck.maxLocals = 3) (hex : ck.exceptionTable = #[]) (hlk : methk.locks = false) (hpk : T.plainMethod mk) (hretk : methk.sig.returnType = some .boolean)
    (href : plainRef T e mk.cls K) (hready : T.vm.methodReady mk.cls K t) (hkt : T.vm.classes[t.cls]? = some kt) (hmt : T.vm.method? t = some metht) (hpoly : signaturePolymorphic kt metht = false) (hstatic : metht.isStatic = true) (hinit : kt.init = .initialized) (hpar : metht.sig.parameters.length = 3)
    {y : MethodName} {w : Cond} {rm2 : Room} {bytes : ByteArray} {maxL : Nat} {a b1 : Nat} {z : Int32} {v0 : Nat} {cell : Cell} (hcell : T.heap[a]? = some cell) (hkn : cell.vm = .none) {f0 : Field} (hf0 : T.vm.fieldReady mk.cls KF0 mk.cls f0) (hfs0 : f0.isStatic = false) (hfv0 : cell.slots[f0.slot]? = some (.ref v0)) {V : xV} {Q2 : Option Value → xV → Prop} {X2 : Nat → xV → Prop} (hcd : xCode y bytes maxL w) (hM : xMet l G y [w] rm2 [.ref v0, .ref b1, .int z] V Q2 X2) (hn : T.methodNamed? y = some t)
    (hws : ∀ a' U, T.WarmedH U.vm → w.before a' U = true) (hini : ∀ a' U, T.WarmedH U.vm → (Cond.initialized y.cls).before a' U = true) (hv : ∀ v V', Q2 v V' → ∃ r : Int32, v = some (.int r) ∧ narrow .boolean (.int r) = .int r)
    (hframes : rm2.frames + 2 ≤ R.frames) (hlocals : 2 * g.monitorRoom + (g.stack.map fun v => v.category).sum + (3 + 11) + (8 + (maxL + 11) + rm2.locals) ≤ R.locals) (hcells : cells + rm2.cells ≤ R.cells) (hslots : slots + rm2.slots ≤ R.slots) (hW : G.1.WarmedH T.vm) (hRep : xRep G V T.heap) :
    (∃ (v : Option Value) (T' : State) (V' : xV) (L : List Loc), Stand p l e R s m args below meth c T' (locs ++ L) (cells + rm2.cells) (slots + rm2.slots) ∧ xRep G V' T'.heap ∧ Q2 v V' ∧ (∀ q ∈ L, G.1.heap.size ≤ q.base) ∧ ∀ acts, Steps p.tables e below (doInvoke e (T.setTop g) acts mk #[.ref a, .ref b1, .int z]).1 (T'.setTop { g with pc := g.pc + len, stack := v.toList ++ g.stack })) ∨
    (∃ (q : Nat) (T' : State) (V' : xV) (L : List Loc), Stand p l e R s m args below meth c T' (locs ++ L) (cells + rm2.cells) (slots + rm2.slots) ∧ xRep G V' T'.heap ∧ X2 q V' ∧ (∃ (ci : Nat) (fs : List Value), V'.2 q = some (.inr (ci, fs))) ∧ (∀ q ∈ L, G.1.heap.size ≤ q.base) ∧ ∀ acts, Steps p.tables e below (doInvoke e (T.setTop g) acts mk #[.ref a, .ref b1, .int z]).1 ((T'.setTop g).pushFrame (.throwing q))) := by
  obtain ⟨e0a, e0b, d0, d1, d2, d5⟩ := hcs
  obtain ⟨Y₀, hin⟩ := X.into hg hsize hdg #[.ref a, .ref b1, .int z] (R' := { frames := rm2.frames + 1, locals := 8 + (maxL + 11) + rm2.locals, cells := rm2.cells, slots := rm2.slots }) hmk hck hlk hpk hframes (by rw [hml]; exact hlocals) hcells hslots
  generalize hU : (T.setTop g).pushFrame (.java (entryFrame mk #[.ref a, .ref b1, .int z] ck.maxLocals)) = U at Y₀ hin
  have hvm : U.vm = T.vm := by rw [← hU]; rfl
  have hhp : U.heap = T.heap := by rw [← hU]; rfl
  have hbk := xBack (l := l) (R := { frames := rm2.frames + 1, locals := 8 + (maxL + 11) + rm2.locals, cells := rm2.cells, slots := rm2.slots }) (p := p) (e := e) (below := .java g :: below) (s := T.calling g mk #[.ref a, .ref b1, .int z]) (sargs := #[.ref a, .ref b1, .int z]) (len := 3) (W9 := 8) hcd hM (Nat.le_refl _) (Nat.le_refl _) (fun a' U' h => hws a' U' h) (fun a' U' h => hini a' U' h)
  have hloc : entryFrame mk #[.ref a, .ref b1, .int z] ck.maxLocals = { method := mk, pc := 0, locals := #[.val (.ref a), .val (.ref b1), .val (.int z)], stack := [], locked := none } := by rw [hml]; rfl
  have hs : U.topJava?.isSome := Y₀.here.top
  have hent : ∀ target, (∀ acts', Steps p.tables e (.java g :: below) (doInvoke e (U.setTop { method := mk, pc := 6, locals := #[.val (.ref a), .val (.ref b1), .val (.int z)], stack := [], locked := none }) acts' t #[.ref v0, .ref b1, .int z]).1 target) → Steps p.tables e (.java g :: below) (U.setTop (entryFrame mk #[.ref a, .ref b1, .int z] ck.maxLocals)) target := by
    intro target hgo
    rw [hloc]
    jvm_step Y₀.here [hexec, hbytes, e0a, Value.isRef]
    show Steps p.tables e (.java g :: below) (U.setTop { method := mk, pc := 1, locals := #[.val (.ref a), .val (.ref b1), .val (.int z)], stack := [.ref a], locked := none }) target
    jvm_step Y₀.here [hexec, hbytes, e0b, getfield.wp_ready (e := e) (s := U) (c := mk.cls) (field := f0) (a := a) (rest := []) (cell := cell) (v := .ref v0) (f := { method := mk, pc := 1, locals := #[.val (.ref a), .val (.ref b1), .val (.int z)], stack := [.ref a], locked := none }) hs (by rw [hvm]; exact hf0) hfs0 rfl (by rw [hhp]; exact hcell) (by rw [hkn]; intro h; cases h) hfv0]
    show Steps p.tables e (.java g :: below) (U.setTop { method := mk, pc := 4, locals := #[.val (.ref a), .val (.ref b1), .val (.int z)], stack := [.ref v0], locked := none }) target
    jvm_step Y₀.here [hexec, hbytes, d0, Value.isRef]
    show Steps p.tables e (.java g :: below) (U.setTop { method := mk, pc := 5, locals := #[.val (.ref a), .val (.ref b1), .val (.int z)], stack := [.ref b1, .ref v0], locked := none }) target
    jvm_step Y₀.here [hexec, hbytes, d1]
    show Steps p.tables e (.java g :: below) (U.setTop { method := mk, pc := 6, locals := #[.val (.ref a), .val (.ref b1), .val (.int z)], stack := [.int z, .ref b1, .ref v0], locked := none }) target
    jvm_step Y₀.here [hexec, hbytes, d2, invokestatic.wp_ready (e := e) (s := U) (m := t) (k := kt) (meth := metht) (args := [.ref v0, .ref b1, .int z]) (rest := [])
      (f := { method := mk, pc := 6, locals := #[.val (.ref a), .val (.ref b1), .val (.int z)], stack := [.int z, .ref b1, .ref v0], locked := none }) hs (by rw [← hU]; exact href) (by rw [hvm]; exact hready) (by rw [hvm]; exact hkt) (by rw [hvm]; exact hmt) hpoly hstatic hinit hpar.symm rfl]
    intro acts'
    exact hgo acts'
  rcases hbk mk methk ck ⟨U, [], 0, 0⟩ { method := mk, pc := 6, locals := #[.val (.ref a), .val (.ref b1), .val (.int z)], stack := [], locked := none } (.invokestatic K) t #[.ref v0, .ref b1, .int z] Y₀ rfl (by rw [hml]; rfl) (by rw [hbytes]; exact d2) (by show 2 * 0 + 0 ≤ 8; omega) (by rw [← hU]; exact hn)
    ⟨by show 0 + rm2.cells ≤ rm2.cells; omega, by show 0 + rm2.slots ≤ rm2.slots; omega, rfl, by show G.1.WarmedH U.vm; rw [hvm]; exact hW, by show xRep G V U.heap; rw [hhp]; exact hRep⟩ with ⟨v, B, Y', ⟨V', L, hRep', hQ, hlo, hL', hc, hsl⟩, hsteps⟩ | ⟨q, B, Y', ⟨V', L, hRep', hQ, hcell9, hlo, hL', hc, hsl⟩, hsteps⟩
  · obtain ⟨r, rfl, hnr⟩ := hv v V' hQ
    obtain ⟨fs, hleave, -, hended, hWe, hsame⟩ := Y'.leave (v := some (.int r)) (fun h => by rw [hretk] at h; cases h) hlk
    obtain ⟨T', X', hW', -, ht⟩ := X.outOf hg hdg hended hWe hsame
    have hheap : B.U.heap = T'.heap := by
      have := congrArg (fun s9 : State => s9.heap) ht
      exact this
    have e1 : B.cells = rm2.cells := by rw [hc]; show 0 + _ = _; omega
    have e2 : B.slots = rm2.slots := by rw [hsl]; show 0 + _ = _; omega
    have e3 : B.locs = L := by rw [hlo]; rfl
    rw [e1, e2, e3] at X'
    refine Or.inl ⟨some (.int r), T', V', L, X', by rw [← hheap]; exact hRep', hQ, hL', fun acts => ?_⟩
    rw [hin acts]
    rw [← ht]
    refine Steps.weaken (mid := [.java g]) ?_
    refine hent _ fun acts' => ?_
    rw [doInvoke_state]
    refine hsteps.trans ?_
    jvm_step Y'.here [Y'.here.top, hexec, hbytes, d5, (show B.U.vm.method? mk = some methk from Y'.method'), hretk, hnr]
    intro acts''
    rw [hleave { method := mk, pc := 9, locals := #[.val (.ref a), .val (.ref b1), .val (.int z)], stack := [], locked := none } acts'' rfl rfl rfl]
    exact Steps.refl _
  · obtain ⟨st1, -, hend, hWe, hsame⟩ := Y'.leaveThrown q (g := { method := mk, pc := 6, locals := #[.val (.ref a), .val (.ref b1), .val (.int z)], stack := [], locked := none }) rfl rfl rfl (fun x hx => by rw [hex] at hx; cases hx) hlk
    obtain ⟨T', X', hheap, ht⟩ := outOfT X hg (t := B.U.setFrames (.throwing q :: .java g :: below)) hend hWe hsame
    have e1 : B.cells = rm2.cells := by rw [hc]; show 0 + _ = _; omega
    have e2 : B.slots = rm2.slots := by rw [hsl]; show 0 + _ = _; omega
    have e3 : B.locs = L := by rw [hlo]; rfl
    rw [e1, e2, e3] at X'
    refine Or.inr ⟨q, T', V', L, X', by rw [hheap]; exact hRep', hQ, hcell9, hL', fun acts => ?_⟩
    rw [hin acts]
    rw [← ht]
    refine Steps.weaken (mid := [.java g]) ?_
    refine hent _ fun acts' => ?_
    rw [doInvoke_state]
    exact hsteps.trans st1
def lC_dec (cs : ByteArray) (K KF0 KF1 KF2 KF3 : Nat) : Prop := decode cs 0 = .ok (.aload_n 0, 1) ∧ decode cs 1 = .ok (.getfield KF0, 3) ∧ decode cs 4 = .ok (.aload_n 0, 1) ∧ decode cs 5 = .ok (.getfield KF1, 3) ∧ decode cs 8 = .ok (.aload_n 0, 1) ∧ decode cs 9 = .ok (.getfield KF2, 3) ∧ decode cs 12 = .ok (.aload_n 0, 1) ∧ decode cs 13 = .ok (.getfield KF3, 3) ∧ decode cs 16 = .ok (.aload_n 1, 1) ∧ decode cs 17 = .ok (.iload_n 2, 1) ∧ decode cs 18 = .ok (.invokestatic K, 3) ∧ decode cs 21 = .ok (.ireturn, 1)
theorem lC_back {G : xG} {ig : Instr} {len K : Nat} {KF0 KF1 KF2 KF3 : Nat} {cs : ByteArray} (hcs : lC_dec cs K KF0 KF1 KF2 KF3) (X : Stand p l e R s m args below meth c T locs cells slots) (hexec : p.tables.exec = Jvm.exec) {g : JFrame} (hg : g.method = m) (hsize : g.locals.size = c.maxLocals) (hdg : decode c.code g.pc = .ok (ig, len))
    {mk t : MethodId} {methk metht : Method} {ck : Code} {kt : Class} (hmk : T.vm.method? mk = some methk) (hck : methk.code = some ck) (hbytes : ck.code = cs) (hml : ck.maxLocals = 3) (hex : ck.exceptionTable = #[]) (hlk : methk.locks = false) (hpk : T.plainMethod mk) (hretk : methk.sig.returnType = some .boolean)
    (href : plainRef T e mk.cls K) (hready : T.vm.methodReady mk.cls K t) (hkt : T.vm.classes[t.cls]? = some kt) (hmt : T.vm.method? t = some metht) (hpoly : signaturePolymorphic kt metht = false) (hstatic : metht.isStatic = true) (hinit : kt.init = .initialized) (hpar : metht.sig.parameters.length = 6)
    {y : MethodName} {w : Cond} {rm2 : Room} {bytes : ByteArray} {maxL : Nat} {a b1 : Nat} {z : Int32} {v0 : Nat} {v1 : Nat} {v2 : Int32} {v3 : Int32} {cell : Cell} (hcell : T.heap[a]? = some cell) (hkn : cell.vm = .none) {f0 : Field} (hf0 : T.vm.fieldReady mk.cls KF0 mk.cls f0) (hfs0 : f0.isStatic = false) (hfv0 : cell.slots[f0.slot]? = some (.ref v0)) {f1 : Field} (hf1 : T.vm.fieldReady mk.cls KF1 mk.cls f1) (hfs1 : f1.isStatic = false) (hfv1 : cell.slots[f1.slot]? = some (.ref v1)) {f2 : Field} (hf2 : T.vm.fieldReady mk.cls KF2 mk.cls f2) (hfs2 : f2.isStatic = false) (hfv2 : cell.slots[f2.slot]? = some (.int v2)) {f3 : Field} (hf3 : T.vm.fieldReady mk.cls KF3 mk.cls f3) (hfs3 : f3.isStatic = false) (hfv3 : cell.slots[f3.slot]? = some (.int v3)) {V : xV} {Q2 : Option Value → xV → Prop} {X2 : Nat → xV → Prop} (hcd : xCode y bytes maxL w) (hM : xMet l G y [w] rm2 [.ref v0, .ref v1, .int v2, .int v3, .ref b1, .int z] V Q2 X2) (hn : T.methodNamed? y = some t)
    (hws : ∀ a' U, T.WarmedH U.vm → w.before a' U = true) (hini : ∀ a' U, T.WarmedH U.vm → (Cond.initialized y.cls).before a' U = true) (hv : ∀ v V', Q2 v V' → ∃ r : Int32, v = some (.int r) ∧ narrow .boolean (.int r) = .int r)
    (hframes : rm2.frames + 2 ≤ R.frames) (hlocals : 2 * g.monitorRoom + (g.stack.map fun v => v.category).sum + (3 + 11) + (8 + (maxL + 11) + rm2.locals) ≤ R.locals) (hcells : cells + rm2.cells ≤ R.cells) (hslots : slots + rm2.slots ≤ R.slots) (hW : G.1.WarmedH T.vm) (hRep : xRep G V T.heap) :
    (∃ (v : Option Value) (T' : State) (V' : xV) (L : List Loc), Stand p l e R s m args below meth c T' (locs ++ L) (cells + rm2.cells) (slots + rm2.slots) ∧ xRep G V' T'.heap ∧ Q2 v V' ∧ (∀ q ∈ L, G.1.heap.size ≤ q.base) ∧ ∀ acts, Steps p.tables e below (doInvoke e (T.setTop g) acts mk #[.ref a, .ref b1, .int z]).1 (T'.setTop { g with pc := g.pc + len, stack := v.toList ++ g.stack })) ∨
    (∃ (q : Nat) (T' : State) (V' : xV) (L : List Loc), Stand p l e R s m args below meth c T' (locs ++ L) (cells + rm2.cells) (slots + rm2.slots) ∧ xRep G V' T'.heap ∧ X2 q V' ∧ (∃ (ci : Nat) (fs : List Value), V'.2 q = some (.inr (ci, fs))) ∧ (∀ q ∈ L, G.1.heap.size ≤ q.base) ∧ ∀ acts, Steps p.tables e below (doInvoke e (T.setTop g) acts mk #[.ref a, .ref b1, .int z]).1 ((T'.setTop g).pushFrame (.throwing q))) := by
  obtain ⟨e0a, e0b, e1a, e1b, e2a, e2b, e3a, e3b, d0, d1, d2, d5⟩ := hcs
  obtain ⟨Y₀, hin⟩ := X.into hg hsize hdg #[.ref a, .ref b1, .int z] (R' := { frames := rm2.frames + 1, locals := 8 + (maxL + 11) + rm2.locals, cells := rm2.cells, slots := rm2.slots }) hmk hck hlk hpk hframes (by rw [hml]; exact hlocals) hcells hslots
  generalize hU : (T.setTop g).pushFrame (.java (entryFrame mk #[.ref a, .ref b1, .int z] ck.maxLocals)) = U at Y₀ hin
  have hvm : U.vm = T.vm := by rw [← hU]; rfl
  have hhp : U.heap = T.heap := by rw [← hU]; rfl
  have hbk := xBack (l := l) (R := { frames := rm2.frames + 1, locals := 8 + (maxL + 11) + rm2.locals, cells := rm2.cells, slots := rm2.slots }) (p := p) (e := e) (below := .java g :: below) (s := T.calling g mk #[.ref a, .ref b1, .int z]) (sargs := #[.ref a, .ref b1, .int z]) (len := 3) (W9 := 8) hcd hM (Nat.le_refl _) (Nat.le_refl _) (fun a' U' h => hws a' U' h) (fun a' U' h => hini a' U' h)
  have hloc : entryFrame mk #[.ref a, .ref b1, .int z] ck.maxLocals = { method := mk, pc := 0, locals := #[.val (.ref a), .val (.ref b1), .val (.int z)], stack := [], locked := none } := by rw [hml]; rfl
  have hs : U.topJava?.isSome := Y₀.here.top
  have hent : ∀ target, (∀ acts', Steps p.tables e (.java g :: below) (doInvoke e (U.setTop { method := mk, pc := 18, locals := #[.val (.ref a), .val (.ref b1), .val (.int z)], stack := [], locked := none }) acts' t #[.ref v0, .ref v1, .int v2, .int v3, .ref b1, .int z]).1 target) → Steps p.tables e (.java g :: below) (U.setTop (entryFrame mk #[.ref a, .ref b1, .int z] ck.maxLocals)) target := by
    intro target hgo
    rw [hloc]
    jvm_step Y₀.here [hexec, hbytes, e0a, Value.isRef]
    show Steps p.tables e (.java g :: below) (U.setTop { method := mk, pc := 1, locals := #[.val (.ref a), .val (.ref b1), .val (.int z)], stack := [.ref a], locked := none }) target
    jvm_step Y₀.here [hexec, hbytes, e0b, getfield.wp_ready (e := e) (s := U) (c := mk.cls) (field := f0) (a := a) (rest := []) (cell := cell) (v := .ref v0) (f := { method := mk, pc := 1, locals := #[.val (.ref a), .val (.ref b1), .val (.int z)], stack := [.ref a], locked := none }) hs (by rw [hvm]; exact hf0) hfs0 rfl (by rw [hhp]; exact hcell) (by rw [hkn]; intro h; cases h) hfv0]
    show Steps p.tables e (.java g :: below) (U.setTop { method := mk, pc := 4, locals := #[.val (.ref a), .val (.ref b1), .val (.int z)], stack := [.ref v0], locked := none }) target
    jvm_step Y₀.here [hexec, hbytes, e1a, Value.isRef]
    show Steps p.tables e (.java g :: below) (U.setTop { method := mk, pc := 5, locals := #[.val (.ref a), .val (.ref b1), .val (.int z)], stack := [.ref a, .ref v0], locked := none }) target
    jvm_step Y₀.here [hexec, hbytes, e1b, getfield.wp_ready (e := e) (s := U) (c := mk.cls) (field := f1) (a := a) (rest := [.ref v0]) (cell := cell) (v := .ref v1) (f := { method := mk, pc := 5, locals := #[.val (.ref a), .val (.ref b1), .val (.int z)], stack := [.ref a, .ref v0], locked := none }) hs (by rw [hvm]; exact hf1) hfs1 rfl (by rw [hhp]; exact hcell) (by rw [hkn]; intro h; cases h) hfv1]
    show Steps p.tables e (.java g :: below) (U.setTop { method := mk, pc := 8, locals := #[.val (.ref a), .val (.ref b1), .val (.int z)], stack := [.ref v1, .ref v0], locked := none }) target
    jvm_step Y₀.here [hexec, hbytes, e2a, Value.isRef]
    show Steps p.tables e (.java g :: below) (U.setTop { method := mk, pc := 9, locals := #[.val (.ref a), .val (.ref b1), .val (.int z)], stack := [.ref a, .ref v1, .ref v0], locked := none }) target
    jvm_step Y₀.here [hexec, hbytes, e2b, getfield.wp_ready (e := e) (s := U) (c := mk.cls) (field := f2) (a := a) (rest := [.ref v1, .ref v0]) (cell := cell) (v := .int v2) (f := { method := mk, pc := 9, locals := #[.val (.ref a), .val (.ref b1), .val (.int z)], stack := [.ref a, .ref v1, .ref v0], locked := none }) hs (by rw [hvm]; exact hf2) hfs2 rfl (by rw [hhp]; exact hcell) (by rw [hkn]; intro h; cases h) hfv2]
    show Steps p.tables e (.java g :: below) (U.setTop { method := mk, pc := 12, locals := #[.val (.ref a), .val (.ref b1), .val (.int z)], stack := [.int v2, .ref v1, .ref v0], locked := none }) target
    jvm_step Y₀.here [hexec, hbytes, e3a, Value.isRef]
    show Steps p.tables e (.java g :: below) (U.setTop { method := mk, pc := 13, locals := #[.val (.ref a), .val (.ref b1), .val (.int z)], stack := [.ref a, .int v2, .ref v1, .ref v0], locked := none }) target
    jvm_step Y₀.here [hexec, hbytes, e3b, getfield.wp_ready (e := e) (s := U) (c := mk.cls) (field := f3) (a := a) (rest := [.int v2, .ref v1, .ref v0]) (cell := cell) (v := .int v3) (f := { method := mk, pc := 13, locals := #[.val (.ref a), .val (.ref b1), .val (.int z)], stack := [.ref a, .int v2, .ref v1, .ref v0], locked := none }) hs (by rw [hvm]; exact hf3) hfs3 rfl (by rw [hhp]; exact hcell) (by rw [hkn]; intro h; cases h) hfv3]
    show Steps p.tables e (.java g :: below) (U.setTop { method := mk, pc := 16, locals := #[.val (.ref a), .val (.ref b1), .val (.int z)], stack := [.int v3, .int v2, .ref v1, .ref v0], locked := none }) target
    jvm_step Y₀.here [hexec, hbytes, d0, Value.isRef]
    show Steps p.tables e (.java g :: below) (U.setTop { method := mk, pc := 17, locals := #[.val (.ref a), .val (.ref b1), .val (.int z)], stack := [.ref b1, .int v3, .int v2, .ref v1, .ref v0], locked := none }) target
    jvm_step Y₀.here [hexec, hbytes, d1]
    show Steps p.tables e (.java g :: below) (U.setTop { method := mk, pc := 18, locals := #[.val (.ref a), .val (.ref b1), .val (.int z)], stack := [.int z, .ref b1, .int v3, .int v2, .ref v1, .ref v0], locked := none }) target
    jvm_step Y₀.here [hexec, hbytes, d2, invokestatic.wp_ready (e := e) (s := U) (m := t) (k := kt) (meth := metht) (args := [.ref v0, .ref v1, .int v2, .int v3, .ref b1, .int z]) (rest := [])
      (f := { method := mk, pc := 18, locals := #[.val (.ref a), .val (.ref b1), .val (.int z)], stack := [.int z, .ref b1, .int v3, .int v2, .ref v1, .ref v0], locked := none }) hs (by rw [← hU]; exact href) (by rw [hvm]; exact hready) (by rw [hvm]; exact hkt) (by rw [hvm]; exact hmt) hpoly hstatic hinit hpar.symm rfl]
    intro acts'
    exact hgo acts'
  rcases hbk mk methk ck ⟨U, [], 0, 0⟩ { method := mk, pc := 18, locals := #[.val (.ref a), .val (.ref b1), .val (.int z)], stack := [], locked := none } (.invokestatic K) t #[.ref v0, .ref v1, .int v2, .int v3, .ref b1, .int z] Y₀ rfl (by rw [hml]; rfl) (by rw [hbytes]; exact d2) (by show 2 * 0 + 0 ≤ 8; omega) (by rw [← hU]; exact hn)
    ⟨by show 0 + rm2.cells ≤ rm2.cells; omega, by show 0 + rm2.slots ≤ rm2.slots; omega, rfl, by show G.1.WarmedH U.vm; rw [hvm]; exact hW, by show xRep G V U.heap; rw [hhp]; exact hRep⟩ with ⟨v, B, Y', ⟨V', L, hRep', hQ, hlo, hL', hc, hsl⟩, hsteps⟩ | ⟨q, B, Y', ⟨V', L, hRep', hQ, hcell9, hlo, hL', hc, hsl⟩, hsteps⟩
  · obtain ⟨r, rfl, hnr⟩ := hv v V' hQ
    obtain ⟨fs, hleave, -, hended, hWe, hsame⟩ := Y'.leave (v := some (.int r)) (fun h => by rw [hretk] at h; cases h) hlk
    obtain ⟨T', X', hW', -, ht⟩ := X.outOf hg hdg hended hWe hsame
    have hheap : B.U.heap = T'.heap := by
      have := congrArg (fun s9 : State => s9.heap) ht
      exact this
    have e1 : B.cells = rm2.cells := by rw [hc]; show 0 + _ = _; omega
    have e2 : B.slots = rm2.slots := by rw [hsl]; show 0 + _ = _; omega
    have e3 : B.locs = L := by rw [hlo]; rfl
    rw [e1, e2, e3] at X'
    refine Or.inl ⟨some (.int r), T', V', L, X', by rw [← hheap]; exact hRep', hQ, hL', fun acts => ?_⟩
    rw [hin acts]
    rw [← ht]
    refine Steps.weaken (mid := [.java g]) ?_
    refine hent _ fun acts' => ?_
    rw [doInvoke_state]
    refine hsteps.trans ?_
    jvm_step Y'.here [Y'.here.top, hexec, hbytes, d5, (show B.U.vm.method? mk = some methk from Y'.method'), hretk, hnr]
    intro acts''
    rw [hleave { method := mk, pc := 21, locals := #[.val (.ref a), .val (.ref b1), .val (.int z)], stack := [], locked := none } acts'' rfl rfl rfl]
    exact Steps.refl _
  · obtain ⟨st1, -, hend, hWe, hsame⟩ := Y'.leaveThrown q (g := { method := mk, pc := 18, locals := #[.val (.ref a), .val (.ref b1), .val (.int z)], stack := [], locked := none }) rfl rfl rfl (fun x hx => by rw [hex] at hx; cases hx) hlk
    obtain ⟨T', X', hheap, ht⟩ := outOfT X hg (t := B.U.setFrames (.throwing q :: .java g :: below)) hend hWe hsame
    have e1 : B.cells = rm2.cells := by rw [hc]; show 0 + _ = _; omega
    have e2 : B.slots = rm2.slots := by rw [hsl]; show 0 + _ = _; omega
    have e3 : B.locs = L := by rw [hlo]; rfl
    rw [e1, e2, e3] at X'
    refine Or.inr ⟨q, T', V', L, X', by rw [hheap]; exact hRep', hQ, hcell9, hL', fun acts => ?_⟩
    rw [hin acts]
    rw [← ht]
    refine Steps.weaken (mid := [.java g]) ?_
    refine hent _ fun acts' => ?_
    rw [doInvoke_state]
    exact hsteps.trans st1
end LAM2
section LAM3
variable {C : xC} {I : xV → Prop} {k n pc len : Nat} {lv lv' : List (Nat × Value)} {st stk : List Value} {own : String} {cc : ByteArray} {nL0 : Nat} {ret : Option FieldType} {rm : Room}
variable {y : MethodName} {bytes : ByteArray} {maxL ix : Nat} {rm2 : Room} {Q2 : xV → Option Value → xV → Prop} {X2 : xV → Nat → xV → Prop}
theorem r_clV (hC : xCtx C own cc nL0 ret rm) (hG : xGood (xGG C)) (i : Nat) {w : Cond} {q9 : MethodName × Nat × Nat × Lambda.Shape} (hw : xSites[i]? = some w) (hq9 : xSite w = some q9) {h : String} {cs : ByteArray} {K ci nt n9 : Nat} (L : lamOK w h cs 3 none y K ci nt n9) (hcap : q9.2.2.2.captured = []) (hdec : lV_dec cs K) (hhost : q9.1.cls = h) (hplain : plainName (h ++ "$$Lambda") = true) {x : MethodName} (hx1 : x.cls = q9.2.2.2.iface) (hx2 : x.name = q9.2.2.2.name) (hx3 : x.desc = q9.2.2.2.sam.toString)
    (hw1 : Cond.declares x ∈ lw_tbl) (hw2 : Cond.interfaceMethod x.cls x.cls x.name x.desc ∈ lw_tbl) (hxp : xPlain x 2 = true) (hm : xMS y bytes maxL none 2) (hlink : Cond.methodLink own ix x ∈ lw_all) (b b1 : Nat) {z : Int32} (hrecv : b = (xGG C).2.2.2 i) (hM : ∀ V, I V → xMet (xL C) (xGG C) y [Cond.code y bytes maxL none] rm2 [.ref b1, .int z] V (Q2 V) (X2 V)) (hv : ∀ V v V', Q2 V v V' → v = none)
    (hR : (rm2.frames + 2).ble rm.frames = true ∧ (8 + (3 + 11) + (8 + (maxL + 11) + rm2.locals)).ble rm.locals = true) (hk : k + rm2.cells ≤ rm.cells) (hn : n + rm2.slots ≤ rm.slots) (hst : .int z :: .ref b1 :: .ref b :: st = stk) (h8 : (st.map fun v => v.category).sum ≤ 8) {count : Nat} (hd : decode cc pc = .ok (.invokeinterface ix count, 5)) : xCall C I k n pc 5 lv stk st rm2 Q2 X2 := by
  intro kk kx
  obtain ⟨p, l, e, R, s, m, args, below, meth, c, G, nL, Q, X⟩ := C
  obtain ⟨hx, hb, hml, hnL, hown, hts, hK, hr, hlocks, hW0, hRm, -⟩ := hC
  subst hRm
  obtain ⟨hstat, hini, hcode, hpl⟩ := hm
  obtain ⟨hy, hlen⟩ := xPlain_spec hpl
  obtain ⟨hy2, hlen2⟩ := xPlain_spec hxp
  obtain ⟨-, b9, ht9, -, hlam⟩ := id hG
  have hat := hlam i w q9 hw hq9
  have hls : lS w = q9.2.2.2 := by simp [lS, hq9]
  obtain ⟨m9, kS, cfS, i0, p0, lk, hm9, hkS, hcfS, hshape, -, hfind, hmade, hcan, hlk⟩ := State.lambdaAt?_spec hat
  obtain ⟨kS', hkS', hnameS⟩ := className_of_methodNamed hm9
  cases hkS.symm.trans hkS'
  obtain ⟨r0, r, hnR, hrm, hstR, hsigR⟩ := Cond.declares_spec (ht9 _ hw1)
  obtain ⟨cL, kL, r1, hcL, hkL, hiL, hfoundL, hn1⟩ := Cond.interfaceMethod_spec (ht9 _ hw2)
  cases hnR.symm.trans hn1
  have hr0cls : r0.cls = cL := Option.some.inj ((findClass_of_methodNamed hnR).symm.trans hcL)
  obtain ⟨hnameR, hdescR⟩ := name_of_methodNamed hnR hrm
  have hnR' : s.methodNamed? x = some r0 := by
    have := State.methodNamed?_setVm (s := G.1) hW0.alike x
    rw [hnR] at this
    exact this
  have hrm' : s.vm.method? r0 = some r := by rw [hW0.alike.method?]; exact hrm
  obtain ⟨kL', hkL', heL⟩ := hW0.alike.2.2 _ _ hkL
  have hiL' : kL'.isInterface = true := by rw [heL]; exact hiL
  obtain ⟨kD, hkD, heD⟩ := hW0.alike.2.2 _ _ hkS
  have hnameD : kD.name = h := by rw [heD, ← hhost]; exact hnameS
  have hmadeS := Lambda.isMade_warmer hW0 hmade
  rw [← hls] at hmadeS
  obtain ⟨kK, tk, file, methk, ckK, toy, iface, t, found, hkK, hkn, hfile, hpool, hmk, hckK, hbytes, hmlK, hexK, hlkK, hfl, hretk, htoy, htk, hlook, hready, hclsR, hif, hfo, hsel⟩ := lamM L hkD hnameD hmadeS
  obtain ⟨i2, hi2, hasg, hway⟩ := State.lambdaCallable_spec hcan
  have hi2' : i2 = cL := Option.some.inj (hi2.symm.trans (by rw [← hx1]; exact hcL))
  have hcLs : s.vm.findClass x.cls = some cL := by rw [hW0.alike.findClass]; exact hcL
  have hifc : iface = cL := Option.some.inj (hif.symm.trans (by rw [hls, ← hx1]; exact hcLs))
  have hfr : found = r0 := by
    have h1 : s.methodFound? x.cls x.name x.desc = some r0 := State.methodFound?_of_named hnR' hy2
    simp only [State.methodFound?, hcLs, hkL', hiL', Option.bind_eq_bind, Option.bind_some] at h1
    rw [hls, ← hx2, ← hx3, hifc] at hfo
    rw [hfo] at h1
    exact Option.some.inj h1
  have hsel' : selectMethod e.platform s.vm (G.2.2.1 (100 + i)) r0 = .method ⟨G.2.2.1 (100 + i), 1⟩ → True := fun _ => trivial
  intro V H locs ls hV hRep hL hl T hT X0
  obtain ⟨cell, c1, c2, c3⟩ : ∃ cell : Cell, H[b]? = some cell ∧ cell.cls = G.2.2.1 (100 + i) ∧ cell.vm = .none := by
    rw [if_pos hcap] at hlk
    rcases hlk with ⟨a9, cell, -, h2, -, h4, h5, h6, -⟩ | ⟨-, h2, -⟩
    · refine ⟨cell, ?_, h5, h6⟩
      rw [hrecv]
      show H[G.2.2.2 i]? = _
      rw [Option.some.inj h2]
      exact xOld hRep h4
    · cases h2
  have c1' : T.heap[b]? = some cell := by rw [hT]; exact c1
  obtain ⟨vm₁, X₁, hstep₁⟩ := X0.invokeinterface hx hown (hts _ hlink) hnR' hrm' hstR (by rw [hr0cls]; exact hkL') hiL' hy2 (a := b) (cell := cell) (kcell := kK) c1' (fun z h => by rw [c3] at h; cases h) (by rw [c2]; exact hkK) (by rw [c2, hr0cls, ← hi2', hW0.alike.assignable]; exact hasg)
    (m' := ⟨G.2.2.1 (100 + i), 1⟩) (meth' := methk) (by rw [Launch.admits_selectMethod X0.admits, c2, ← hfr]; exact hsel) hmk (by rw [c2, hnameR, hdescR, hx2, hx3]; simp only [hW0.alike.superclasses, hW0.alike.declaredIn]; exact hway) (by rw [hfl]; decide) (by simp [Method.isAbstract, hfl, hasFlag, Acc.abstract])
    (g := F0 m pc ls stk) rfl (argsL := [.ref b1, .int z]) (rest := st) (hlen2 _ hsigR) hst.symm (by rw [hb]; exact hd)
  have hW₁ : s.WarmedH vm₁ := X₁.warmed
  obtain ⟨kD₁, hkD₁, heD₁⟩ := hW₁.alike.2.2 _ _ hkD
  have hnameD₁ : kD₁.name = h := by rw [heD₁]; exact hnameD
  have hmade₁ := Lambda.isMade_warmer hW₁ hmadeS
  obtain ⟨kK₁, tk₁, file₁, methk₁, ckK₁, toy₁, iface₁, t₁, found₁, hkK₁, hkn₁, hfile₁, hpool₁, hmk₁, hckK₁, hbytes₁, hmlK₁, hexK₁, hlkK₁, hfl₁, hretk₁, htoy₁, htk₁, hlook₁, hready₁, hclsR₁, -⟩ := lamM L hkD₁ hnameD₁ hmade₁
  have hO₁ : ∀ o ok, vm₁.findClass "java/lang/Object" = some o → vm₁.classes[o]? = some ok → ok.instanceTypes.size = 0 := by
    intro o ok ho hok
    obtain ⟨cO, kO, hfO, hkO, -, -, -, hsz⟩ := Cond.instantiable_spec (hts _ q3439)
    rw [hW₁.alike.findClass, hfO] at ho
    cases ho
    obtain ⟨kO', hkO', heO⟩ := hW₁.alike.2.2 _ _ hkO
    cases hok.symm.trans hkO'
    rw [heO]
    exact hsz
  cases hmT : s.methodNamed? y with
  | none => have h9 := hts _ hcode; simp [Cond.before, Cond.holds, Cond.value, hmT] at h9
  | some mT =>
  obtain ⟨methT, cT, hmethT, hcT, hbytesT, hlocT, hretT, hlocksT, -, hsigT⟩ := Cond.code_spec hmT (hts _ hcode)
  have hstaticT : methT.isStatic = true := Cond.static_spec hmT hmethT (hts _ hstat)
  obtain ⟨kT, hkT, hnameT⟩ := className_of_methodNamed hmT
  have hfT : s.vm.findClass y.cls = some mT.cls := findClass_of_methodNamed hmT
  have hinitK : kT.init = .initialized := Cond.initialized_spec hfT hkT (hts _ hini)
  have hfT₁ : vm₁.findClass y.cls = some mT.cls := by rw [hW₁.alike.findClass]; exact hfT
  cases htoy₁.symm.trans hfT₁
  have ht₁ : t₁ = mT := by
    have h1 : (s.setVm vm₁).methodFound? y.cls y.name y.desc = some mT := by rw [State.methodFound?_setVm hW₁.alike]; exact State.methodFound?_of_named hmT hy
    simp only [State.methodFound?, State.vm_setVm, hfT₁, htk₁, Option.bind_eq_bind, Option.bind_some] at h1
    rw [hlook₁] at h1
    exact Option.some.inj h1
  subst ht₁
  have hmethT₁ : vm₁.method? t₁ = some methT := by rw [hW₁.alike.method?]; exact hmethT
  obtain ⟨kT₁, hkT₁, heT₁⟩ := hW₁.alike.2.2 _ _ hkT
  cases htk₁.symm.trans hkT₁
  have hnm : tk₁.name ≠ "java/lang/invoke/MethodHandle" ∧ tk₁.name ≠ "java/lang/invoke/VarHandle" := by
    have : tk₁.name = y.cls := by rw [heT₁]; exact hnameT
    rw [this]; exact hy
  have hsp : ∀ y : Method, signaturePolymorphic tk₁ y = false := fun y => by simp [signaturePolymorphic, hnm.1, hnm.2]
  obtain ⟨-, -, -, -, -, L6, -, L8, -⟩ := id L
  obtain ⟨b8, hmem⟩ := memberRef_ask' (e := e) (vm := vm₁) (d := G.2.2.1 (100 + i)) (index := K) hkK₁ hfile₁ (Or.inl (by rw [hpool₁]; exact L6)) (by rw [hpool₁]; exact L8)
  have hpk : (T.setVm vm₁).plainMethod ⟨G.2.2.1 (100 + i), 1⟩ := State.plainMethod.of_name (fun k' hk' => by cases hkK₁.symm.trans hk'; rw [hkn₁]; exact hplain)
  have hnT : (T.setVm vm₁).methodNamed? y = some t₁ := X₁.named hmT
  have h8' : 2 * (F0 m pc ls stk).monitorRoom + (st.map fun v => v.category).sum ≤ 8 := lv_room h8
  have hR1 := Nat.le_of_ble_eq_true hR.1
  have hR2 := Nat.le_of_ble_eq_true hR.2
  rcases lV_back (G := G) (V := V) (a := b) hdec X₁ hx (g := { F0 m pc ls stk with stack := st }) rfl (hl.1.trans hml.symm) (by rw [hb]; exact hd) (mk := ⟨G.2.2.1 (100 + i), 1⟩) hmk₁ hckK₁ hbytes₁ hmlK₁ hexK₁ hlkK₁ hpk hretk₁
    (t := t₁) (kt := tk₁) (metht := methT) ⟨ci, _, _, b8, t₁.cls, tk₁, hmem, hclsR₁, htk₁, by simp [hsp]⟩ hready₁ htk₁ hmethT₁ (hsp _) hstaticT (by rw [heT₁]; exact hinitK) (hlen _ hsigT).symm  xCode_code (hM V hV) hnT
    (fun a' U hU => xWarmG hts hcode a' U (State.WarmedH.trans hW₁ hU)) (fun a' U hU => xWarmIni (hts _ hini) a' U (State.WarmedH.trans hW₁ hU)) (fun v V' hQ9 => hv V v V' hQ9) hR1 (by show 2 * (F0 m pc ls stk).monitorRoom + (st.map fun v => v.category).sum + (3 + 11) + (8 + (maxL + 11) + rm2.locals) ≤ _; omega) hk hn (State.WarmedH.trans hW0 hW₁) (by show xRep G V T.heap; rw [hT]; exact hRep) with ⟨v, T', V', L9, X', hRep', hQ, hL', hsteps⟩ | ⟨q, T', V', L9, X', hRep', hQ, hcell9, hL', hsteps⟩
  · obtain ⟨t, a1, b1⟩ := kk v V' T'.heap (locs ++ L9) ls ⟨V, hV, hQ⟩ hRep' (fun q hq => (List.mem_append.mp hq).elim (hL q) (hL' q)) hl T' rfl X'
    exact ⟨t, hstep₁ _ fun acts => (hsteps acts).trans a1, b1⟩
  · obtain ⟨t, a1, b1⟩ := kx q V' T'.heap (locs ++ L9) ls ⟨V, hV, hQ⟩ hcell9 hRep' (fun q hq => (List.mem_append.mp hq).elim (hL q) (hL' q)) hl T' rfl X'
    exact ⟨t, hstep₁ _ fun acts => (hsteps acts).trans a1, b1⟩
theorem r_clI (hC : xCtx C own cc nL0 ret rm) (hG : xGood (xGG C)) (i : Nat) {w : Cond} {q9 : MethodName × Nat × Nat × Lambda.Shape} (hw : xSites[i]? = some w) (hq9 : xSite w = some q9) {h : String} {cs : ByteArray} {K ci nt n9 : Nat} (L : lamOK w h cs 3 (some .int) y K ci nt n9) (hcap : q9.2.2.2.captured = []) (hdec : lI_dec cs K) (hhost : q9.1.cls = h) (hplain : plainName (h ++ "$$Lambda") = true) {x : MethodName} (hx1 : x.cls = q9.2.2.2.iface) (hx2 : x.name = q9.2.2.2.name) (hx3 : x.desc = q9.2.2.2.sam.toString)
    (hw1 : Cond.declares x ∈ lw_tbl) (hw2 : Cond.interfaceMethod x.cls x.cls x.name x.desc ∈ lw_tbl) (hxp : xPlain x 2 = true) (hm : xMS y bytes maxL (some .int) 2) (hlink : Cond.methodLink own ix x ∈ lw_all) (b b1 : Nat) {z : Int32} (hrecv : b = (xGG C).2.2.2 i) (hM : ∀ V, I V → xMet (xL C) (xGG C) y [Cond.code y bytes maxL (some .int)] rm2 [.ref b1, .int z] V (Q2 V) (X2 V)) (hv : ∀ V v V', Q2 V v V' → ∃ r : Int32, v = some (.int r))
    (hR : (rm2.frames + 2).ble rm.frames = true ∧ (8 + (3 + 11) + (8 + (maxL + 11) + rm2.locals)).ble rm.locals = true) (hk : k + rm2.cells ≤ rm.cells) (hn : n + rm2.slots ≤ rm.slots) (hst : .int z :: .ref b1 :: .ref b :: st = stk) (h8 : (st.map fun v => v.category).sum ≤ 8) {count : Nat} (hd : decode cc pc = .ok (.invokeinterface ix count, 5)) : xCall C I k n pc 5 lv stk st rm2 Q2 X2 := by
  intro kk kx
  obtain ⟨p, l, e, R, s, m, args, below, meth, c, G, nL, Q, X⟩ := C
  obtain ⟨hx, hb, hml, hnL, hown, hts, hK, hr, hlocks, hW0, hRm, -⟩ := hC
  subst hRm
  obtain ⟨hstat, hini, hcode, hpl⟩ := hm
  obtain ⟨hy, hlen⟩ := xPlain_spec hpl
  obtain ⟨hy2, hlen2⟩ := xPlain_spec hxp
  obtain ⟨-, b9, ht9, -, hlam⟩ := id hG
  have hat := hlam i w q9 hw hq9
  have hls : lS w = q9.2.2.2 := by simp [lS, hq9]
  obtain ⟨m9, kS, cfS, i0, p0, lk, hm9, hkS, hcfS, hshape, -, hfind, hmade, hcan, hlk⟩ := State.lambdaAt?_spec hat
  obtain ⟨kS', hkS', hnameS⟩ := className_of_methodNamed hm9
  cases hkS.symm.trans hkS'
  obtain ⟨r0, r, hnR, hrm, hstR, hsigR⟩ := Cond.declares_spec (ht9 _ hw1)
  obtain ⟨cL, kL, r1, hcL, hkL, hiL, hfoundL, hn1⟩ := Cond.interfaceMethod_spec (ht9 _ hw2)
  cases hnR.symm.trans hn1
  have hr0cls : r0.cls = cL := Option.some.inj ((findClass_of_methodNamed hnR).symm.trans hcL)
  obtain ⟨hnameR, hdescR⟩ := name_of_methodNamed hnR hrm
  have hnR' : s.methodNamed? x = some r0 := by
    have := State.methodNamed?_setVm (s := G.1) hW0.alike x
    rw [hnR] at this
    exact this
  have hrm' : s.vm.method? r0 = some r := by rw [hW0.alike.method?]; exact hrm
  obtain ⟨kL', hkL', heL⟩ := hW0.alike.2.2 _ _ hkL
  have hiL' : kL'.isInterface = true := by rw [heL]; exact hiL
  obtain ⟨kD, hkD, heD⟩ := hW0.alike.2.2 _ _ hkS
  have hnameD : kD.name = h := by rw [heD, ← hhost]; exact hnameS
  have hmadeS := Lambda.isMade_warmer hW0 hmade
  rw [← hls] at hmadeS
  obtain ⟨kK, tk, file, methk, ckK, toy, iface, t, found, hkK, hkn, hfile, hpool, hmk, hckK, hbytes, hmlK, hexK, hlkK, hfl, hretk, htoy, htk, hlook, hready, hclsR, hif, hfo, hsel⟩ := lamM L hkD hnameD hmadeS
  obtain ⟨i2, hi2, hasg, hway⟩ := State.lambdaCallable_spec hcan
  have hi2' : i2 = cL := Option.some.inj (hi2.symm.trans (by rw [← hx1]; exact hcL))
  have hcLs : s.vm.findClass x.cls = some cL := by rw [hW0.alike.findClass]; exact hcL
  have hifc : iface = cL := Option.some.inj (hif.symm.trans (by rw [hls, ← hx1]; exact hcLs))
  have hfr : found = r0 := by
    have h1 : s.methodFound? x.cls x.name x.desc = some r0 := State.methodFound?_of_named hnR' hy2
    simp only [State.methodFound?, hcLs, hkL', hiL', Option.bind_eq_bind, Option.bind_some] at h1
    rw [hls, ← hx2, ← hx3, hifc] at hfo
    rw [hfo] at h1
    exact Option.some.inj h1
  have hsel' : selectMethod e.platform s.vm (G.2.2.1 (100 + i)) r0 = .method ⟨G.2.2.1 (100 + i), 1⟩ → True := fun _ => trivial
  intro V H locs ls hV hRep hL hl T hT X0
  obtain ⟨cell, c1, c2, c3⟩ : ∃ cell : Cell, H[b]? = some cell ∧ cell.cls = G.2.2.1 (100 + i) ∧ cell.vm = .none := by
    rw [if_pos hcap] at hlk
    rcases hlk with ⟨a9, cell, -, h2, -, h4, h5, h6, -⟩ | ⟨-, h2, -⟩
    · refine ⟨cell, ?_, h5, h6⟩
      rw [hrecv]
      show H[G.2.2.2 i]? = _
      rw [Option.some.inj h2]
      exact xOld hRep h4
    · cases h2
  have c1' : T.heap[b]? = some cell := by rw [hT]; exact c1
  obtain ⟨vm₁, X₁, hstep₁⟩ := X0.invokeinterface hx hown (hts _ hlink) hnR' hrm' hstR (by rw [hr0cls]; exact hkL') hiL' hy2 (a := b) (cell := cell) (kcell := kK) c1' (fun z h => by rw [c3] at h; cases h) (by rw [c2]; exact hkK) (by rw [c2, hr0cls, ← hi2', hW0.alike.assignable]; exact hasg)
    (m' := ⟨G.2.2.1 (100 + i), 1⟩) (meth' := methk) (by rw [Launch.admits_selectMethod X0.admits, c2, ← hfr]; exact hsel) hmk (by rw [c2, hnameR, hdescR, hx2, hx3]; simp only [hW0.alike.superclasses, hW0.alike.declaredIn]; exact hway) (by rw [hfl]; decide) (by simp [Method.isAbstract, hfl, hasFlag, Acc.abstract])
    (g := F0 m pc ls stk) rfl (argsL := [.ref b1, .int z]) (rest := st) (hlen2 _ hsigR) hst.symm (by rw [hb]; exact hd)
  have hW₁ : s.WarmedH vm₁ := X₁.warmed
  obtain ⟨kD₁, hkD₁, heD₁⟩ := hW₁.alike.2.2 _ _ hkD
  have hnameD₁ : kD₁.name = h := by rw [heD₁]; exact hnameD
  have hmade₁ := Lambda.isMade_warmer hW₁ hmadeS
  obtain ⟨kK₁, tk₁, file₁, methk₁, ckK₁, toy₁, iface₁, t₁, found₁, hkK₁, hkn₁, hfile₁, hpool₁, hmk₁, hckK₁, hbytes₁, hmlK₁, hexK₁, hlkK₁, hfl₁, hretk₁, htoy₁, htk₁, hlook₁, hready₁, hclsR₁, -⟩ := lamM L hkD₁ hnameD₁ hmade₁
  have hO₁ : ∀ o ok, vm₁.findClass "java/lang/Object" = some o → vm₁.classes[o]? = some ok → ok.instanceTypes.size = 0 := by
    intro o ok ho hok
    obtain ⟨cO, kO, hfO, hkO, -, -, -, hsz⟩ := Cond.instantiable_spec (hts _ q3439)
    rw [hW₁.alike.findClass, hfO] at ho
    cases ho
    obtain ⟨kO', hkO', heO⟩ := hW₁.alike.2.2 _ _ hkO
    cases hok.symm.trans hkO'
    rw [heO]
    exact hsz
  cases hmT : s.methodNamed? y with
  | none => have h9 := hts _ hcode; simp [Cond.before, Cond.holds, Cond.value, hmT] at h9
  | some mT =>
  obtain ⟨methT, cT, hmethT, hcT, hbytesT, hlocT, hretT, hlocksT, -, hsigT⟩ := Cond.code_spec hmT (hts _ hcode)
  have hstaticT : methT.isStatic = true := Cond.static_spec hmT hmethT (hts _ hstat)
  obtain ⟨kT, hkT, hnameT⟩ := className_of_methodNamed hmT
  have hfT : s.vm.findClass y.cls = some mT.cls := findClass_of_methodNamed hmT
  have hinitK : kT.init = .initialized := Cond.initialized_spec hfT hkT (hts _ hini)
  have hfT₁ : vm₁.findClass y.cls = some mT.cls := by rw [hW₁.alike.findClass]; exact hfT
  cases htoy₁.symm.trans hfT₁
  have ht₁ : t₁ = mT := by
    have h1 : (s.setVm vm₁).methodFound? y.cls y.name y.desc = some mT := by rw [State.methodFound?_setVm hW₁.alike]; exact State.methodFound?_of_named hmT hy
    simp only [State.methodFound?, State.vm_setVm, hfT₁, htk₁, Option.bind_eq_bind, Option.bind_some] at h1
    rw [hlook₁] at h1
    exact Option.some.inj h1
  subst ht₁
  have hmethT₁ : vm₁.method? t₁ = some methT := by rw [hW₁.alike.method?]; exact hmethT
  obtain ⟨kT₁, hkT₁, heT₁⟩ := hW₁.alike.2.2 _ _ hkT
  cases htk₁.symm.trans hkT₁
  have hnm : tk₁.name ≠ "java/lang/invoke/MethodHandle" ∧ tk₁.name ≠ "java/lang/invoke/VarHandle" := by
    have : tk₁.name = y.cls := by rw [heT₁]; exact hnameT
    rw [this]; exact hy
  have hsp : ∀ y : Method, signaturePolymorphic tk₁ y = false := fun y => by simp [signaturePolymorphic, hnm.1, hnm.2]
  obtain ⟨-, -, -, -, -, L6, -, L8, -⟩ := id L
  obtain ⟨b8, hmem⟩ := memberRef_ask' (e := e) (vm := vm₁) (d := G.2.2.1 (100 + i)) (index := K) hkK₁ hfile₁ (Or.inl (by rw [hpool₁]; exact L6)) (by rw [hpool₁]; exact L8)
  have hpk : (T.setVm vm₁).plainMethod ⟨G.2.2.1 (100 + i), 1⟩ := State.plainMethod.of_name (fun k' hk' => by cases hkK₁.symm.trans hk'; rw [hkn₁]; exact hplain)
  have hnT : (T.setVm vm₁).methodNamed? y = some t₁ := X₁.named hmT
  have h8' : 2 * (F0 m pc ls stk).monitorRoom + (st.map fun v => v.category).sum ≤ 8 := lv_room h8
  have hR1 := Nat.le_of_ble_eq_true hR.1
  have hR2 := Nat.le_of_ble_eq_true hR.2
  rcases lI_back (G := G) (V := V) (a := b) hdec X₁ hx (g := { F0 m pc ls stk with stack := st }) rfl (hl.1.trans hml.symm) (by rw [hb]; exact hd) (mk := ⟨G.2.2.1 (100 + i), 1⟩) hmk₁ hckK₁ hbytes₁ hmlK₁ hexK₁ hlkK₁ hpk hretk₁
    (t := t₁) (kt := tk₁) (metht := methT) ⟨ci, _, _, b8, t₁.cls, tk₁, hmem, hclsR₁, htk₁, by simp [hsp]⟩ hready₁ htk₁ hmethT₁ (hsp _) hstaticT (by rw [heT₁]; exact hinitK) (hlen _ hsigT).symm  xCode_code (hM V hV) hnT
    (fun a' U hU => xWarmG hts hcode a' U (State.WarmedH.trans hW₁ hU)) (fun a' U hU => xWarmIni (hts _ hini) a' U (State.WarmedH.trans hW₁ hU)) (fun v V' hQ9 => hv V v V' hQ9) hR1 (by show 2 * (F0 m pc ls stk).monitorRoom + (st.map fun v => v.category).sum + (3 + 11) + (8 + (maxL + 11) + rm2.locals) ≤ _; omega) hk hn (State.WarmedH.trans hW0 hW₁) (by show xRep G V T.heap; rw [hT]; exact hRep) with ⟨v, T', V', L9, X', hRep', hQ, hL', hsteps⟩ | ⟨q, T', V', L9, X', hRep', hQ, hcell9, hL', hsteps⟩
  · obtain ⟨t, a1, b1⟩ := kk v V' T'.heap (locs ++ L9) ls ⟨V, hV, hQ⟩ hRep' (fun q hq => (List.mem_append.mp hq).elim (hL q) (hL' q)) hl T' rfl X'
    exact ⟨t, hstep₁ _ fun acts => (hsteps acts).trans a1, b1⟩
  · obtain ⟨t, a1, b1⟩ := kx q V' T'.heap (locs ++ L9) ls ⟨V, hV, hQ⟩ hcell9 hRep' (fun q hq => (List.mem_append.mp hq).elim (hL q) (hL' q)) hl T' rfl X'
    exact ⟨t, hstep₁ _ fun acts => (hsteps acts).trans a1, b1⟩
theorem r_clN (hC : xCtx C own cc nL0 ret rm) (hG : xGood (xGG C)) (i : Nat) {w : Cond} {q9 : MethodName × Nat × Nat × Lambda.Shape} (hw : xSites[i]? = some w) (hq9 : xSite w = some q9) {h : String} {cs : ByteArray} {K ci nt n9 : Nat} {KF0 : Nat} (L : lamOK w h cs 3 (some .int) y K ci nt n9) (FD0 : lamFd w h KF0 0) (hdec : lN_dec cs K KF0) (hhost : q9.1.cls = h) (hplain : plainName (h ++ "$$Lambda") = true) {x : MethodName} (hx1 : x.cls = q9.2.2.2.iface) (hx2 : x.name = q9.2.2.2.name) (hx3 : x.desc = q9.2.2.2.sam.toString)
    (hw1 : Cond.declares x ∈ lw_tbl) (hw2 : Cond.interfaceMethod x.cls x.cls x.name x.desc ∈ lw_tbl) (hxp : xPlain x 2 = true) (hm : xMS y bytes maxL (some .int) 3) (hlink : Cond.methodLink own ix x ∈ lw_all) (b b1 : Nat) {z : Int32} {v0 : Int32} (hrecv : ∀ V, I V → V.2 b = some (.inr (100 + i, [.int v0]))) (hM : ∀ V, I V → xMet (xL C) (xGG C) y [Cond.code y bytes maxL (some .int)] rm2 [.int v0, .ref b1, .int z] V (Q2 V) (X2 V)) (hv : ∀ V v V', Q2 V v V' → ∃ r : Int32, v = some (.int r))
    (hR : (rm2.frames + 2).ble rm.frames = true ∧ (8 + (3 + 11) + (8 + (maxL + 11) + rm2.locals)).ble rm.locals = true) (hk : k + rm2.cells ≤ rm.cells) (hn : n + rm2.slots ≤ rm.slots) (hst : .int z :: .ref b1 :: .ref b :: st = stk) (h8 : (st.map fun v => v.category).sum ≤ 8) {count : Nat} (hd : decode cc pc = .ok (.invokeinterface ix count, 5)) : xCall C I k n pc 5 lv stk st rm2 Q2 X2 := by
  intro kk kx
  obtain ⟨p, l, e, R, s, m, args, below, meth, c, G, nL, Q, X⟩ := C
  obtain ⟨hx, hb, hml, hnL, hown, hts, hK, hr, hlocks, hW0, hRm, -⟩ := hC
  subst hRm
  obtain ⟨hstat, hini, hcode, hpl⟩ := hm
  obtain ⟨hy, hlen⟩ := xPlain_spec hpl
  obtain ⟨hy2, hlen2⟩ := xPlain_spec hxp
  obtain ⟨-, b9, ht9, -, hlam⟩ := id hG
  have hat := hlam i w q9 hw hq9
  have hls : lS w = q9.2.2.2 := by simp [lS, hq9]
  obtain ⟨m9, kS, cfS, i0, p0, lk, hm9, hkS, hcfS, hshape, -, hfind, hmade, hcan, hlk⟩ := State.lambdaAt?_spec hat
  obtain ⟨kS', hkS', hnameS⟩ := className_of_methodNamed hm9
  cases hkS.symm.trans hkS'
  obtain ⟨r0, r, hnR, hrm, hstR, hsigR⟩ := Cond.declares_spec (ht9 _ hw1)
  obtain ⟨cL, kL, r1, hcL, hkL, hiL, hfoundL, hn1⟩ := Cond.interfaceMethod_spec (ht9 _ hw2)
  cases hnR.symm.trans hn1
  have hr0cls : r0.cls = cL := Option.some.inj ((findClass_of_methodNamed hnR).symm.trans hcL)
  obtain ⟨hnameR, hdescR⟩ := name_of_methodNamed hnR hrm
  have hnR' : s.methodNamed? x = some r0 := by
    have := State.methodNamed?_setVm (s := G.1) hW0.alike x
    rw [hnR] at this
    exact this
  have hrm' : s.vm.method? r0 = some r := by rw [hW0.alike.method?]; exact hrm
  obtain ⟨kL', hkL', heL⟩ := hW0.alike.2.2 _ _ hkL
  have hiL' : kL'.isInterface = true := by rw [heL]; exact hiL
  obtain ⟨kD, hkD, heD⟩ := hW0.alike.2.2 _ _ hkS
  have hnameD : kD.name = h := by rw [heD, ← hhost]; exact hnameS
  have hmadeS := Lambda.isMade_warmer hW0 hmade
  rw [← hls] at hmadeS
  obtain ⟨kK, tk, file, methk, ckK, toy, iface, t, found, hkK, hkn, hfile, hpool, hmk, hckK, hbytes, hmlK, hexK, hlkK, hfl, hretk, htoy, htk, hlook, hready, hclsR, hif, hfo, hsel⟩ := lamM L hkD hnameD hmadeS
  obtain ⟨i2, hi2, hasg, hway⟩ := State.lambdaCallable_spec hcan
  have hi2' : i2 = cL := Option.some.inj (hi2.symm.trans (by rw [← hx1]; exact hcL))
  have hcLs : s.vm.findClass x.cls = some cL := by rw [hW0.alike.findClass]; exact hcL
  have hifc : iface = cL := Option.some.inj (hif.symm.trans (by rw [hls, ← hx1]; exact hcLs))
  have hfr : found = r0 := by
    have h1 : s.methodFound? x.cls x.name x.desc = some r0 := State.methodFound?_of_named hnR' hy2
    simp only [State.methodFound?, hcLs, hkL', hiL', Option.bind_eq_bind, Option.bind_some] at h1
    rw [hls, ← hx2, ← hx3, hifc] at hfo
    rw [hfo] at h1
    exact Option.some.inj h1
  have hsel' : selectMethod e.platform s.vm (G.2.2.1 (100 + i)) r0 = .method ⟨G.2.2.1 (100 + i), 1⟩ → True := fun _ => trivial
  intro V H locs ls hV hRep hL hl T hT X0
  obtain ⟨cell, c1, c2, c3, c4⟩ : ∃ cell : Cell, H[b]? = some cell ∧ cell.cls = G.2.2.1 (100 + i) ∧ cell.vm = .none ∧ cell.slots.toList = [.int v0] := by
    have := (hRep.2.2.2 b _ (hrecv V hV)).2
    simp only [xat] at this
    rw [if_neg (by omega)] at this
    exact this
  have c1' : T.heap[b]? = some cell := by rw [hT]; exact c1
  obtain ⟨vm₁, X₁, hstep₁⟩ := X0.invokeinterface hx hown (hts _ hlink) hnR' hrm' hstR (by rw [hr0cls]; exact hkL') hiL' hy2 (a := b) (cell := cell) (kcell := kK) c1' (fun z h => by rw [c3] at h; cases h) (by rw [c2]; exact hkK) (by rw [c2, hr0cls, ← hi2', hW0.alike.assignable]; exact hasg)
    (m' := ⟨G.2.2.1 (100 + i), 1⟩) (meth' := methk) (by rw [Launch.admits_selectMethod X0.admits, c2, ← hfr]; exact hsel) hmk (by rw [c2, hnameR, hdescR, hx2, hx3]; simp only [hW0.alike.superclasses, hW0.alike.declaredIn]; exact hway) (by rw [hfl]; decide) (by simp [Method.isAbstract, hfl, hasFlag, Acc.abstract])
    (g := F0 m pc ls stk) rfl (argsL := [.ref b1, .int z]) (rest := st) (hlen2 _ hsigR) hst.symm (by rw [hb]; exact hd)
  have hW₁ : s.WarmedH vm₁ := X₁.warmed
  obtain ⟨kD₁, hkD₁, heD₁⟩ := hW₁.alike.2.2 _ _ hkD
  have hnameD₁ : kD₁.name = h := by rw [heD₁]; exact hnameD
  have hmade₁ := Lambda.isMade_warmer hW₁ hmadeS
  obtain ⟨kK₁, tk₁, file₁, methk₁, ckK₁, toy₁, iface₁, t₁, found₁, hkK₁, hkn₁, hfile₁, hpool₁, hmk₁, hckK₁, hbytes₁, hmlK₁, hexK₁, hlkK₁, hfl₁, hretk₁, htoy₁, htk₁, hlook₁, hready₁, hclsR₁, -⟩ := lamM L hkD₁ hnameD₁ hmade₁
  have hO₁ : ∀ o ok, vm₁.findClass "java/lang/Object" = some o → vm₁.classes[o]? = some ok → ok.instanceTypes.size = 0 := by
    intro o ok ho hok
    obtain ⟨cO, kO, hfO, hkO, -, -, -, hsz⟩ := Cond.instantiable_spec (hts _ q3439)
    rw [hW₁.alike.findClass, hfO] at ho
    cases ho
    obtain ⟨kO', hkO', heO⟩ := hW₁.alike.2.2 _ _ hkO
    cases hok.symm.trans hkO'
    rw [heO]
    exact hsz
  cases hmT : s.methodNamed? y with
  | none => have h9 := hts _ hcode; simp [Cond.before, Cond.holds, Cond.value, hmT] at h9
  | some mT =>
  obtain ⟨methT, cT, hmethT, hcT, hbytesT, hlocT, hretT, hlocksT, -, hsigT⟩ := Cond.code_spec hmT (hts _ hcode)
  have hstaticT : methT.isStatic = true := Cond.static_spec hmT hmethT (hts _ hstat)
  obtain ⟨kT, hkT, hnameT⟩ := className_of_methodNamed hmT
  have hfT : s.vm.findClass y.cls = some mT.cls := findClass_of_methodNamed hmT
  have hinitK : kT.init = .initialized := Cond.initialized_spec hfT hkT (hts _ hini)
  have hfT₁ : vm₁.findClass y.cls = some mT.cls := by rw [hW₁.alike.findClass]; exact hfT
  cases htoy₁.symm.trans hfT₁
  have ht₁ : t₁ = mT := by
    have h1 : (s.setVm vm₁).methodFound? y.cls y.name y.desc = some mT := by rw [State.methodFound?_setVm hW₁.alike]; exact State.methodFound?_of_named hmT hy
    simp only [State.methodFound?, State.vm_setVm, hfT₁, htk₁, Option.bind_eq_bind, Option.bind_some] at h1
    rw [hlook₁] at h1
    exact Option.some.inj h1
  subst ht₁
  have hmethT₁ : vm₁.method? t₁ = some methT := by rw [hW₁.alike.method?]; exact hmethT
  obtain ⟨kT₁, hkT₁, heT₁⟩ := hW₁.alike.2.2 _ _ hkT
  cases htk₁.symm.trans hkT₁
  have hnm : tk₁.name ≠ "java/lang/invoke/MethodHandle" ∧ tk₁.name ≠ "java/lang/invoke/VarHandle" := by
    have : tk₁.name = y.cls := by rw [heT₁]; exact hnameT
    rw [this]; exact hy
  have hsp : ∀ y : Method, signaturePolymorphic tk₁ y = false := fun y => by simp [signaturePolymorphic, hnm.1, hnm.2]
  obtain ⟨-, -, -, -, -, L6, -, L8, -⟩ := id L
  obtain ⟨b8, hmem⟩ := memberRef_ask' (e := e) (vm := vm₁) (d := G.2.2.1 (100 + i)) (index := K) hkK₁ hfile₁ (Or.inl (by rw [hpool₁]; exact L6)) (by rw [hpool₁]; exact L8)
  have hpk : (T.setVm vm₁).plainMethod ⟨G.2.2.1 (100 + i), 1⟩ := State.plainMethod.of_name (fun k' hk' => by cases hkK₁.symm.trans hk'; rw [hkn₁]; exact hplain)
  have hnT : (T.setVm vm₁).methodNamed? y = some t₁ := X₁.named hmT
  have h8' : 2 * (F0 m pc ls stk).monitorRoom + (st.map fun v => v.category).sum ≤ 8 := lv_room h8
  have hR1 := Nat.le_of_ble_eq_true hR.1
  have hR2 := Nat.le_of_ble_eq_true hR.2
  obtain ⟨f0, hf0, hfs0, hfl0⟩ := lamF L.1 FD0 hkD₁ hnameD₁ hmade₁ hO₁
  rcases lN_back (G := G) (V := V) (a := b) hdec X₁ hx (g := { F0 m pc ls stk with stack := st }) rfl (hl.1.trans hml.symm) (by rw [hb]; exact hd) (mk := ⟨G.2.2.1 (100 + i), 1⟩) hmk₁ hckK₁ hbytes₁ hmlK₁ hexK₁ hlkK₁ hpk hretk₁
    (t := t₁) (kt := tk₁) (metht := methT) ⟨ci, _, _, b8, t₁.cls, tk₁, hmem, hclsR₁, htk₁, by simp [hsp]⟩ hready₁ htk₁ hmethT₁ (hsp _) hstaticT (by rw [heT₁]; exact hinitK) (hlen _ hsigT).symm c1' c3 hf0 hfs0 (by rw [hfl0, ← Array.getElem?_toList, c4]; rfl) xCode_code (hM V hV) hnT
    (fun a' U hU => xWarmG hts hcode a' U (State.WarmedH.trans hW₁ hU)) (fun a' U hU => xWarmIni (hts _ hini) a' U (State.WarmedH.trans hW₁ hU)) (fun v V' hQ9 => hv V v V' hQ9) hR1 (by show 2 * (F0 m pc ls stk).monitorRoom + (st.map fun v => v.category).sum + (3 + 11) + (8 + (maxL + 11) + rm2.locals) ≤ _; omega) hk hn (State.WarmedH.trans hW0 hW₁) (by show xRep G V T.heap; rw [hT]; exact hRep) with ⟨v, T', V', L9, X', hRep', hQ, hL', hsteps⟩ | ⟨q, T', V', L9, X', hRep', hQ, hcell9, hL', hsteps⟩
  · obtain ⟨t, a1, b1⟩ := kk v V' T'.heap (locs ++ L9) ls ⟨V, hV, hQ⟩ hRep' (fun q hq => (List.mem_append.mp hq).elim (hL q) (hL' q)) hl T' rfl X'
    exact ⟨t, hstep₁ _ fun acts => (hsteps acts).trans a1, b1⟩
  · obtain ⟨t, a1, b1⟩ := kx q V' T'.heap (locs ++ L9) ls ⟨V, hV, hQ⟩ hcell9 hRep' (fun q hq => (List.mem_append.mp hq).elim (hL q) (hL' q)) hl T' rfl X'
    exact ⟨t, hstep₁ _ fun acts => (hsteps acts).trans a1, b1⟩
theorem r_clF (hC : xCtx C own cc nL0 ret rm) (hG : xGood (xGG C)) (i : Nat) {w : Cond} {q9 : MethodName × Nat × Nat × Lambda.Shape} (hw : xSites[i]? = some w) (hq9 : xSite w = some q9) {h : String} {cs : ByteArray} {K ci nt n9 : Nat} {KF0 : Nat} (L : lamOK w h cs 3 (some .boolean) y K ci nt n9) (FD0 : lamFd w h KF0 0) (hdec : lF_dec cs K KF0) (hhost : q9.1.cls = h) (hplain : plainName (h ++ "$$Lambda") = true) {x : MethodName} (hx1 : x.cls = q9.2.2.2.iface) (hx2 : x.name = q9.2.2.2.name) (hx3 : x.desc = q9.2.2.2.sam.toString)
    (hw1 : Cond.declares x ∈ lw_tbl) (hw2 : Cond.interfaceMethod x.cls x.cls x.name x.desc ∈ lw_tbl) (hxp : xPlain x 2 = true) (hm : xMS y bytes maxL (some .boolean) 3) (hlink : Cond.methodLink own ix x ∈ lw_all) (b b1 : Nat) {z : Int32} {v0 : Nat} (hrecv : ∀ V, I V → V.2 b = some (.inr (100 + i, [.ref v0]))) (hM : ∀ V, I V → xMet (xL C) (xGG C) y [Cond.code y bytes maxL (some .boolean)] rm2 [.ref v0, .ref b1, .int z] V (Q2 V) (X2 V)) (hv : ∀ V v V', Q2 V v V' → ∃ r : Int32, v = some (.int r) ∧ narrow .boolean (.int r) = .int r)
    (hR : (rm2.frames + 2).ble rm.frames = true ∧ (8 + (3 + 11) + (8 + (maxL + 11) + rm2.locals)).ble rm.locals = true) (hk : k + rm2.cells ≤ rm.cells) (hn : n + rm2.slots ≤ rm.slots) (hst : .int z :: .ref b1 :: .ref b :: st = stk) (h8 : (st.map fun v => v.category).sum ≤ 8) {count : Nat} (hd : decode cc pc = .ok (.invokeinterface ix count, 5)) : xCall C I k n pc 5 lv stk st rm2 Q2 X2 := by
  intro kk kx
  obtain ⟨p, l, e, R, s, m, args, below, meth, c, G, nL, Q, X⟩ := C
  obtain ⟨hx, hb, hml, hnL, hown, hts, hK, hr, hlocks, hW0, hRm, -⟩ := hC
  subst hRm
  obtain ⟨hstat, hini, hcode, hpl⟩ := hm
  obtain ⟨hy, hlen⟩ := xPlain_spec hpl
  obtain ⟨hy2, hlen2⟩ := xPlain_spec hxp
  obtain ⟨-, b9, ht9, -, hlam⟩ := id hG
  have hat := hlam i w q9 hw hq9
  have hls : lS w = q9.2.2.2 := by simp [lS, hq9]
  obtain ⟨m9, kS, cfS, i0, p0, lk, hm9, hkS, hcfS, hshape, -, hfind, hmade, hcan, hlk⟩ := State.lambdaAt?_spec hat
  obtain ⟨kS', hkS', hnameS⟩ := className_of_methodNamed hm9
  cases hkS.symm.trans hkS'
  obtain ⟨r0, r, hnR, hrm, hstR, hsigR⟩ := Cond.declares_spec (ht9 _ hw1)
  obtain ⟨cL, kL, r1, hcL, hkL, hiL, hfoundL, hn1⟩ := Cond.interfaceMethod_spec (ht9 _ hw2)
  cases hnR.symm.trans hn1
  have hr0cls : r0.cls = cL := Option.some.inj ((findClass_of_methodNamed hnR).symm.trans hcL)
  obtain ⟨hnameR, hdescR⟩ := name_of_methodNamed hnR hrm
  have hnR' : s.methodNamed? x = some r0 := by
    have := State.methodNamed?_setVm (s := G.1) hW0.alike x
    rw [hnR] at this
    exact this
  have hrm' : s.vm.method? r0 = some r := by rw [hW0.alike.method?]; exact hrm
  obtain ⟨kL', hkL', heL⟩ := hW0.alike.2.2 _ _ hkL
  have hiL' : kL'.isInterface = true := by rw [heL]; exact hiL
  obtain ⟨kD, hkD, heD⟩ := hW0.alike.2.2 _ _ hkS
  have hnameD : kD.name = h := by rw [heD, ← hhost]; exact hnameS
  have hmadeS := Lambda.isMade_warmer hW0 hmade
  rw [← hls] at hmadeS
  obtain ⟨kK, tk, file, methk, ckK, toy, iface, t, found, hkK, hkn, hfile, hpool, hmk, hckK, hbytes, hmlK, hexK, hlkK, hfl, hretk, htoy, htk, hlook, hready, hclsR, hif, hfo, hsel⟩ := lamM L hkD hnameD hmadeS
  obtain ⟨i2, hi2, hasg, hway⟩ := State.lambdaCallable_spec hcan
  have hi2' : i2 = cL := Option.some.inj (hi2.symm.trans (by rw [← hx1]; exact hcL))
  have hcLs : s.vm.findClass x.cls = some cL := by rw [hW0.alike.findClass]; exact hcL
  have hifc : iface = cL := Option.some.inj (hif.symm.trans (by rw [hls, ← hx1]; exact hcLs))
  have hfr : found = r0 := by
    have h1 : s.methodFound? x.cls x.name x.desc = some r0 := State.methodFound?_of_named hnR' hy2
    simp only [State.methodFound?, hcLs, hkL', hiL', Option.bind_eq_bind, Option.bind_some] at h1
    rw [hls, ← hx2, ← hx3, hifc] at hfo
    rw [hfo] at h1
    exact Option.some.inj h1
  have hsel' : selectMethod e.platform s.vm (G.2.2.1 (100 + i)) r0 = .method ⟨G.2.2.1 (100 + i), 1⟩ → True := fun _ => trivial
  intro V H locs ls hV hRep hL hl T hT X0
  obtain ⟨cell, c1, c2, c3, c4⟩ : ∃ cell : Cell, H[b]? = some cell ∧ cell.cls = G.2.2.1 (100 + i) ∧ cell.vm = .none ∧ cell.slots.toList = [.ref v0] := by
    have := (hRep.2.2.2 b _ (hrecv V hV)).2
    simp only [xat] at this
    rw [if_neg (by omega)] at this
    exact this
  have c1' : T.heap[b]? = some cell := by rw [hT]; exact c1
  obtain ⟨vm₁, X₁, hstep₁⟩ := X0.invokeinterface hx hown (hts _ hlink) hnR' hrm' hstR (by rw [hr0cls]; exact hkL') hiL' hy2 (a := b) (cell := cell) (kcell := kK) c1' (fun z h => by rw [c3] at h; cases h) (by rw [c2]; exact hkK) (by rw [c2, hr0cls, ← hi2', hW0.alike.assignable]; exact hasg)
    (m' := ⟨G.2.2.1 (100 + i), 1⟩) (meth' := methk) (by rw [Launch.admits_selectMethod X0.admits, c2, ← hfr]; exact hsel) hmk (by rw [c2, hnameR, hdescR, hx2, hx3]; simp only [hW0.alike.superclasses, hW0.alike.declaredIn]; exact hway) (by rw [hfl]; decide) (by simp [Method.isAbstract, hfl, hasFlag, Acc.abstract])
    (g := F0 m pc ls stk) rfl (argsL := [.ref b1, .int z]) (rest := st) (hlen2 _ hsigR) hst.symm (by rw [hb]; exact hd)
  have hW₁ : s.WarmedH vm₁ := X₁.warmed
  obtain ⟨kD₁, hkD₁, heD₁⟩ := hW₁.alike.2.2 _ _ hkD
  have hnameD₁ : kD₁.name = h := by rw [heD₁]; exact hnameD
  have hmade₁ := Lambda.isMade_warmer hW₁ hmadeS
  obtain ⟨kK₁, tk₁, file₁, methk₁, ckK₁, toy₁, iface₁, t₁, found₁, hkK₁, hkn₁, hfile₁, hpool₁, hmk₁, hckK₁, hbytes₁, hmlK₁, hexK₁, hlkK₁, hfl₁, hretk₁, htoy₁, htk₁, hlook₁, hready₁, hclsR₁, -⟩ := lamM L hkD₁ hnameD₁ hmade₁
  have hO₁ : ∀ o ok, vm₁.findClass "java/lang/Object" = some o → vm₁.classes[o]? = some ok → ok.instanceTypes.size = 0 := by
    intro o ok ho hok
    obtain ⟨cO, kO, hfO, hkO, -, -, -, hsz⟩ := Cond.instantiable_spec (hts _ q3439)
    rw [hW₁.alike.findClass, hfO] at ho
    cases ho
    obtain ⟨kO', hkO', heO⟩ := hW₁.alike.2.2 _ _ hkO
    cases hok.symm.trans hkO'
    rw [heO]
    exact hsz
  cases hmT : s.methodNamed? y with
  | none => have h9 := hts _ hcode; simp [Cond.before, Cond.holds, Cond.value, hmT] at h9
  | some mT =>
  obtain ⟨methT, cT, hmethT, hcT, hbytesT, hlocT, hretT, hlocksT, -, hsigT⟩ := Cond.code_spec hmT (hts _ hcode)
  have hstaticT : methT.isStatic = true := Cond.static_spec hmT hmethT (hts _ hstat)
  obtain ⟨kT, hkT, hnameT⟩ := className_of_methodNamed hmT
  have hfT : s.vm.findClass y.cls = some mT.cls := findClass_of_methodNamed hmT
  have hinitK : kT.init = .initialized := Cond.initialized_spec hfT hkT (hts _ hini)
  have hfT₁ : vm₁.findClass y.cls = some mT.cls := by rw [hW₁.alike.findClass]; exact hfT
  cases htoy₁.symm.trans hfT₁
  have ht₁ : t₁ = mT := by
    have h1 : (s.setVm vm₁).methodFound? y.cls y.name y.desc = some mT := by rw [State.methodFound?_setVm hW₁.alike]; exact State.methodFound?_of_named hmT hy
    simp only [State.methodFound?, State.vm_setVm, hfT₁, htk₁, Option.bind_eq_bind, Option.bind_some] at h1
    rw [hlook₁] at h1
    exact Option.some.inj h1
  subst ht₁
  have hmethT₁ : vm₁.method? t₁ = some methT := by rw [hW₁.alike.method?]; exact hmethT
  obtain ⟨kT₁, hkT₁, heT₁⟩ := hW₁.alike.2.2 _ _ hkT
  cases htk₁.symm.trans hkT₁
  have hnm : tk₁.name ≠ "java/lang/invoke/MethodHandle" ∧ tk₁.name ≠ "java/lang/invoke/VarHandle" := by
    have : tk₁.name = y.cls := by rw [heT₁]; exact hnameT
    rw [this]; exact hy
  have hsp : ∀ y : Method, signaturePolymorphic tk₁ y = false := fun y => by simp [signaturePolymorphic, hnm.1, hnm.2]
  obtain ⟨-, -, -, -, -, L6, -, L8, -⟩ := id L
  obtain ⟨b8, hmem⟩ := memberRef_ask' (e := e) (vm := vm₁) (d := G.2.2.1 (100 + i)) (index := K) hkK₁ hfile₁ (Or.inl (by rw [hpool₁]; exact L6)) (by rw [hpool₁]; exact L8)
  have hpk : (T.setVm vm₁).plainMethod ⟨G.2.2.1 (100 + i), 1⟩ := State.plainMethod.of_name (fun k' hk' => by cases hkK₁.symm.trans hk'; rw [hkn₁]; exact hplain)
  have hnT : (T.setVm vm₁).methodNamed? y = some t₁ := X₁.named hmT
  have h8' : 2 * (F0 m pc ls stk).monitorRoom + (st.map fun v => v.category).sum ≤ 8 := lv_room h8
  have hR1 := Nat.le_of_ble_eq_true hR.1
  have hR2 := Nat.le_of_ble_eq_true hR.2
  obtain ⟨f0, hf0, hfs0, hfl0⟩ := lamF L.1 FD0 hkD₁ hnameD₁ hmade₁ hO₁
  rcases lF_back (G := G) (V := V) (a := b) hdec X₁ hx (g := { F0 m pc ls stk with stack := st }) rfl (hl.1.trans hml.symm) (by rw [hb]; exact hd) (mk := ⟨G.2.2.1 (100 + i), 1⟩) hmk₁ hckK₁ hbytes₁ hmlK₁ hexK₁ hlkK₁ hpk hretk₁
    (t := t₁) (kt := tk₁) (metht := methT) ⟨ci, _, _, b8, t₁.cls, tk₁, hmem, hclsR₁, htk₁, by simp [hsp]⟩ hready₁ htk₁ hmethT₁ (hsp _) hstaticT (by rw [heT₁]; exact hinitK) (hlen _ hsigT).symm c1' c3 hf0 hfs0 (by rw [hfl0, ← Array.getElem?_toList, c4]; rfl) xCode_code (hM V hV) hnT
    (fun a' U hU => xWarmG hts hcode a' U (State.WarmedH.trans hW₁ hU)) (fun a' U hU => xWarmIni (hts _ hini) a' U (State.WarmedH.trans hW₁ hU)) (fun v V' hQ9 => hv V v V' hQ9) hR1 (by show 2 * (F0 m pc ls stk).monitorRoom + (st.map fun v => v.category).sum + (3 + 11) + (8 + (maxL + 11) + rm2.locals) ≤ _; omega) hk hn (State.WarmedH.trans hW0 hW₁) (by show xRep G V T.heap; rw [hT]; exact hRep) with ⟨v, T', V', L9, X', hRep', hQ, hL', hsteps⟩ | ⟨q, T', V', L9, X', hRep', hQ, hcell9, hL', hsteps⟩
  · obtain ⟨t, a1, b1⟩ := kk v V' T'.heap (locs ++ L9) ls ⟨V, hV, hQ⟩ hRep' (fun q hq => (List.mem_append.mp hq).elim (hL q) (hL' q)) hl T' rfl X'
    exact ⟨t, hstep₁ _ fun acts => (hsteps acts).trans a1, b1⟩
  · obtain ⟨t, a1, b1⟩ := kx q V' T'.heap (locs ++ L9) ls ⟨V, hV, hQ⟩ hcell9 hRep' (fun q hq => (List.mem_append.mp hq).elim (hL q) (hL' q)) hl T' rfl X'
    exact ⟨t, hstep₁ _ fun acts => (hsteps acts).trans a1, b1⟩
theorem r_clC (hC : xCtx C own cc nL0 ret rm) (hG : xGood (xGG C)) (i : Nat) {w : Cond} {q9 : MethodName × Nat × Nat × Lambda.Shape} (hw : xSites[i]? = some w) (hq9 : xSite w = some q9) {h : String} {cs : ByteArray} {K ci nt n9 : Nat} {KF0 KF1 KF2 KF3 : Nat} (L : lamOK w h cs 3 (some .boolean) y K ci nt n9) (FD0 : lamFd w h KF0 0) (FD1 : lamFd w h KF1 1) (FD2 : lamFd w h KF2 2) (FD3 : lamFd w h KF3 3) (hdec : lC_dec cs K KF0 KF1 KF2 KF3) (hhost : q9.1.cls = h) (hplain : plainName (h ++ "$$Lambda") = true) {x : MethodName} (hx1 : x.cls = q9.2.2.2.iface) (hx2 : x.name = q9.2.2.2.name) (hx3 : x.desc = q9.2.2.2.sam.toString)
    (hw1 : Cond.declares x ∈ lw_tbl) (hw2 : Cond.interfaceMethod x.cls x.cls x.name x.desc ∈ lw_tbl) (hxp : xPlain x 2 = true) (hm : xMS y bytes maxL (some .boolean) 6) (hlink : Cond.methodLink own ix x ∈ lw_all) (b b1 : Nat) {z : Int32} {v0 : Nat} {v1 : Nat} {v2 : Int32} {v3 : Int32} (hrecv : ∀ V, I V → V.2 b = some (.inr (100 + i, [.ref v0, .ref v1, .int v2, .int v3]))) (hM : ∀ V, I V → xMet (xL C) (xGG C) y [Cond.code y bytes maxL (some .boolean)] rm2 [.ref v0, .ref v1, .int v2, .int v3, .ref b1, .int z] V (Q2 V) (X2 V)) (hv : ∀ V v V', Q2 V v V' → ∃ r : Int32, v = some (.int r) ∧ narrow .boolean (.int r) = .int r)
    (hR : (rm2.frames + 2).ble rm.frames = true ∧ (8 + (3 + 11) + (8 + (maxL + 11) + rm2.locals)).ble rm.locals = true) (hk : k + rm2.cells ≤ rm.cells) (hn : n + rm2.slots ≤ rm.slots) (hst : .int z :: .ref b1 :: .ref b :: st = stk) (h8 : (st.map fun v => v.category).sum ≤ 8) {count : Nat} (hd : decode cc pc = .ok (.invokeinterface ix count, 5)) : xCall C I k n pc 5 lv stk st rm2 Q2 X2 := by
  intro kk kx
  obtain ⟨p, l, e, R, s, m, args, below, meth, c, G, nL, Q, X⟩ := C
  obtain ⟨hx, hb, hml, hnL, hown, hts, hK, hr, hlocks, hW0, hRm, -⟩ := hC
  subst hRm
  obtain ⟨hstat, hini, hcode, hpl⟩ := hm
  obtain ⟨hy, hlen⟩ := xPlain_spec hpl
  obtain ⟨hy2, hlen2⟩ := xPlain_spec hxp
  obtain ⟨-, b9, ht9, -, hlam⟩ := id hG
  have hat := hlam i w q9 hw hq9
  have hls : lS w = q9.2.2.2 := by simp [lS, hq9]
  obtain ⟨m9, kS, cfS, i0, p0, lk, hm9, hkS, hcfS, hshape, -, hfind, hmade, hcan, hlk⟩ := State.lambdaAt?_spec hat
  obtain ⟨kS', hkS', hnameS⟩ := className_of_methodNamed hm9
  cases hkS.symm.trans hkS'
  obtain ⟨r0, r, hnR, hrm, hstR, hsigR⟩ := Cond.declares_spec (ht9 _ hw1)
  obtain ⟨cL, kL, r1, hcL, hkL, hiL, hfoundL, hn1⟩ := Cond.interfaceMethod_spec (ht9 _ hw2)
  cases hnR.symm.trans hn1
  have hr0cls : r0.cls = cL := Option.some.inj ((findClass_of_methodNamed hnR).symm.trans hcL)
  obtain ⟨hnameR, hdescR⟩ := name_of_methodNamed hnR hrm
  have hnR' : s.methodNamed? x = some r0 := by
    have := State.methodNamed?_setVm (s := G.1) hW0.alike x
    rw [hnR] at this
    exact this
  have hrm' : s.vm.method? r0 = some r := by rw [hW0.alike.method?]; exact hrm
  obtain ⟨kL', hkL', heL⟩ := hW0.alike.2.2 _ _ hkL
  have hiL' : kL'.isInterface = true := by rw [heL]; exact hiL
  obtain ⟨kD, hkD, heD⟩ := hW0.alike.2.2 _ _ hkS
  have hnameD : kD.name = h := by rw [heD, ← hhost]; exact hnameS
  have hmadeS := Lambda.isMade_warmer hW0 hmade
  rw [← hls] at hmadeS
  obtain ⟨kK, tk, file, methk, ckK, toy, iface, t, found, hkK, hkn, hfile, hpool, hmk, hckK, hbytes, hmlK, hexK, hlkK, hfl, hretk, htoy, htk, hlook, hready, hclsR, hif, hfo, hsel⟩ := lamM L hkD hnameD hmadeS
  obtain ⟨i2, hi2, hasg, hway⟩ := State.lambdaCallable_spec hcan
  have hi2' : i2 = cL := Option.some.inj (hi2.symm.trans (by rw [← hx1]; exact hcL))
  have hcLs : s.vm.findClass x.cls = some cL := by rw [hW0.alike.findClass]; exact hcL
  have hifc : iface = cL := Option.some.inj (hif.symm.trans (by rw [hls, ← hx1]; exact hcLs))
  have hfr : found = r0 := by
    have h1 : s.methodFound? x.cls x.name x.desc = some r0 := State.methodFound?_of_named hnR' hy2
    simp only [State.methodFound?, hcLs, hkL', hiL', Option.bind_eq_bind, Option.bind_some] at h1
    rw [hls, ← hx2, ← hx3, hifc] at hfo
    rw [hfo] at h1
    exact Option.some.inj h1
  have hsel' : selectMethod e.platform s.vm (G.2.2.1 (100 + i)) r0 = .method ⟨G.2.2.1 (100 + i), 1⟩ → True := fun _ => trivial
  intro V H locs ls hV hRep hL hl T hT X0
  obtain ⟨cell, c1, c2, c3, c4⟩ : ∃ cell : Cell, H[b]? = some cell ∧ cell.cls = G.2.2.1 (100 + i) ∧ cell.vm = .none ∧ cell.slots.toList = [.ref v0, .ref v1, .int v2, .int v3] := by
    have := (hRep.2.2.2 b _ (hrecv V hV)).2
    simp only [xat] at this
    rw [if_neg (by omega)] at this
    exact this
  have c1' : T.heap[b]? = some cell := by rw [hT]; exact c1
  obtain ⟨vm₁, X₁, hstep₁⟩ := X0.invokeinterface hx hown (hts _ hlink) hnR' hrm' hstR (by rw [hr0cls]; exact hkL') hiL' hy2 (a := b) (cell := cell) (kcell := kK) c1' (fun z h => by rw [c3] at h; cases h) (by rw [c2]; exact hkK) (by rw [c2, hr0cls, ← hi2', hW0.alike.assignable]; exact hasg)
    (m' := ⟨G.2.2.1 (100 + i), 1⟩) (meth' := methk) (by rw [Launch.admits_selectMethod X0.admits, c2, ← hfr]; exact hsel) hmk (by rw [c2, hnameR, hdescR, hx2, hx3]; simp only [hW0.alike.superclasses, hW0.alike.declaredIn]; exact hway) (by rw [hfl]; decide) (by simp [Method.isAbstract, hfl, hasFlag, Acc.abstract])
    (g := F0 m pc ls stk) rfl (argsL := [.ref b1, .int z]) (rest := st) (hlen2 _ hsigR) hst.symm (by rw [hb]; exact hd)
  have hW₁ : s.WarmedH vm₁ := X₁.warmed
  obtain ⟨kD₁, hkD₁, heD₁⟩ := hW₁.alike.2.2 _ _ hkD
  have hnameD₁ : kD₁.name = h := by rw [heD₁]; exact hnameD
  have hmade₁ := Lambda.isMade_warmer hW₁ hmadeS
  obtain ⟨kK₁, tk₁, file₁, methk₁, ckK₁, toy₁, iface₁, t₁, found₁, hkK₁, hkn₁, hfile₁, hpool₁, hmk₁, hckK₁, hbytes₁, hmlK₁, hexK₁, hlkK₁, hfl₁, hretk₁, htoy₁, htk₁, hlook₁, hready₁, hclsR₁, -⟩ := lamM L hkD₁ hnameD₁ hmade₁
  have hO₁ : ∀ o ok, vm₁.findClass "java/lang/Object" = some o → vm₁.classes[o]? = some ok → ok.instanceTypes.size = 0 := by
    intro o ok ho hok
    obtain ⟨cO, kO, hfO, hkO, -, -, -, hsz⟩ := Cond.instantiable_spec (hts _ q3439)
    rw [hW₁.alike.findClass, hfO] at ho
    cases ho
    obtain ⟨kO', hkO', heO⟩ := hW₁.alike.2.2 _ _ hkO
    cases hok.symm.trans hkO'
    rw [heO]
    exact hsz
  cases hmT : s.methodNamed? y with
  | none => have h9 := hts _ hcode; simp [Cond.before, Cond.holds, Cond.value, hmT] at h9
  | some mT =>
  obtain ⟨methT, cT, hmethT, hcT, hbytesT, hlocT, hretT, hlocksT, -, hsigT⟩ := Cond.code_spec hmT (hts _ hcode)
  have hstaticT : methT.isStatic = true := Cond.static_spec hmT hmethT (hts _ hstat)
  obtain ⟨kT, hkT, hnameT⟩ := className_of_methodNamed hmT
  have hfT : s.vm.findClass y.cls = some mT.cls := findClass_of_methodNamed hmT
  have hinitK : kT.init = .initialized := Cond.initialized_spec hfT hkT (hts _ hini)
  have hfT₁ : vm₁.findClass y.cls = some mT.cls := by rw [hW₁.alike.findClass]; exact hfT
  cases htoy₁.symm.trans hfT₁
  have ht₁ : t₁ = mT := by
    have h1 : (s.setVm vm₁).methodFound? y.cls y.name y.desc = some mT := by rw [State.methodFound?_setVm hW₁.alike]; exact State.methodFound?_of_named hmT hy
    simp only [State.methodFound?, State.vm_setVm, hfT₁, htk₁, Option.bind_eq_bind, Option.bind_some] at h1
    rw [hlook₁] at h1
    exact Option.some.inj h1
  subst ht₁
  have hmethT₁ : vm₁.method? t₁ = some methT := by rw [hW₁.alike.method?]; exact hmethT
  obtain ⟨kT₁, hkT₁, heT₁⟩ := hW₁.alike.2.2 _ _ hkT
  cases htk₁.symm.trans hkT₁
  have hnm : tk₁.name ≠ "java/lang/invoke/MethodHandle" ∧ tk₁.name ≠ "java/lang/invoke/VarHandle" := by
    have : tk₁.name = y.cls := by rw [heT₁]; exact hnameT
    rw [this]; exact hy
  have hsp : ∀ y : Method, signaturePolymorphic tk₁ y = false := fun y => by simp [signaturePolymorphic, hnm.1, hnm.2]
  obtain ⟨-, -, -, -, -, L6, -, L8, -⟩ := id L
  obtain ⟨b8, hmem⟩ := memberRef_ask' (e := e) (vm := vm₁) (d := G.2.2.1 (100 + i)) (index := K) hkK₁ hfile₁ (Or.inl (by rw [hpool₁]; exact L6)) (by rw [hpool₁]; exact L8)
  have hpk : (T.setVm vm₁).plainMethod ⟨G.2.2.1 (100 + i), 1⟩ := State.plainMethod.of_name (fun k' hk' => by cases hkK₁.symm.trans hk'; rw [hkn₁]; exact hplain)
  have hnT : (T.setVm vm₁).methodNamed? y = some t₁ := X₁.named hmT
  have h8' : 2 * (F0 m pc ls stk).monitorRoom + (st.map fun v => v.category).sum ≤ 8 := lv_room h8
  have hR1 := Nat.le_of_ble_eq_true hR.1
  have hR2 := Nat.le_of_ble_eq_true hR.2
  obtain ⟨f0, hf0, hfs0, hfl0⟩ := lamF L.1 FD0 hkD₁ hnameD₁ hmade₁ hO₁
  obtain ⟨f1, hf1, hfs1, hfl1⟩ := lamF L.1 FD1 hkD₁ hnameD₁ hmade₁ hO₁
  obtain ⟨f2, hf2, hfs2, hfl2⟩ := lamF L.1 FD2 hkD₁ hnameD₁ hmade₁ hO₁
  obtain ⟨f3, hf3, hfs3, hfl3⟩ := lamF L.1 FD3 hkD₁ hnameD₁ hmade₁ hO₁
  rcases lC_back (G := G) (V := V) (a := b) hdec X₁ hx (g := { F0 m pc ls stk with stack := st }) rfl (hl.1.trans hml.symm) (by rw [hb]; exact hd) (mk := ⟨G.2.2.1 (100 + i), 1⟩) hmk₁ hckK₁ hbytes₁ hmlK₁ hexK₁ hlkK₁ hpk hretk₁
    (t := t₁) (kt := tk₁) (metht := methT) ⟨ci, _, _, b8, t₁.cls, tk₁, hmem, hclsR₁, htk₁, by simp [hsp]⟩ hready₁ htk₁ hmethT₁ (hsp _) hstaticT (by rw [heT₁]; exact hinitK) (hlen _ hsigT).symm c1' c3 hf0 hfs0 (by rw [hfl0, ← Array.getElem?_toList, c4]; rfl) hf1 hfs1 (by rw [hfl1, ← Array.getElem?_toList, c4]; rfl) hf2 hfs2 (by rw [hfl2, ← Array.getElem?_toList, c4]; rfl) hf3 hfs3 (by rw [hfl3, ← Array.getElem?_toList, c4]; rfl) xCode_code (hM V hV) hnT
    (fun a' U hU => xWarmG hts hcode a' U (State.WarmedH.trans hW₁ hU)) (fun a' U hU => xWarmIni (hts _ hini) a' U (State.WarmedH.trans hW₁ hU)) (fun v V' hQ9 => hv V v V' hQ9) hR1 (by show 2 * (F0 m pc ls stk).monitorRoom + (st.map fun v => v.category).sum + (3 + 11) + (8 + (maxL + 11) + rm2.locals) ≤ _; omega) hk hn (State.WarmedH.trans hW0 hW₁) (by show xRep G V T.heap; rw [hT]; exact hRep) with ⟨v, T', V', L9, X', hRep', hQ, hL', hsteps⟩ | ⟨q, T', V', L9, X', hRep', hQ, hcell9, hL', hsteps⟩
  · obtain ⟨t, a1, b1⟩ := kk v V' T'.heap (locs ++ L9) ls ⟨V, hV, hQ⟩ hRep' (fun q hq => (List.mem_append.mp hq).elim (hL q) (hL' q)) hl T' rfl X'
    exact ⟨t, hstep₁ _ fun acts => (hsteps acts).trans a1, b1⟩
  · obtain ⟨t, a1, b1⟩ := kx q V' T'.heap (locs ++ L9) ls ⟨V, hV, hQ⟩ hcell9 hRep' (fun q hq => (List.mem_append.mp hq).elim (hL q) (hL' q)) hl T' rfl X'
    exact ⟨t, hstep₁ _ fun acts => (hsteps acts).trans a1, b1⟩
end LAM3
