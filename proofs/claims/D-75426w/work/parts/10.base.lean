/-! ===== the classes and array types of the claim, by number ===== -/
set_option maxRecDepth 100000
def vwCl : List vw_C := [(RX1, TX1, 12), (RX2, TX2, 8), (RX3, TX3, 11), (RX4, TX4, 6), (RX5, TX5, 2), (RX6, TX6, 39), (RX7, TX7, 3), (RX8, TX8, 8), (RX10, TX10, 7), (RX11, TX11, 7), (RX12, TX12, 7), (RX13, TX13, 6), (RX14, TX14, 3), (RX15, TX15, 3), (RX16, TX16, 2), (RX17, TX17, 1), (RX18, TX18, 3), (RX19, TX19, 3), (RX20, TX20, 7), (RJ1, TJ1, 3), (RJ6, TJ6, 4), (RJ7, TJ7, 4), (RJ10, TJ10, 6), (RJ17, TJ17, 6), (RJ18, TJ18, 4), (RJ21, TJ21, 12), (RJ25, TJ25, 6), (RJ26, TJ26, 11), (RJ28, TJ28, 2), (RJ30, TJ30, 5), (RJ17, TJ17, 0), (RJ10, TJ10, 0)]
/-! ===== the base: virtual heap, the judgement rn, its rules ===== -/
set_option maxRecDepth 100000
abbrev xE : Type := (Nat × vp_A) ⊕ (Nat × List Value)
abbrev xW : Type := List (Nat × xE)
/-- a virtual heap: how many cells there are; what is known of them -/
abbrev xV : Type := Nat × (Nat → Option xE)
/-- the start of the law; the classes' numbers and slots; the array classes' (from 100 on the lambdas' classes') numbers; addresses of old objects -/
abbrev xG : Type := State × va_G × (Nat → ClassId) × (Nat → Nat)
def vwAr : List FieldType := [.int, .long, .byte, .object "java/lang/Object", .object "ThreeBodies$Part", .array (.object "ThreeBodies$Part"), .object "ThreeBodies$Measure", .array .int, .object "java/util/HashMap$Node", .object "ThreeBodies$Test"]
def xtys (G : xG) : List (ClassId × FieldType) := [(G.2.2.1 0, .int), (G.2.2.1 1, .long), (G.2.2.1 2, .byte), (G.2.2.1 3, .object "java/lang/Object"), (G.2.2.1 4, .object "ThreeBodies$Part"), (G.2.2.1 5, .array (.object "ThreeBodies$Part")), (G.2.2.1 6, .object "ThreeBodies$Measure"), (G.2.2.1 7, .array .int), (G.2.2.1 8, .object "java/util/HashMap$Node"), (G.2.2.1 9, .object "ThreeBodies$Test")]
/-- the heap's cell at a is e -/
def xat (G : xG) (a : Nat) (e : xE) (H : Heap) : Prop := match e with
  | .inl x => H[a]? = some (vp_cell (G.2.2.1 x.1) x.2)
  | .inr o => if o.1 < 100 then ∃ r : vw_C, vwCl[o.1]? = some r ∧ t_OB a (G.2.1.1 o.1) r.2.2 (G.2.1.2 o.1) H (vp_V o.2) else ∃ cell : Cell, H[a]? = some cell ∧ cell.cls = G.2.2.1 o.1 ∧ cell.vm = .none ∧ cell.slots.toList = o.2
def xRep (G : xG) (V : xV) (H : Heap) : Prop :=
  H.size = V.1 ∧ G.1.heap.size ≤ V.1 ∧ (∀ a : Nat, a < G.1.heap.size → H[a]? = G.1.heap[a]?) ∧ ∀ (a : Nat) (e : xE), V.2 a = some e → G.1.heap.size ≤ a ∧ xat G a e H
theorem xtys_at {G : xG} {s : State} {t : Nat} {ty : FieldType} (hK : va_K G.2.1 vwCl (xtys G) s) (ht : vwAr[t]? = some ty) : ArrOfT s (G.2.2.1 t) ty ∧ va_RA s (G.2.2.1 t) ty := by
  have h : (xtys G)[t]? = some (G.2.2.1 t, ty) := by
    match t, ht with
    | 0, ht => cases ht; rfl
    | 1, ht => cases ht; rfl
    | 2, ht => cases ht; rfl
    | 3, ht => cases ht; rfl
    | 4, ht => cases ht; rfl
    | 5, ht => cases ht; rfl
    | 6, ht => cases ht; rfl
    | 7, ht => cases ht; rfl
    | 8, ht => cases ht; rfl
    | 9, ht => cases ht; rfl
    | t + 10, ht => cases ht
  exact hK.2 t _ h
def xPrim (ty : FieldType) : Bool := match ty with
  | .object _ => false
  | _ => true
theorem xprim_RA {s : State} {cA : ClassId} {ty : FieldType} (hp : xPrim ty = true) (h : va_RA s cA ty) : s.vm.findClass ("[" ++ ty.toString) = some cA := by
  cases ty <;> first | exact h | cases hp
def xset (V : xV) (a : Nat) (e : xE) : xV := (V.1, fun b => if b = a then some e else V.2 b)
def xpush (V : xV) (e : xE) : xV := (V.1 + 1, fun b => if b = V.1 then some e else V.2 b)
/-- what an invocation leaves -/
def xPost (G : xG) (mc ms : Nat) (Q : Option Value → xV → Prop) (X : Nat → xV → Prop) (st : State) (o : Outcome) (t : State) : Prop :=
  ∃ (V' : xV) (L : List Loc), xRep G V' t.heap ∧ (∀ q ∈ L, G.1.heap.size ≤ q.base) ∧ st.WarmedH t.vm ∧ st.sameButNew ({ t with vm := st.vm } : State) L mc ms ∧ ((∃ v, o = .returned v ∧ Q v V') ∨ ∃ q, o = .threw q ∧ X q V' ∧ ∃ (ci : Nat) (fs : List Value), V'.2 q = some (.inr (ci, fs)))
/-- the contract of a method at a virtual heap -/
def xMet (l : Launch) (G : xG) (y : MethodName) (ws : List Cond) (rm : Room) (As : List Value) (V : xV) (Q : Option Value → xV → Prop) (X : Nat → xV → Prop) : Prop :=
  MetFree l y (headSpec ws rm) (fun a U => a = As.toArray ∧ G.1.WarmedH U.vm ∧ xRep G V U.heap) (fun _ _ _ _ _ => True) (fun _ st o t => xPost G rm.cells rm.slots Q X st o t)
def xFin (G : xG) (below : List Frame) (s : State) (rm : Room) (Q : Option Value → xV → Prop) (X : Nat → xV → Prop) : State → Prop := fun t =>
  ∃ o, t.status = .running ∧ Ended t below o ∧ xPost G rm.cells rm.slots Q X s o t
abbrev xC : Type := Program × Launch × Env × Room × State × MethodId × Array Value × List Frame × Method × Code × xG × Nat × (Option Value → xV → Prop) × (Nat → xV → Prop)
def rn (C : xC) (I : xV → Prop) (k n pc : Nat) (lv : List (Nat × Value)) (st : List Value) : Prop :=
  match C with
  | (p, l, e, R, s, m, args, below, meth, c, G, nL, Q, X) => ∀ (V : xV) (H : Heap) (locs : List Loc) (ls : Array Slot), I V → xRep G V H → (∀ q ∈ locs, G.1.heap.size ≤ q.base) → lv_has ls nL lv → W p l e R s m args below meth c H locs k n (xFin G below s R Q X) (F0 m pc ls st)
/-- the lambdas' sites, by number: what the Statement says of each -/
def xSites : List Cond := [siteWord_1_1, siteWord_1_2, siteWord_1_3, siteWord_1_4, siteWord_1_5, siteWord_1_6, siteWord_1_7, siteWord_1_8, siteWord_1_9, siteWord_1_10, siteWord_1_11, siteWord_1_12, siteWord_1_13, siteWord_1_14, siteWord_1_15]
def xSite : Cond → Option (MethodName × Nat × Nat × Lambda.Shape)
  | .lambdaSite x pc ix sg => some (x, pc, ix, sg)
  | _ => none
def xLam (G : xG) : Prop := ∀ (i : Nat) (w : Cond) (q : MethodName × Nat × Nat × Lambda.Shape), xSites[i]? = some w → xSite w = some q → G.1.lambdaAt? q.1 q.2.1 q.2.2.1 q.2.2.2 = some (G.2.2.1 (100 + i), if q.2.2.2.captured = [] then some (G.2.2.2 i) else none)
def xGood (G : xG) : Prop := va_K G.2.1 vwCl (xtys G) G.1 ∧ ∃ b : Nat, (∀ w ∈ lw_tbl, w.before #[Value.ref b] G.1 = true) ∧ (Jvm.Cond.and given_1 narrow_1).before #[Value.ref b] G.1 = true ∧ xLam G
def xCtx (C : xC) (own : String) (cc : ByteArray) (nL0 : Nat) (ret : Option FieldType) (rm : Room) : Prop :=
  match C with
  | (p, l, e, R, s, m, args, below, meth, c, G, nL, Q, X) => p.tables.exec = Jvm.exec ∧ c.code = cc ∧ c.maxLocals = nL ∧ nL = nL0 ∧ s.vm.findClass own = some m.cls ∧ (∀ w ∈ lw_all, w.before args s = true) ∧ va_K G.2.1 vwCl (xtys G) s ∧ meth.sig.returnType = ret ∧ meth.locks = false ∧ G.1.WarmedH s.vm ∧ R = rm ∧ G.1.heap.size ≤ s.heap.size
def xIni (C : xC) : Prop := C.2.2.2.2.2.2.2.2.1.name = "<init>"
theorem rn.mono {C : xC} {I J : xV → Prop} {k n pc : Nat} {lv : List (Nat × Value)} {st : List Value} (h : ∀ V, I V → J V) (kk : rn C J k n pc lv st) : rn C I k n pc lv st := by
  obtain ⟨p, l, e, R, s, m, args, below, meth, c, G, nL, Q, X⟩ := C
  exact fun V H locs ls hI => kk V H locs ls (h V hI)
theorem rn.widen {C : xC} {I : xV → Prop} {k n k' n' pc : Nat} {lv : List (Nat × Value)} {st : List Value} (h1 : k ≤ k') (h2 : n ≤ n') (kk : rn C I k' n' pc lv st) : rn C I k n pc lv st := by
  obtain ⟨p, l, e, R, s, m, args, below, meth, c, G, nL, Q, X⟩ := C
  exact fun V H locs ls hI hR hL hl => W.widen h1 h2 (kk V H locs ls hI hR hL hl)
theorem rn.sub {C : xC} {I : xV → Prop} {k n pc : Nat} {lv lv' : List (Nat × Value)} {st : List Value} (ks : List Nat) (h : lv_pick lv ks = lv') (kk : rn C I k n pc lv' st) : rn C I k n pc lv st := by
  obtain ⟨p, l, e, R, s, m, args, below, meth, c, G, nL, Q, X⟩ := C
  exact fun V H locs ls hI hR hL hl => kk V H locs ls hI hR hL (lv_sub hl ks h)
theorem rn.all {C : xC} {α : Type} {I : α → xV → Prop} {k n pc : Nat} {lv : List (Nat × Value)} {st : List Value} (kk : ∀ u, rn C (I u) k n pc lv st) : rn C (fun V => ∃ u, I u V) k n pc lv st := by
  obtain ⟨p, l, e, R, s, m, args, below, meth, c, G, nL, Q, X⟩ := C
  intro V H locs ls hI hR hL hl
  obtain ⟨u, hu⟩ := hI
  exact kk u V H locs ls hu hR hL hl
section XR
variable {C : xC} {I : xV → Prop} {k n pc : Nat} {lv lv' : List (Nat × Value)} {st : List Value} {own : String} {cc : ByteArray} {nL0 : Nat} {ret : Option FieldType} {rm : Room}

theorem r_iconst (hC : xCtx C own cc nL0 ret rm) {z : Int} (v : Int32) (hd : decode cc pc = .ok (.iconst z, 1)) (hv : Int32.ofInt z = v) (pc1 : Nat) (hp : pc + 1 = pc1) (kk : rn C I k n pc1 lv (.int v :: st)) : rn C I k n pc lv st := by
  subst hp
  obtain ⟨p, l, e, R, s, m, args, below, meth, c, G, nL, Q, X⟩ := C
  obtain ⟨hx, hb, hml, hnL, hown, hts, -⟩ := hC
  intro V H locs ls hI hR hL hl
  exact lv_iconst hx hb hd hv (kk V H locs ls hI hR hL hl)
theorem r_bipush (hC : xCtx C own cc nL0 ret rm) {z : Int} (v : Int32) (hd : decode cc pc = .ok (.bipush z, 2)) (hv : (Int8.ofInt z).toInt32 = v) (pc1 : Nat) (hp : pc + 2 = pc1) (kk : rn C I k n pc1 lv (.int v :: st)) : rn C I k n pc lv st := by
  subst hp
  obtain ⟨p, l, e, R, s, m, args, below, meth, c, G, nL, Q, X⟩ := C
  obtain ⟨hx, hb, hml, hnL, hown, hts, -⟩ := hC
  intro V H locs ls hI hR hL hl
  exact lv_bipush hx hb hd hv (kk V H locs ls hI hR hL hl)
theorem r_sipush (hC : xCtx C own cc nL0 ret rm) {z : Int} (v : Int32) (hd : decode cc pc = .ok (.sipush z, 3)) (hv : (Int16.ofInt z).toInt32 = v) (pc1 : Nat) (hp : pc + 3 = pc1) (kk : rn C I k n pc1 lv (.int v :: st)) : rn C I k n pc lv st := by
  subst hp
  obtain ⟨p, l, e, R, s, m, args, below, meth, c, G, nL, Q, X⟩ := C
  obtain ⟨hx, hb, hml, hnL, hown, hts, -⟩ := hC
  intro V H locs ls hI hR hL hl
  exact lv_sipush hx hb hd hv (kk V H locs ls hI hR hL hl)
theorem r_lconst (hC : xCtx C own cc nL0 ret rm) {z : Fin 2} (v : Int64) (hd : decode cc pc = .ok (.lconst z, 1)) (hv : Int64.ofNat (z : Nat) = v) (pc1 : Nat) (hp : pc + 1 = pc1) (kk : rn C I k n pc1 lv (.long v :: st)) : rn C I k n pc lv st := by
  subst hp
  obtain ⟨p, l, e, R, s, m, args, below, meth, c, G, nL, Q, X⟩ := C
  obtain ⟨hx, hb, hml, hnL, hown, hts, -⟩ := hC
  intro V H locs ls hI hR hL hl
  exact lv_lconst hx hb hd hv (kk V H locs ls hI hR hL hl)
theorem r_null (hC : xCtx C own cc nL0 ret rm) (hd : decode cc pc = .ok (.aconst_null, 1))  (pc1 : Nat) (hp : pc + 1 = pc1) (kk : rn C I k n pc1 lv (.null :: st)) : rn C I k n pc lv st := by
  subst hp
  obtain ⟨p, l, e, R, s, m, args, below, meth, c, G, nL, Q, X⟩ := C
  obtain ⟨hx, hb, hml, hnL, hown, hts, -⟩ := hC
  intro V H locs ls hI hR hL hl
  exact lv_null hx hb hd  (kk V H locs ls hI hR hL hl)
theorem r_ldc (hC : xCtx C own cc nL0 ret rm) {ix : Nat} {v : Int32} (hq : Cond.constant own ix v ∈ lw_all) (hd : decode cc pc = .ok (.ldc ix, 2)) (pc1 : Nat) (hp : pc + 2 = pc1) (kk : rn C I k n pc1 lv (.int v :: st)) : rn C I k n pc lv st := by
  subst hp
  obtain ⟨p, l, e, R, s, m, args, below, meth, c, G, nL, Q, X⟩ := C
  obtain ⟨hx, hb, hml, hnL, hown, hts, -⟩ := hC
  intro V H locs ls hI hR hL hl
  exact lv_ldc hx hb hown (hts _ hq) hd (kk V H locs ls hI hR hL hl)
theorem r_ldcw (hC : xCtx C own cc nL0 ret rm) {ix : Nat} {v : Int32} (hq : Cond.constant own ix v ∈ lw_all) (hd : decode cc pc = .ok (.ldc_w ix, 3)) (pc1 : Nat) (hp : pc + 3 = pc1) (kk : rn C I k n pc1 lv (.int v :: st)) : rn C I k n pc lv st := by
  subst hp
  obtain ⟨p, l, e, R, s, m, args, below, meth, c, G, nL, Q, X⟩ := C
  obtain ⟨hx, hb, hml, hnL, hown, hts, -⟩ := hC
  intro V H locs ls hI hR hL hl
  exact lv_ldcw hx hb hown (hts _ hq) hd (kk V H locs ls hI hR hL hl)
theorem r_ldc2 (hC : xCtx C own cc nL0 ret rm) {ix : Nat} {v : Int64} (hq : Cond.constantLong own ix v ∈ lw_all) (hd : decode cc pc = .ok (.ldc2_w ix, 3)) (pc1 : Nat) (hp : pc + 3 = pc1) (kk : rn C I k n pc1 lv (.long v :: st)) : rn C I k n pc lv st := by
  subst hp
  obtain ⟨p, l, e, R, s, m, args, below, meth, c, G, nL, Q, X⟩ := C
  obtain ⟨hx, hb, hml, hnL, hown, hts, -⟩ := hC
  intro V H locs ls hI hR hL hl
  exact lv_ldc2 hx hb hown (hts _ hq) hd (kk V H locs ls hI hR hL hl)
theorem r_ldcf (hC : xCtx C own cc nL0 ret rm) {ix : Nat} {v : UInt32} (hq : Cond.constantFloat own ix v ∈ lw_all) (hd : decode cc pc = .ok (.ldc ix, 2)) (pc1 : Nat) (hp : pc + 2 = pc1) (kk : rn C I k n pc1 lv (.float v :: st)) : rn C I k n pc lv st := by
  subst hp
  obtain ⟨p, l, e, R, s, m, args, below, meth, c, G, nL, Q, X⟩ := C
  obtain ⟨hx, hb, hml, hnL, hown, hts, -⟩ := hC
  intro V H locs ls hI hR hL hl
  exact lv_ldcf hx hb hown (hts _ hq) hd (kk V H locs ls hI hR hL hl)
theorem r_dconst0 (hC : xCtx C own cc nL0 ret rm) (hd : decode cc pc = .ok (.dconst 0, 1))  (pc1 : Nat) (hp : pc + 1 = pc1) (kk : rn C I k n pc1 lv (.double 0 :: st)) : rn C I k n pc lv st := by
  subst hp
  obtain ⟨p, l, e, R, s, m, args, below, meth, c, G, nL, Q, X⟩ := C
  obtain ⟨hx, hb, hml, hnL, hown, hts, -⟩ := hC
  intro V H locs ls hI hR hL hl
  exact lv_dconst0 hx hb hd  (kk V H locs ls hI hR hL hl)
theorem r_iload_n (hC : xCtx C own cc nL0 ret rm) {z : Fin 4} {x : Int32} (i : Nat) (hd : decode cc pc = .ok (.iload_n z, 1)) (hi : lv[i]? = some ((z : Nat), .int x)) (pc1 : Nat) (hp : pc + 1 = pc1) (kk : rn C I k n pc1 lv (.int x :: st)) : rn C I k n pc lv st := by
  subst hp
  obtain ⟨p, l, e, R, s, m, args, below, meth, c, G, nL, Q, X⟩ := C
  obtain ⟨hx, hb, hml, hnL, hown, hts, -⟩ := hC
  intro V H locs ls hI hR hL hl
  exact lv_iload_n hx hb hd rfl (lv_at hl i hi) (kk V H locs ls hI hR hL hl)
theorem r_iload (hC : xCtx C own cc nL0 ret rm) {z : Nat} {x : Int32} (i : Nat) (hd : decode cc pc = .ok (.iload z, 2)) (hi : lv[i]? = some (z, .int x)) (pc1 : Nat) (hp : pc + 2 = pc1) (kk : rn C I k n pc1 lv (.int x :: st)) : rn C I k n pc lv st := by
  subst hp
  obtain ⟨p, l, e, R, s, m, args, below, meth, c, G, nL, Q, X⟩ := C
  obtain ⟨hx, hb, hml, hnL, hown, hts, -⟩ := hC
  intro V H locs ls hI hR hL hl
  exact lv_iload hx hb hd (lv_at hl i hi) (kk V H locs ls hI hR hL hl)
theorem r_lload_n (hC : xCtx C own cc nL0 ret rm) {z : Fin 4} {x : Int64} (i : Nat) (hd : decode cc pc = .ok (.lload_n z, 1)) (hi : lv[i]? = some ((z : Nat), .long x)) (pc1 : Nat) (hp : pc + 1 = pc1) (kk : rn C I k n pc1 lv (.long x :: st)) : rn C I k n pc lv st := by
  subst hp
  obtain ⟨p, l, e, R, s, m, args, below, meth, c, G, nL, Q, X⟩ := C
  obtain ⟨hx, hb, hml, hnL, hown, hts, -⟩ := hC
  intro V H locs ls hI hR hL hl
  exact lv_lload_n hx hb hd rfl (lv_at hl i hi) (kk V H locs ls hI hR hL hl)
theorem r_lload (hC : xCtx C own cc nL0 ret rm) {z : Nat} {x : Int64} (i : Nat) (hd : decode cc pc = .ok (.lload z, 2)) (hi : lv[i]? = some (z, .long x)) (pc1 : Nat) (hp : pc + 2 = pc1) (kk : rn C I k n pc1 lv (.long x :: st)) : rn C I k n pc lv st := by
  subst hp
  obtain ⟨p, l, e, R, s, m, args, below, meth, c, G, nL, Q, X⟩ := C
  obtain ⟨hx, hb, hml, hnL, hown, hts, -⟩ := hC
  intro V H locs ls hI hR hL hl
  exact lv_lload hx hb hd (lv_at hl i hi) (kk V H locs ls hI hR hL hl)
theorem r_aload_n (hC : xCtx C own cc nL0 ret rm) {z : Fin 4} {x : Nat} (i : Nat) (hd : decode cc pc = .ok (.aload_n z, 1)) (hi : lv[i]? = some ((z : Nat), .ref x)) (pc1 : Nat) (hp : pc + 1 = pc1) (kk : rn C I k n pc1 lv (.ref x :: st)) : rn C I k n pc lv st := by
  subst hp
  obtain ⟨p, l, e, R, s, m, args, below, meth, c, G, nL, Q, X⟩ := C
  obtain ⟨hx, hb, hml, hnL, hown, hts, -⟩ := hC
  intro V H locs ls hI hR hL hl
  exact lv_aload_n hx hb hd rfl (lv_at hl i hi) (kk V H locs ls hI hR hL hl)
theorem r_aload (hC : xCtx C own cc nL0 ret rm) {z : Nat} {x : Nat} (i : Nat) (hd : decode cc pc = .ok (.aload z, 2)) (hi : lv[i]? = some (z, .ref x)) (pc1 : Nat) (hp : pc + 2 = pc1) (kk : rn C I k n pc1 lv (.ref x :: st)) : rn C I k n pc lv st := by
  subst hp
  obtain ⟨p, l, e, R, s, m, args, below, meth, c, G, nL, Q, X⟩ := C
  obtain ⟨hx, hb, hml, hnL, hown, hts, -⟩ := hC
  intro V H locs ls hI hR hL hl
  exact lv_aload hx hb hd (lv_at hl i hi) (kk V H locs ls hI hR hL hl)
theorem r_fload_n (hC : xCtx C own cc nL0 ret rm) {z : Fin 4} {x : UInt32} (i : Nat) (hd : decode cc pc = .ok (.fload_n z, 1)) (hi : lv[i]? = some ((z : Nat), .float x)) (pc1 : Nat) (hp : pc + 1 = pc1) (kk : rn C I k n pc1 lv (.float x :: st)) : rn C I k n pc lv st := by
  subst hp
  obtain ⟨p, l, e, R, s, m, args, below, meth, c, G, nL, Q, X⟩ := C
  obtain ⟨hx, hb, hml, hnL, hown, hts, -⟩ := hC
  intro V H locs ls hI hR hL hl
  exact lv_fload_n hx hb hd rfl (lv_at hl i hi) (kk V H locs ls hI hR hL hl)
theorem r_fload (hC : xCtx C own cc nL0 ret rm) {z : Nat} {x : UInt32} (i : Nat) (hd : decode cc pc = .ok (.fload z, 2)) (hi : lv[i]? = some (z, .float x)) (pc1 : Nat) (hp : pc + 2 = pc1) (kk : rn C I k n pc1 lv (.float x :: st)) : rn C I k n pc lv st := by
  subst hp
  obtain ⟨p, l, e, R, s, m, args, below, meth, c, G, nL, Q, X⟩ := C
  obtain ⟨hx, hb, hml, hnL, hown, hts, -⟩ := hC
  intro V H locs ls hI hR hL hl
  exact lv_fload hx hb hd (lv_at hl i hi) (kk V H locs ls hI hR hL hl)
theorem r_dload_n (hC : xCtx C own cc nL0 ret rm) {z : Fin 4} {x : UInt64} (i : Nat) (hd : decode cc pc = .ok (.dload_n z, 1)) (hi : lv[i]? = some ((z : Nat), .double x)) (pc1 : Nat) (hp : pc + 1 = pc1) (kk : rn C I k n pc1 lv (.double x :: st)) : rn C I k n pc lv st := by
  subst hp
  obtain ⟨p, l, e, R, s, m, args, below, meth, c, G, nL, Q, X⟩ := C
  obtain ⟨hx, hb, hml, hnL, hown, hts, -⟩ := hC
  intro V H locs ls hI hR hL hl
  exact lv_dload_n hx hb hd rfl (lv_at hl i hi) (kk V H locs ls hI hR hL hl)
theorem r_dload (hC : xCtx C own cc nL0 ret rm) {z : Nat} {x : UInt64} (i : Nat) (hd : decode cc pc = .ok (.dload z, 2)) (hi : lv[i]? = some (z, .double x)) (pc1 : Nat) (hp : pc + 2 = pc1) (kk : rn C I k n pc1 lv (.double x :: st)) : rn C I k n pc lv st := by
  subst hp
  obtain ⟨p, l, e, R, s, m, args, below, meth, c, G, nL, Q, X⟩ := C
  obtain ⟨hx, hb, hml, hnL, hown, hts, -⟩ := hC
  intro V H locs ls hI hR hL hl
  exact lv_dload hx hb hd (lv_at hl i hi) (kk V H locs ls hI hR hL hl)
theorem r_aload_nN (hC : xCtx C own cc nL0 ret rm) {z : Fin 4} (i : Nat) (hd : decode cc pc = .ok (.aload_n z, 1)) (hi : lv[i]? = some ((z : Nat), .null)) (pc1 : Nat) (hp : pc + 1 = pc1) (kk : rn C I k n pc1 lv (.null :: st)) : rn C I k n pc lv st := by
  subst hp
  obtain ⟨p, l, e, R, s, m, args, below, meth, c, G, nL, Q, X⟩ := C
  obtain ⟨hx, hb, hml, hnL, hown, hts, -⟩ := hC
  intro V H locs ls hI hR hL hl
  exact lv_aload_nN hx hb hd rfl (lv_at hl i hi) (kk V H locs ls hI hR hL hl)
theorem r_aloadN (hC : xCtx C own cc nL0 ret rm) {z : Nat} (i : Nat) (hd : decode cc pc = .ok (.aload z, 2)) (hi : lv[i]? = some (z, .null)) (pc1 : Nat) (hp : pc + 2 = pc1) (kk : rn C I k n pc1 lv (.null :: st)) : rn C I k n pc lv st := by
  subst hp
  obtain ⟨p, l, e, R, s, m, args, below, meth, c, G, nL, Q, X⟩ := C
  obtain ⟨hx, hb, hml, hnL, hown, hts, -⟩ := hC
  intro V H locs ls hI hR hL hl
  exact lv_aloadN hx hb hd (lv_at hl i hi) (kk V H locs ls hI hR hL hl)
theorem r_istore_n (hC : xCtx C own cc nL0 ret rm) {z : Fin 4} {x : Int32} (i : Nat) (lv9 : List (Nat × Value)) (hd : decode cc pc = .ok (.istore_n z, 1)) (hi : (z : Nat) = i) (hn : i < nL0) (hlv : (i, Value.int x) :: lv.filter (fun q => !(q.1 == i) && !(q.1 + 1 == i && q.2.category == 2)) = lv9) (pc1 : Nat) (hp : pc + 1 = pc1) (kk : rn C I k n pc1 lv9 st) : rn C I k n pc lv (.int x :: st) := by
  subst hp
  obtain ⟨p, l, e, R, s, m, args, below, meth, c, G, nL, Q, X⟩ := C
  obtain ⟨hx, hb, hml, hnL, hown, hts, -⟩ := hC
  intro V H locs ls hI hR hL hl
  exact lv_istore_n hx hb hd hi hl (by rw [hnL]; exact hn) hlv (fun ls2 hl2 => kk V H locs ls2 hI hR hL hl2)
theorem r_istore (hC : xCtx C own cc nL0 ret rm) {x : Int32} (i : Nat) (lv9 : List (Nat × Value)) (hd : decode cc pc = .ok (.istore i, 2)) (hn : i < nL0) (hlv : (i, Value.int x) :: lv.filter (fun q => !(q.1 == i) && !(q.1 + 1 == i && q.2.category == 2)) = lv9) (pc1 : Nat) (hp : pc + 2 = pc1) (kk : rn C I k n pc1 lv9 st) : rn C I k n pc lv (.int x :: st) := by
  subst hp
  obtain ⟨p, l, e, R, s, m, args, below, meth, c, G, nL, Q, X⟩ := C
  obtain ⟨hx, hb, hml, hnL, hown, hts, -⟩ := hC
  intro V H locs ls hI hR hL hl
  exact lv_istore hx hb hd hl (by rw [hnL]; exact hn) hlv (fun ls2 hl2 => kk V H locs ls2 hI hR hL hl2)
theorem r_lstore_n (hC : xCtx C own cc nL0 ret rm) {z : Fin 4} {x : Int64} (i : Nat) (lv9 : List (Nat × Value)) (hd : decode cc pc = .ok (.lstore_n z, 1)) (hi : (z : Nat) = i) (hn : i + 1 < nL0) (hlv : (i, Value.long x) :: lv.filter (fun q => !(q.1 == i) && (!(q.1 == i + 1) && !(q.1 + 1 == i && q.2.category == 2))) = lv9) (pc1 : Nat) (hp : pc + 1 = pc1) (kk : rn C I k n pc1 lv9 st) : rn C I k n pc lv (.long x :: st) := by
  subst hp
  obtain ⟨p, l, e, R, s, m, args, below, meth, c, G, nL, Q, X⟩ := C
  obtain ⟨hx, hb, hml, hnL, hown, hts, -⟩ := hC
  intro V H locs ls hI hR hL hl
  exact lv_lstore_n hx hb hd hi hl (by rw [hnL]; exact hn) hlv (fun ls2 hl2 => kk V H locs ls2 hI hR hL hl2)
theorem r_lstore (hC : xCtx C own cc nL0 ret rm) {x : Int64} (i : Nat) (lv9 : List (Nat × Value)) (hd : decode cc pc = .ok (.lstore i, 2)) (hn : i + 1 < nL0) (hlv : (i, Value.long x) :: lv.filter (fun q => !(q.1 == i) && (!(q.1 == i + 1) && !(q.1 + 1 == i && q.2.category == 2))) = lv9) (pc1 : Nat) (hp : pc + 2 = pc1) (kk : rn C I k n pc1 lv9 st) : rn C I k n pc lv (.long x :: st) := by
  subst hp
  obtain ⟨p, l, e, R, s, m, args, below, meth, c, G, nL, Q, X⟩ := C
  obtain ⟨hx, hb, hml, hnL, hown, hts, -⟩ := hC
  intro V H locs ls hI hR hL hl
  exact lv_lstore hx hb hd hl (by rw [hnL]; exact hn) hlv (fun ls2 hl2 => kk V H locs ls2 hI hR hL hl2)
theorem r_astore_n (hC : xCtx C own cc nL0 ret rm) {z : Fin 4} {x : Nat} (i : Nat) (lv9 : List (Nat × Value)) (hd : decode cc pc = .ok (.astore_n z, 1)) (hi : (z : Nat) = i) (hn : i < nL0) (hlv : (i, Value.ref x) :: lv.filter (fun q => !(q.1 == i) && !(q.1 + 1 == i && q.2.category == 2)) = lv9) (pc1 : Nat) (hp : pc + 1 = pc1) (kk : rn C I k n pc1 lv9 st) : rn C I k n pc lv (.ref x :: st) := by
  subst hp
  obtain ⟨p, l, e, R, s, m, args, below, meth, c, G, nL, Q, X⟩ := C
  obtain ⟨hx, hb, hml, hnL, hown, hts, -⟩ := hC
  intro V H locs ls hI hR hL hl
  exact lv_astore_n hx hb hd hi hl (by rw [hnL]; exact hn) hlv (fun ls2 hl2 => kk V H locs ls2 hI hR hL hl2)
theorem r_astore (hC : xCtx C own cc nL0 ret rm) {x : Nat} (i : Nat) (lv9 : List (Nat × Value)) (hd : decode cc pc = .ok (.astore i, 2)) (hn : i < nL0) (hlv : (i, Value.ref x) :: lv.filter (fun q => !(q.1 == i) && !(q.1 + 1 == i && q.2.category == 2)) = lv9) (pc1 : Nat) (hp : pc + 2 = pc1) (kk : rn C I k n pc1 lv9 st) : rn C I k n pc lv (.ref x :: st) := by
  subst hp
  obtain ⟨p, l, e, R, s, m, args, below, meth, c, G, nL, Q, X⟩ := C
  obtain ⟨hx, hb, hml, hnL, hown, hts, -⟩ := hC
  intro V H locs ls hI hR hL hl
  exact lv_astore hx hb hd hl (by rw [hnL]; exact hn) hlv (fun ls2 hl2 => kk V H locs ls2 hI hR hL hl2)
theorem r_fstore_n (hC : xCtx C own cc nL0 ret rm) {z : Fin 4} {x : UInt32} (i : Nat) (lv9 : List (Nat × Value)) (hd : decode cc pc = .ok (.fstore_n z, 1)) (hi : (z : Nat) = i) (hn : i < nL0) (hlv : (i, Value.float x) :: lv.filter (fun q => !(q.1 == i) && !(q.1 + 1 == i && q.2.category == 2)) = lv9) (pc1 : Nat) (hp : pc + 1 = pc1) (kk : rn C I k n pc1 lv9 st) : rn C I k n pc lv (.float x :: st) := by
  subst hp
  obtain ⟨p, l, e, R, s, m, args, below, meth, c, G, nL, Q, X⟩ := C
  obtain ⟨hx, hb, hml, hnL, hown, hts, -⟩ := hC
  intro V H locs ls hI hR hL hl
  exact lv_fstore_n hx hb hd hi hl (by rw [hnL]; exact hn) hlv (fun ls2 hl2 => kk V H locs ls2 hI hR hL hl2)
theorem r_fstore (hC : xCtx C own cc nL0 ret rm) {x : UInt32} (i : Nat) (lv9 : List (Nat × Value)) (hd : decode cc pc = .ok (.fstore i, 2)) (hn : i < nL0) (hlv : (i, Value.float x) :: lv.filter (fun q => !(q.1 == i) && !(q.1 + 1 == i && q.2.category == 2)) = lv9) (pc1 : Nat) (hp : pc + 2 = pc1) (kk : rn C I k n pc1 lv9 st) : rn C I k n pc lv (.float x :: st) := by
  subst hp
  obtain ⟨p, l, e, R, s, m, args, below, meth, c, G, nL, Q, X⟩ := C
  obtain ⟨hx, hb, hml, hnL, hown, hts, -⟩ := hC
  intro V H locs ls hI hR hL hl
  exact lv_fstore hx hb hd hl (by rw [hnL]; exact hn) hlv (fun ls2 hl2 => kk V H locs ls2 hI hR hL hl2)
theorem r_dstore_n (hC : xCtx C own cc nL0 ret rm) {z : Fin 4} {x : UInt64} (i : Nat) (lv9 : List (Nat × Value)) (hd : decode cc pc = .ok (.dstore_n z, 1)) (hi : (z : Nat) = i) (hn : i + 1 < nL0) (hlv : (i, Value.double x) :: lv.filter (fun q => !(q.1 == i) && (!(q.1 == i + 1) && !(q.1 + 1 == i && q.2.category == 2))) = lv9) (pc1 : Nat) (hp : pc + 1 = pc1) (kk : rn C I k n pc1 lv9 st) : rn C I k n pc lv (.double x :: st) := by
  subst hp
  obtain ⟨p, l, e, R, s, m, args, below, meth, c, G, nL, Q, X⟩ := C
  obtain ⟨hx, hb, hml, hnL, hown, hts, -⟩ := hC
  intro V H locs ls hI hR hL hl
  exact lv_dstore_n hx hb hd hi hl (by rw [hnL]; exact hn) hlv (fun ls2 hl2 => kk V H locs ls2 hI hR hL hl2)
theorem r_dstore (hC : xCtx C own cc nL0 ret rm) {x : UInt64} (i : Nat) (lv9 : List (Nat × Value)) (hd : decode cc pc = .ok (.dstore i, 2)) (hn : i + 1 < nL0) (hlv : (i, Value.double x) :: lv.filter (fun q => !(q.1 == i) && (!(q.1 == i + 1) && !(q.1 + 1 == i && q.2.category == 2))) = lv9) (pc1 : Nat) (hp : pc + 2 = pc1) (kk : rn C I k n pc1 lv9 st) : rn C I k n pc lv (.double x :: st) := by
  subst hp
  obtain ⟨p, l, e, R, s, m, args, below, meth, c, G, nL, Q, X⟩ := C
  obtain ⟨hx, hb, hml, hnL, hown, hts, -⟩ := hC
  intro V H locs ls hI hR hL hl
  exact lv_dstore hx hb hd hl (by rw [hnL]; exact hn) hlv (fun ls2 hl2 => kk V H locs ls2 hI hR hL hl2)
theorem r_astore_nN (hC : xCtx C own cc nL0 ret rm) {z : Fin 4} (i : Nat) (lv9 : List (Nat × Value)) (hd : decode cc pc = .ok (.astore_n z, 1)) (hi : (z : Nat) = i) (hn : i < nL0) (hlv : (i, Value.null) :: lv.filter (fun q => !(q.1 == i) && !(q.1 + 1 == i && q.2.category == 2)) = lv9) (pc1 : Nat) (hp : pc + 1 = pc1) (kk : rn C I k n pc1 lv9 st) : rn C I k n pc lv (.null :: st) := by
  subst hp
  obtain ⟨p, l, e, R, s, m, args, below, meth, c, G, nL, Q, X⟩ := C
  obtain ⟨hx, hb, hml, hnL, hown, hts, -⟩ := hC
  intro V H locs ls hI hR hL hl
  exact lv_astore_nN hx hb hd hi hl (by rw [hnL]; exact hn) hlv (fun ls2 hl2 => kk V H locs ls2 hI hR hL hl2)
theorem r_astoreN (hC : xCtx C own cc nL0 ret rm) (i : Nat) (lv9 : List (Nat × Value)) (hd : decode cc pc = .ok (.astore i, 2)) (hn : i < nL0) (hlv : (i, Value.null) :: lv.filter (fun q => !(q.1 == i) && !(q.1 + 1 == i && q.2.category == 2)) = lv9) (pc1 : Nat) (hp : pc + 2 = pc1) (kk : rn C I k n pc1 lv9 st) : rn C I k n pc lv (.null :: st) := by
  subst hp
  obtain ⟨p, l, e, R, s, m, args, below, meth, c, G, nL, Q, X⟩ := C
  obtain ⟨hx, hb, hml, hnL, hown, hts, -⟩ := hC
  intro V H locs ls hI hR hL hl
  exact lv_astoreN hx hb hd hl (by rw [hnL]; exact hn) hlv (fun ls2 hl2 => kk V H locs ls2 hI hR hL hl2)
theorem r_iinc (hC : xCtx C own cc nL0 ret rm) {z : Int} {x : Int32} (v : Int32) (i j : Nat) (lv9 : List (Nat × Value)) (hd : decode cc pc = .ok (.iinc i z, 3)) (hj : lv[j]? = some (i, .int x)) (hv : x + Int32.ofInt z = v) (hn : i < nL0) (hlv : (i, Value.int v) :: lv.filter (fun q => !(q.1 == i) && !(q.1 + 1 == i && q.2.category == 2)) = lv9) (pc1 : Nat) (hp : pc + 3 = pc1) (kk : rn C I k n pc1 lv9 st) : rn C I k n pc lv st := by
  subst hp
  obtain ⟨p, l, e, R, s, m, args, below, meth, c, G, nL, Q, X⟩ := C
  obtain ⟨hx, hb, hml, hnL, hown, hts, -⟩ := hC
  intro V H locs ls hI hR hL hl
  exact lv_iinc hx hb hd hl hj hv (by rw [hnL]; exact hn) hlv (fun ls2 hl2 => kk V H locs ls2 hI hR hL hl2)
theorem r_iadd (hC : xCtx C own cc nL0 ret rm) {x y : Int32} (v : Int32) (hd : decode cc pc = .ok (.iadd, 1))  (hv : x + y = v) (pc1 : Nat) (hp : pc + 1 = pc1) (kk : rn C I k n pc1 lv (.int v :: st)) : rn C I k n pc lv (.int y :: .int x :: st) := by
  subst hp
  obtain ⟨p, l, e, R, s, m, args, below, meth, c, G, nL, Q, X⟩ := C
  obtain ⟨hx, hb, hml, hnL, hown, hts, -⟩ := hC
  intro V H locs ls hI hR hL hl
  exact lv_iadd hx hb hd  (by rw [hv]; exact kk V H locs ls hI hR hL hl)
theorem r_isub (hC : xCtx C own cc nL0 ret rm) {x y : Int32} (v : Int32) (hd : decode cc pc = .ok (.isub, 1))  (hv : x - y = v) (pc1 : Nat) (hp : pc + 1 = pc1) (kk : rn C I k n pc1 lv (.int v :: st)) : rn C I k n pc lv (.int y :: .int x :: st) := by
  subst hp
  obtain ⟨p, l, e, R, s, m, args, below, meth, c, G, nL, Q, X⟩ := C
  obtain ⟨hx, hb, hml, hnL, hown, hts, -⟩ := hC
  intro V H locs ls hI hR hL hl
  exact lv_isub hx hb hd  (by rw [hv]; exact kk V H locs ls hI hR hL hl)
theorem r_imul (hC : xCtx C own cc nL0 ret rm) {x y : Int32} (v : Int32) (hd : decode cc pc = .ok (.imul, 1))  (hv : x * y = v) (pc1 : Nat) (hp : pc + 1 = pc1) (kk : rn C I k n pc1 lv (.int v :: st)) : rn C I k n pc lv (.int y :: .int x :: st) := by
  subst hp
  obtain ⟨p, l, e, R, s, m, args, below, meth, c, G, nL, Q, X⟩ := C
  obtain ⟨hx, hb, hml, hnL, hown, hts, -⟩ := hC
  intro V H locs ls hI hR hL hl
  exact lv_imul hx hb hd  (by rw [hv]; exact kk V H locs ls hI hR hL hl)
theorem r_iand (hC : xCtx C own cc nL0 ret rm) {x y : Int32} (v : Int32) (hd : decode cc pc = .ok (.iand, 1))  (hv : x &&& y = v) (pc1 : Nat) (hp : pc + 1 = pc1) (kk : rn C I k n pc1 lv (.int v :: st)) : rn C I k n pc lv (.int y :: .int x :: st) := by
  subst hp
  obtain ⟨p, l, e, R, s, m, args, below, meth, c, G, nL, Q, X⟩ := C
  obtain ⟨hx, hb, hml, hnL, hown, hts, -⟩ := hC
  intro V H locs ls hI hR hL hl
  exact lv_iand hx hb hd  (by rw [hv]; exact kk V H locs ls hI hR hL hl)
theorem r_ior (hC : xCtx C own cc nL0 ret rm) {x y : Int32} (v : Int32) (hd : decode cc pc = .ok (.ior, 1))  (hv : x ||| y = v) (pc1 : Nat) (hp : pc + 1 = pc1) (kk : rn C I k n pc1 lv (.int v :: st)) : rn C I k n pc lv (.int y :: .int x :: st) := by
  subst hp
  obtain ⟨p, l, e, R, s, m, args, below, meth, c, G, nL, Q, X⟩ := C
  obtain ⟨hx, hb, hml, hnL, hown, hts, -⟩ := hC
  intro V H locs ls hI hR hL hl
  exact lv_ior hx hb hd  (by rw [hv]; exact kk V H locs ls hI hR hL hl)
theorem r_ixor (hC : xCtx C own cc nL0 ret rm) {x y : Int32} (v : Int32) (hd : decode cc pc = .ok (.ixor, 1))  (hv : x ^^^ y = v) (pc1 : Nat) (hp : pc + 1 = pc1) (kk : rn C I k n pc1 lv (.int v :: st)) : rn C I k n pc lv (.int y :: .int x :: st) := by
  subst hp
  obtain ⟨p, l, e, R, s, m, args, below, meth, c, G, nL, Q, X⟩ := C
  obtain ⟨hx, hb, hml, hnL, hown, hts, -⟩ := hC
  intro V H locs ls hI hR hL hl
  exact lv_ixor hx hb hd  (by rw [hv]; exact kk V H locs ls hI hR hL hl)
theorem r_ishl (hC : xCtx C own cc nL0 ret rm) {x y : Int32} (v : Int32) (hd : decode cc pc = .ok (.ishl, 1))  (hv : x <<< (y &&& 31) = v) (pc1 : Nat) (hp : pc + 1 = pc1) (kk : rn C I k n pc1 lv (.int v :: st)) : rn C I k n pc lv (.int y :: .int x :: st) := by
  subst hp
  obtain ⟨p, l, e, R, s, m, args, below, meth, c, G, nL, Q, X⟩ := C
  obtain ⟨hx, hb, hml, hnL, hown, hts, -⟩ := hC
  intro V H locs ls hI hR hL hl
  exact lv_ishl hx hb hd  (by rw [hv]; exact kk V H locs ls hI hR hL hl)
theorem r_ishr (hC : xCtx C own cc nL0 ret rm) {x y : Int32} (v : Int32) (hd : decode cc pc = .ok (.ishr, 1))  (hv : x >>> (y &&& 31) = v) (pc1 : Nat) (hp : pc + 1 = pc1) (kk : rn C I k n pc1 lv (.int v :: st)) : rn C I k n pc lv (.int y :: .int x :: st) := by
  subst hp
  obtain ⟨p, l, e, R, s, m, args, below, meth, c, G, nL, Q, X⟩ := C
  obtain ⟨hx, hb, hml, hnL, hown, hts, -⟩ := hC
  intro V H locs ls hI hR hL hl
  exact lv_ishr hx hb hd  (by rw [hv]; exact kk V H locs ls hI hR hL hl)
theorem r_idiv (hC : xCtx C own cc nL0 ret rm) {x y : Int32} (v : Int32) (hd : decode cc pc = .ok (.idiv, 1)) (hne : ¬ y = 0) (hv : x / y = v) (pc1 : Nat) (hp : pc + 1 = pc1) (kk : rn C I k n pc1 lv (.int v :: st)) : rn C I k n pc lv (.int y :: .int x :: st) := by
  subst hp
  obtain ⟨p, l, e, R, s, m, args, below, meth, c, G, nL, Q, X⟩ := C
  obtain ⟨hx, hb, hml, hnL, hown, hts, -⟩ := hC
  intro V H locs ls hI hR hL hl
  exact lv_idiv hx hb hd hne (by rw [hv]; exact kk V H locs ls hI hR hL hl)
theorem r_irem (hC : xCtx C own cc nL0 ret rm) {x y : Int32} (v : Int32) (hd : decode cc pc = .ok (.irem, 1)) (hne : ¬ y = 0) (hv : x - x / y * y = v) (pc1 : Nat) (hp : pc + 1 = pc1) (kk : rn C I k n pc1 lv (.int v :: st)) : rn C I k n pc lv (.int y :: .int x :: st) := by
  subst hp
  obtain ⟨p, l, e, R, s, m, args, below, meth, c, G, nL, Q, X⟩ := C
  obtain ⟨hx, hb, hml, hnL, hown, hts, -⟩ := hC
  intro V H locs ls hI hR hL hl
  exact lv_irem hx hb hd hne (by rw [hv]; exact kk V H locs ls hI hR hL hl)
theorem r_ladd (hC : xCtx C own cc nL0 ret rm) {x y : Int64} (v : Int64) (hd : decode cc pc = .ok (.ladd, 1))  (hv : x + y = v) (pc1 : Nat) (hp : pc + 1 = pc1) (kk : rn C I k n pc1 lv (.long v :: st)) : rn C I k n pc lv (.long y :: .long x :: st) := by
  subst hp
  obtain ⟨p, l, e, R, s, m, args, below, meth, c, G, nL, Q, X⟩ := C
  obtain ⟨hx, hb, hml, hnL, hown, hts, -⟩ := hC
  intro V H locs ls hI hR hL hl
  exact lv_ladd hx hb hd  (by rw [hv]; exact kk V H locs ls hI hR hL hl)
theorem r_lsub (hC : xCtx C own cc nL0 ret rm) {x y : Int64} (v : Int64) (hd : decode cc pc = .ok (.lsub, 1))  (hv : x - y = v) (pc1 : Nat) (hp : pc + 1 = pc1) (kk : rn C I k n pc1 lv (.long v :: st)) : rn C I k n pc lv (.long y :: .long x :: st) := by
  subst hp
  obtain ⟨p, l, e, R, s, m, args, below, meth, c, G, nL, Q, X⟩ := C
  obtain ⟨hx, hb, hml, hnL, hown, hts, -⟩ := hC
  intro V H locs ls hI hR hL hl
  exact lv_lsub hx hb hd  (by rw [hv]; exact kk V H locs ls hI hR hL hl)
theorem r_lmul (hC : xCtx C own cc nL0 ret rm) {x y : Int64} (v : Int64) (hd : decode cc pc = .ok (.lmul, 1))  (hv : x * y = v) (pc1 : Nat) (hp : pc + 1 = pc1) (kk : rn C I k n pc1 lv (.long v :: st)) : rn C I k n pc lv (.long y :: .long x :: st) := by
  subst hp
  obtain ⟨p, l, e, R, s, m, args, below, meth, c, G, nL, Q, X⟩ := C
  obtain ⟨hx, hb, hml, hnL, hown, hts, -⟩ := hC
  intro V H locs ls hI hR hL hl
  exact lv_lmul hx hb hd  (by rw [hv]; exact kk V H locs ls hI hR hL hl)
theorem r_land (hC : xCtx C own cc nL0 ret rm) {x y : Int64} (v : Int64) (hd : decode cc pc = .ok (.land, 1))  (hv : x &&& y = v) (pc1 : Nat) (hp : pc + 1 = pc1) (kk : rn C I k n pc1 lv (.long v :: st)) : rn C I k n pc lv (.long y :: .long x :: st) := by
  subst hp
  obtain ⟨p, l, e, R, s, m, args, below, meth, c, G, nL, Q, X⟩ := C
  obtain ⟨hx, hb, hml, hnL, hown, hts, -⟩ := hC
  intro V H locs ls hI hR hL hl
  exact lv_land hx hb hd  (by rw [hv]; exact kk V H locs ls hI hR hL hl)
theorem r_lor (hC : xCtx C own cc nL0 ret rm) {x y : Int64} (v : Int64) (hd : decode cc pc = .ok (.lor, 1))  (hv : x ||| y = v) (pc1 : Nat) (hp : pc + 1 = pc1) (kk : rn C I k n pc1 lv (.long v :: st)) : rn C I k n pc lv (.long y :: .long x :: st) := by
  subst hp
  obtain ⟨p, l, e, R, s, m, args, below, meth, c, G, nL, Q, X⟩ := C
  obtain ⟨hx, hb, hml, hnL, hown, hts, -⟩ := hC
  intro V H locs ls hI hR hL hl
  exact lv_lor hx hb hd  (by rw [hv]; exact kk V H locs ls hI hR hL hl)
theorem r_lxor (hC : xCtx C own cc nL0 ret rm) {x y : Int64} (v : Int64) (hd : decode cc pc = .ok (.lxor, 1))  (hv : x ^^^ y = v) (pc1 : Nat) (hp : pc + 1 = pc1) (kk : rn C I k n pc1 lv (.long v :: st)) : rn C I k n pc lv (.long y :: .long x :: st) := by
  subst hp
  obtain ⟨p, l, e, R, s, m, args, below, meth, c, G, nL, Q, X⟩ := C
  obtain ⟨hx, hb, hml, hnL, hown, hts, -⟩ := hC
  intro V H locs ls hI hR hL hl
  exact lv_lxor hx hb hd  (by rw [hv]; exact kk V H locs ls hI hR hL hl)
theorem r_ldiv (hC : xCtx C own cc nL0 ret rm) {x y : Int64} (v : Int64) (hd : decode cc pc = .ok (.ldiv, 1)) (hne : ¬ y = 0) (hv : x / y = v) (pc1 : Nat) (hp : pc + 1 = pc1) (kk : rn C I k n pc1 lv (.long v :: st)) : rn C I k n pc lv (.long y :: .long x :: st) := by
  subst hp
  obtain ⟨p, l, e, R, s, m, args, below, meth, c, G, nL, Q, X⟩ := C
  obtain ⟨hx, hb, hml, hnL, hown, hts, -⟩ := hC
  intro V H locs ls hI hR hL hl
  exact lv_ldiv hx hb hd hne (by rw [hv]; exact kk V H locs ls hI hR hL hl)
theorem r_lrem (hC : xCtx C own cc nL0 ret rm) {x y : Int64} (v : Int64) (hd : decode cc pc = .ok (.lrem, 1)) (hne : ¬ y = 0) (hv : x - x / y * y = v) (pc1 : Nat) (hp : pc + 1 = pc1) (kk : rn C I k n pc1 lv (.long v :: st)) : rn C I k n pc lv (.long y :: .long x :: st) := by
  subst hp
  obtain ⟨p, l, e, R, s, m, args, below, meth, c, G, nL, Q, X⟩ := C
  obtain ⟨hx, hb, hml, hnL, hown, hts, -⟩ := hC
  intro V H locs ls hI hR hL hl
  exact lv_lrem hx hb hd hne (by rw [hv]; exact kk V H locs ls hI hR hL hl)
theorem r_iushr (hC : xCtx C own cc nL0 ret rm) {x y : Int32} (v : Int32) (hd : decode cc pc = .ok (.iushr, 1)) (hv : (x.toUInt32 >>> (y.toUInt32 &&& Int32.toUInt32 31)).toInt32 = v) (pc1 : Nat) (hp : pc + 1 = pc1) (kk : rn C I k n pc1 lv (.int v :: st)) : rn C I k n pc lv (.int y :: .int x :: st) := by
  subst hp
  obtain ⟨p, l, e, R, s, m, args, below, meth, c, G, nL, Q, X⟩ := C
  obtain ⟨hx, hb, hml, hnL, hown, hts, -⟩ := hC
  intro V H locs ls hI hR hL hl
  exact lv_iushr hx hb hd hv (kk V H locs ls hI hR hL hl)
theorem r_ineg (hC : xCtx C own cc nL0 ret rm) {x : Int32} (v : Int32) (hd : decode cc pc = .ok (.ineg, 1)) (hv : -x = v) (pc1 : Nat) (hp : pc + 1 = pc1) (kk : rn C I k n pc1 lv (.int v :: st)) : rn C I k n pc lv (.int x :: st) := by
  subst hp
  obtain ⟨p, l, e, R, s, m, args, below, meth, c, G, nL, Q, X⟩ := C
  obtain ⟨hx, hb, hml, hnL, hown, hts, -⟩ := hC
  intro V H locs ls hI hR hL hl
  exact lv_ineg hx hb hd (by rw [hv]; exact kk V H locs ls hI hR hL hl)
theorem r_lneg (hC : xCtx C own cc nL0 ret rm) {x : Int64} (v : Int64) (hd : decode cc pc = .ok (.lneg, 1)) (hv : -x = v) (pc1 : Nat) (hp : pc + 1 = pc1) (kk : rn C I k n pc1 lv (.long v :: st)) : rn C I k n pc lv (.long x :: st) := by
  subst hp
  obtain ⟨p, l, e, R, s, m, args, below, meth, c, G, nL, Q, X⟩ := C
  obtain ⟨hx, hb, hml, hnL, hown, hts, -⟩ := hC
  intro V H locs ls hI hR hL hl
  exact lv_lneg hx hb hd (by rw [hv]; exact kk V H locs ls hI hR hL hl)
theorem r_i2l (hC : xCtx C own cc nL0 ret rm) {x : Int32} (v : Int64) (hd : decode cc pc = .ok (.i2l, 1)) (hv : x.toInt64 = v) (pc1 : Nat) (hp : pc + 1 = pc1) (kk : rn C I k n pc1 lv (.long v :: st)) : rn C I k n pc lv (.int x :: st) := by
  subst hp
  obtain ⟨p, l, e, R, s, m, args, below, meth, c, G, nL, Q, X⟩ := C
  obtain ⟨hx, hb, hml, hnL, hown, hts, -⟩ := hC
  intro V H locs ls hI hR hL hl
  exact lv_i2l hx hb hd hv (kk V H locs ls hI hR hL hl)
theorem r_l2i (hC : xCtx C own cc nL0 ret rm) {x : Int64} (v : Int32) (hd : decode cc pc = .ok (.l2i, 1)) (hv : x.toInt32 = v) (pc1 : Nat) (hp : pc + 1 = pc1) (kk : rn C I k n pc1 lv (.int v :: st)) : rn C I k n pc lv (.long x :: st) := by
  subst hp
  obtain ⟨p, l, e, R, s, m, args, below, meth, c, G, nL, Q, X⟩ := C
  obtain ⟨hx, hb, hml, hnL, hown, hts, -⟩ := hC
  intro V H locs ls hI hR hL hl
  exact lv_l2i hx hb hd hv (kk V H locs ls hI hR hL hl)
theorem r_i2b (hC : xCtx C own cc nL0 ret rm) {x : Int32} (v : Int32) (hd : decode cc pc = .ok (.i2b, 1)) (hv : x.toInt8.toInt32 = v) (pc1 : Nat) (hp : pc + 1 = pc1) (kk : rn C I k n pc1 lv (.int v :: st)) : rn C I k n pc lv (.int x :: st) := by
  subst hp
  obtain ⟨p, l, e, R, s, m, args, below, meth, c, G, nL, Q, X⟩ := C
  obtain ⟨hx, hb, hml, hnL, hown, hts, -⟩ := hC
  intro V H locs ls hI hR hL hl
  exact lv_i2b hx hb hd hv (kk V H locs ls hI hR hL hl)
theorem r_i2c (hC : xCtx C own cc nL0 ret rm) {x : Int32} (v : Int32) (hd : decode cc pc = .ok (.i2c, 1)) (hv : (x.toUInt32 % 65536).toInt32 = v) (pc1 : Nat) (hp : pc + 1 = pc1) (kk : rn C I k n pc1 lv (.int v :: st)) : rn C I k n pc lv (.int x :: st) := by
  subst hp
  obtain ⟨p, l, e, R, s, m, args, below, meth, c, G, nL, Q, X⟩ := C
  obtain ⟨hx, hb, hml, hnL, hown, hts, -⟩ := hC
  intro V H locs ls hI hR hL hl
  exact lv_i2c hx hb hd hv (kk V H locs ls hI hR hL hl)
theorem r_i2f (hC : xCtx C own cc nL0 ret rm) {x : Int32} (hd : decode cc pc = .ok (.i2f, 1)) (pc1 : Nat) (hp : pc + 1 = pc1) (kk : rn C I k n pc1 lv (.float (FP.i2f x) :: st)) : rn C I k n pc lv (.int x :: st) := by
  subst hp
  obtain ⟨p, l, e, R, s, m, args, below, meth, c, G, nL, Q, X⟩ := C
  obtain ⟨hx, hb, hml, hnL, hown, hts, -⟩ := hC
  intro V H locs ls hI hR hL hl
  exact lv_i2f hx hb hd (kk V H locs ls hI hR hL hl)
theorem r_l2f (hC : xCtx C own cc nL0 ret rm) {x : Int64} (hd : decode cc pc = .ok (.l2f, 1)) (pc1 : Nat) (hp : pc + 1 = pc1) (kk : rn C I k n pc1 lv (.float (FP.l2f x) :: st)) : rn C I k n pc lv (.long x :: st) := by
  subst hp
  obtain ⟨p, l, e, R, s, m, args, below, meth, c, G, nL, Q, X⟩ := C
  obtain ⟨hx, hb, hml, hnL, hown, hts, -⟩ := hC
  intro V H locs ls hI hR hL hl
  exact lv_l2f hx hb hd (kk V H locs ls hI hR hL hl)
theorem r_l2d (hC : xCtx C own cc nL0 ret rm) {x : Int64} (hd : decode cc pc = .ok (.l2d, 1)) (pc1 : Nat) (hp : pc + 1 = pc1) (kk : rn C I k n pc1 lv (.double (FP.l2d x) :: st)) : rn C I k n pc lv (.long x :: st) := by
  subst hp
  obtain ⟨p, l, e, R, s, m, args, below, meth, c, G, nL, Q, X⟩ := C
  obtain ⟨hx, hb, hml, hnL, hown, hts, -⟩ := hC
  intro V H locs ls hI hR hL hl
  exact lv_l2d hx hb hd (kk V H locs ls hI hR hL hl)
theorem r_f2d (hC : xCtx C own cc nL0 ret rm) {x : UInt32} (hd : decode cc pc = .ok (.f2d, 1)) (hne : vf_n64 (FP.f2d x)) (pc1 : Nat) (hp : pc + 1 = pc1) (kk : rn C I k n pc1 lv (.double (FP.f2d x) :: st)) : rn C I k n pc lv (.float x :: st) := by
  subst hp
  obtain ⟨p, l, e, R, s, m, args, below, meth, c, G, nL, Q, X⟩ := C
  obtain ⟨hx, hb, hml, hnL, hown, hts, -⟩ := hC
  intro V H locs ls hI hR hL hl
  exact lv_f2d hx hb hd hne (kk V H locs ls hI hR hL hl)
theorem r_fdiv (hC : xCtx C own cc nL0 ret rm) {x y : UInt32} (hd : decode cc pc = .ok (.fdiv, 1)) (hne : vf_n32 (FP.fdiv x y)) (pc1 : Nat) (hp : pc + 1 = pc1) (kk : rn C I k n pc1 lv (.float (FP.fdiv x y) :: st)) : rn C I k n pc lv (.float y :: .float x :: st) := by
  subst hp
  obtain ⟨p, l, e, R, s, m, args, below, meth, c, G, nL, Q, X⟩ := C
  obtain ⟨hx, hb, hml, hnL, hown, hts, -⟩ := hC
  intro V H locs ls hI hR hL hl
  exact lv_fdiv hx hb hd hne (kk V H locs ls hI hR hL hl)
theorem r_ddiv (hC : xCtx C own cc nL0 ret rm) {x y : UInt64} (hd : decode cc pc = .ok (.ddiv, 1)) (hne : vf_n64 (FP.ddiv x y)) (pc1 : Nat) (hp : pc + 1 = pc1) (kk : rn C I k n pc1 lv (.double (FP.ddiv x y) :: st)) : rn C I k n pc lv (.double y :: .double x :: st) := by
  subst hp
  obtain ⟨p, l, e, R, s, m, args, below, meth, c, G, nL, Q, X⟩ := C
  obtain ⟨hx, hb, hml, hnL, hown, hts, -⟩ := hC
  intro V H locs ls hI hR hL hl
  exact lv_ddiv hx hb hd hne (kk V H locs ls hI hR hL hl)
theorem r_dcmp (hC : xCtx C own cc nL0 ret rm) {x y : UInt64} {op : CmpOp} (hd : decode cc pc = .ok (.dcmp op, 1)) (pc1 : Nat) (hp : pc + 1 = pc1) (kk : rn C I k n pc1 lv (.int (Op.cmpValue (FP.dcmp x y) op) :: st)) : rn C I k n pc lv (.double y :: .double x :: st) := by
  subst hp
  obtain ⟨p, l, e, R, s, m, args, below, meth, c, G, nL, Q, X⟩ := C
  obtain ⟨hx, hb, hml, hnL, hown, hts, -⟩ := hC
  intro V H locs ls hI hR hL hl
  exact lv_dcmp hx hb hd (kk V H locs ls hI hR hL hl)
theorem r_lcmp (hC : xCtx C own cc nL0 ret rm) {x y : Int64} (hd : decode cc pc = .ok (.lcmp, 1)) (pc1 : Nat) (hp : pc + 1 = pc1) (kk : rn C I k n pc1 lv (.int (lg_cmp x y) :: st)) : rn C I k n pc lv (.long y :: .long x :: st) := by
  subst hp
  obtain ⟨p, l, e, R, s, m, args, below, meth, c, G, nL, Q, X⟩ := C
  obtain ⟨hx, hb, hml, hnL, hown, hts, -⟩ := hC
  intro V H locs ls hI hR hL hl
  exact W.lcmp hx hb hd (kk V H locs ls hI hR hL hl)
theorem r_dup (hC : xCtx C own cc nL0 ret rm) {va : Value} (hd : decode cc pc = .ok (.dup, 1)) (hva : va.category = 1)  (pc1 : Nat) (hp : pc + 1 = pc1) (kk : rn C I k n pc1 lv (va :: va :: st)) : rn C I k n pc lv (va :: st) := by
  subst hp
  obtain ⟨p, l, e, R, s, m, args, below, meth, c, G, nL, Q, X⟩ := C
  obtain ⟨hx, hb, hml, hnL, hown, hts, -⟩ := hC
  intro V H locs ls hI hR hL hl
  exact lv_dup hx hb hd hva (kk V H locs ls hI hR hL hl)
theorem r_pop (hC : xCtx C own cc nL0 ret rm) {va : Value} (hd : decode cc pc = .ok (.pop, 1)) (hva : va.category = 1)  (pc1 : Nat) (hp : pc + 1 = pc1) (kk : rn C I k n pc1 lv st) : rn C I k n pc lv (va :: st) := by
  subst hp
  obtain ⟨p, l, e, R, s, m, args, below, meth, c, G, nL, Q, X⟩ := C
  obtain ⟨hx, hb, hml, hnL, hown, hts, -⟩ := hC
  intro V H locs ls hI hR hL hl
  exact lv_pop hx hb hd hva (kk V H locs ls hI hR hL hl)
theorem r_dup_x1 (hC : xCtx C own cc nL0 ret rm) {va vb : Value} (hd : decode cc pc = .ok (.dup_x1, 1)) (hva : va.category = 1) (hvb : vb.category = 1)  (pc1 : Nat) (hp : pc + 1 = pc1) (kk : rn C I k n pc1 lv (va :: vb :: va :: st)) : rn C I k n pc lv (va :: vb :: st) := by
  subst hp
  obtain ⟨p, l, e, R, s, m, args, below, meth, c, G, nL, Q, X⟩ := C
  obtain ⟨hx, hb, hml, hnL, hown, hts, -⟩ := hC
  intro V H locs ls hI hR hL hl
  exact lv_dup_x1 hx hb hd hva hvb (kk V H locs ls hI hR hL hl)
theorem r_dup2 (hC : xCtx C own cc nL0 ret rm) {va vb : Value} (hd : decode cc pc = .ok (.dup2, 1)) (hva : va.category = 1) (hvb : vb.category = 1)  (pc1 : Nat) (hp : pc + 1 = pc1) (kk : rn C I k n pc1 lv (va :: vb :: va :: vb :: st)) : rn C I k n pc lv (va :: vb :: st) := by
  subst hp
  obtain ⟨p, l, e, R, s, m, args, below, meth, c, G, nL, Q, X⟩ := C
  obtain ⟨hx, hb, hml, hnL, hown, hts, -⟩ := hC
  intro V H locs ls hI hR hL hl
  exact lv_dup2_11 hx hb hd hva hvb (kk V H locs ls hI hR hL hl)
theorem r_dup2w (hC : xCtx C own cc nL0 ret rm) {va : Value} (hd : decode cc pc = .ok (.dup2, 1)) (hva : va.category = 2)  (pc1 : Nat) (hp : pc + 1 = pc1) (kk : rn C I k n pc1 lv (va :: va :: st)) : rn C I k n pc lv (va :: st) := by
  subst hp
  obtain ⟨p, l, e, R, s, m, args, below, meth, c, G, nL, Q, X⟩ := C
  obtain ⟨hx, hb, hml, hnL, hown, hts, -⟩ := hC
  intro V H locs ls hI hR hL hl
  exact lv_dup2_2 hx hb hd hva (kk V H locs ls hI hR hL hl)
theorem r_ifeq (hC : xCtx C own cc nL0 ret rm) {x : Int32} {off : Int} (tgt : Nat) (hd : decode cc pc = .ok (.ifCond .eq off, 3)) (ht : (pc : Int) + off = (tgt : Int)) (pc1 : Nat) (hp : pc + 3 = pc1) (kt : x = 0 → rn C I k n tgt lv st) (kf : ¬ x = 0 → rn C I k n pc1 lv st) : rn C I k n pc lv (.int x :: st) := by
  subst hp
  obtain ⟨p, l, e, R, s, m, args, below, meth, c, G, nL, Q, X⟩ := C
  obtain ⟨hx, hb, hml, hnL, hown, hts, -⟩ := hC
  intro V H locs ls hI hR hL hl
  exact lv_if_eq hx hb hd ht (fun h => kt h V H locs ls hI hR hL hl) (fun h => kf h V H locs ls hI hR hL hl)
theorem r_ifne (hC : xCtx C own cc nL0 ret rm) {x : Int32} {off : Int} (tgt : Nat) (hd : decode cc pc = .ok (.ifCond .ne off, 3)) (ht : (pc : Int) + off = (tgt : Int)) (pc1 : Nat) (hp : pc + 3 = pc1) (kt : ¬ x = 0 → rn C I k n tgt lv st) (kf : x = 0 → rn C I k n pc1 lv st) : rn C I k n pc lv (.int x :: st) := by
  subst hp
  obtain ⟨p, l, e, R, s, m, args, below, meth, c, G, nL, Q, X⟩ := C
  obtain ⟨hx, hb, hml, hnL, hown, hts, -⟩ := hC
  intro V H locs ls hI hR hL hl
  exact lv_if_ne hx hb hd ht (fun h => kt h V H locs ls hI hR hL hl) (fun h => kf h V H locs ls hI hR hL hl)
theorem r_iflt (hC : xCtx C own cc nL0 ret rm) {x : Int32} {off : Int} (tgt : Nat) (hd : decode cc pc = .ok (.ifCond .lt off, 3)) (ht : (pc : Int) + off = (tgt : Int)) (pc1 : Nat) (hp : pc + 3 = pc1) (kt : x < 0 → rn C I k n tgt lv st) (kf : ¬ x < 0 → rn C I k n pc1 lv st) : rn C I k n pc lv (.int x :: st) := by
  subst hp
  obtain ⟨p, l, e, R, s, m, args, below, meth, c, G, nL, Q, X⟩ := C
  obtain ⟨hx, hb, hml, hnL, hown, hts, -⟩ := hC
  intro V H locs ls hI hR hL hl
  exact lv_if_lt hx hb hd ht (fun h => kt h V H locs ls hI hR hL hl) (fun h => kf h V H locs ls hI hR hL hl)
theorem r_ifge (hC : xCtx C own cc nL0 ret rm) {x : Int32} {off : Int} (tgt : Nat) (hd : decode cc pc = .ok (.ifCond .ge off, 3)) (ht : (pc : Int) + off = (tgt : Int)) (pc1 : Nat) (hp : pc + 3 = pc1) (kt : 0 ≤ x → rn C I k n tgt lv st) (kf : ¬ 0 ≤ x → rn C I k n pc1 lv st) : rn C I k n pc lv (.int x :: st) := by
  subst hp
  obtain ⟨p, l, e, R, s, m, args, below, meth, c, G, nL, Q, X⟩ := C
  obtain ⟨hx, hb, hml, hnL, hown, hts, -⟩ := hC
  intro V H locs ls hI hR hL hl
  exact lv_if_ge hx hb hd ht (fun h => kt h V H locs ls hI hR hL hl) (fun h => kf h V H locs ls hI hR hL hl)
theorem r_ifgt (hC : xCtx C own cc nL0 ret rm) {x : Int32} {off : Int} (tgt : Nat) (hd : decode cc pc = .ok (.ifCond .gt off, 3)) (ht : (pc : Int) + off = (tgt : Int)) (pc1 : Nat) (hp : pc + 3 = pc1) (kt : 0 < x → rn C I k n tgt lv st) (kf : ¬ 0 < x → rn C I k n pc1 lv st) : rn C I k n pc lv (.int x :: st) := by
  subst hp
  obtain ⟨p, l, e, R, s, m, args, below, meth, c, G, nL, Q, X⟩ := C
  obtain ⟨hx, hb, hml, hnL, hown, hts, -⟩ := hC
  intro V H locs ls hI hR hL hl
  exact lv_if_gt hx hb hd ht (fun h => kt h V H locs ls hI hR hL hl) (fun h => kf h V H locs ls hI hR hL hl)
theorem r_ifle (hC : xCtx C own cc nL0 ret rm) {x : Int32} {off : Int} (tgt : Nat) (hd : decode cc pc = .ok (.ifCond .le off, 3)) (ht : (pc : Int) + off = (tgt : Int)) (pc1 : Nat) (hp : pc + 3 = pc1) (kt : x ≤ 0 → rn C I k n tgt lv st) (kf : ¬ x ≤ 0 → rn C I k n pc1 lv st) : rn C I k n pc lv (.int x :: st) := by
  subst hp
  obtain ⟨p, l, e, R, s, m, args, below, meth, c, G, nL, Q, X⟩ := C
  obtain ⟨hx, hb, hml, hnL, hown, hts, -⟩ := hC
  intro V H locs ls hI hR hL hl
  exact lv_if_le hx hb hd ht (fun h => kt h V H locs ls hI hR hL hl) (fun h => kf h V H locs ls hI hR hL hl)
theorem r_iceq (hC : xCtx C own cc nL0 ret rm) {x y : Int32} {off : Int} (tgt : Nat) (hd : decode cc pc = .ok (.if_icmp .eq off, 3)) (ht : (pc : Int) + off = (tgt : Int)) (pc1 : Nat) (hp : pc + 3 = pc1) (kt : x = y → rn C I k n tgt lv st) (kf : ¬ x = y → rn C I k n pc1 lv st) : rn C I k n pc lv (.int y :: .int x :: st) := by
  subst hp
  obtain ⟨p, l, e, R, s, m, args, below, meth, c, G, nL, Q, X⟩ := C
  obtain ⟨hx, hb, hml, hnL, hown, hts, -⟩ := hC
  intro V H locs ls hI hR hL hl
  exact lv_icmp_eq hx hb hd ht (fun h => kt h V H locs ls hI hR hL hl) (fun h => kf h V H locs ls hI hR hL hl)
theorem r_icne (hC : xCtx C own cc nL0 ret rm) {x y : Int32} {off : Int} (tgt : Nat) (hd : decode cc pc = .ok (.if_icmp .ne off, 3)) (ht : (pc : Int) + off = (tgt : Int)) (pc1 : Nat) (hp : pc + 3 = pc1) (kt : ¬ x = y → rn C I k n tgt lv st) (kf : x = y → rn C I k n pc1 lv st) : rn C I k n pc lv (.int y :: .int x :: st) := by
  subst hp
  obtain ⟨p, l, e, R, s, m, args, below, meth, c, G, nL, Q, X⟩ := C
  obtain ⟨hx, hb, hml, hnL, hown, hts, -⟩ := hC
  intro V H locs ls hI hR hL hl
  exact lv_icmp_ne hx hb hd ht (fun h => kt h V H locs ls hI hR hL hl) (fun h => kf h V H locs ls hI hR hL hl)
theorem r_iclt (hC : xCtx C own cc nL0 ret rm) {x y : Int32} {off : Int} (tgt : Nat) (hd : decode cc pc = .ok (.if_icmp .lt off, 3)) (ht : (pc : Int) + off = (tgt : Int)) (pc1 : Nat) (hp : pc + 3 = pc1) (kt : x < y → rn C I k n tgt lv st) (kf : ¬ x < y → rn C I k n pc1 lv st) : rn C I k n pc lv (.int y :: .int x :: st) := by
  subst hp
  obtain ⟨p, l, e, R, s, m, args, below, meth, c, G, nL, Q, X⟩ := C
  obtain ⟨hx, hb, hml, hnL, hown, hts, -⟩ := hC
  intro V H locs ls hI hR hL hl
  exact lv_icmp_lt hx hb hd ht (fun h => kt h V H locs ls hI hR hL hl) (fun h => kf h V H locs ls hI hR hL hl)
theorem r_icge (hC : xCtx C own cc nL0 ret rm) {x y : Int32} {off : Int} (tgt : Nat) (hd : decode cc pc = .ok (.if_icmp .ge off, 3)) (ht : (pc : Int) + off = (tgt : Int)) (pc1 : Nat) (hp : pc + 3 = pc1) (kt : y ≤ x → rn C I k n tgt lv st) (kf : ¬ y ≤ x → rn C I k n pc1 lv st) : rn C I k n pc lv (.int y :: .int x :: st) := by
  subst hp
  obtain ⟨p, l, e, R, s, m, args, below, meth, c, G, nL, Q, X⟩ := C
  obtain ⟨hx, hb, hml, hnL, hown, hts, -⟩ := hC
  intro V H locs ls hI hR hL hl
  exact lv_icmp_ge hx hb hd ht (fun h => kt h V H locs ls hI hR hL hl) (fun h => kf h V H locs ls hI hR hL hl)
theorem r_icgt (hC : xCtx C own cc nL0 ret rm) {x y : Int32} {off : Int} (tgt : Nat) (hd : decode cc pc = .ok (.if_icmp .gt off, 3)) (ht : (pc : Int) + off = (tgt : Int)) (pc1 : Nat) (hp : pc + 3 = pc1) (kt : y < x → rn C I k n tgt lv st) (kf : ¬ y < x → rn C I k n pc1 lv st) : rn C I k n pc lv (.int y :: .int x :: st) := by
  subst hp
  obtain ⟨p, l, e, R, s, m, args, below, meth, c, G, nL, Q, X⟩ := C
  obtain ⟨hx, hb, hml, hnL, hown, hts, -⟩ := hC
  intro V H locs ls hI hR hL hl
  exact lv_icmp_gt hx hb hd ht (fun h => kt h V H locs ls hI hR hL hl) (fun h => kf h V H locs ls hI hR hL hl)
theorem r_icle (hC : xCtx C own cc nL0 ret rm) {x y : Int32} {off : Int} (tgt : Nat) (hd : decode cc pc = .ok (.if_icmp .le off, 3)) (ht : (pc : Int) + off = (tgt : Int)) (pc1 : Nat) (hp : pc + 3 = pc1) (kt : x ≤ y → rn C I k n tgt lv st) (kf : ¬ x ≤ y → rn C I k n pc1 lv st) : rn C I k n pc lv (.int y :: .int x :: st) := by
  subst hp
  obtain ⟨p, l, e, R, s, m, args, below, meth, c, G, nL, Q, X⟩ := C
  obtain ⟨hx, hb, hml, hnL, hown, hts, -⟩ := hC
  intro V H locs ls hI hR hL hl
  exact lv_icmp_le hx hb hd ht (fun h => kt h V H locs ls hI hR hL hl) (fun h => kf h V H locs ls hI hR hL hl)
theorem r_goto (hC : xCtx C own cc nL0 ret rm) {off : Int} (tgt : Nat) (hd : decode cc pc = .ok (.goto off, 3)) (ht : (pc : Int) + off = (tgt : Int)) (kk : rn C I k n tgt lv st) : rn C I k n pc lv st := by
  obtain ⟨p, l, e, R, s, m, args, below, meth, c, G, nL, Q, X⟩ := C
  obtain ⟨hx, hb, hml, hnL, hown, hts, -⟩ := hC
  intro V H locs ls hI hR hL hl
  exact lv_goto hx hb hd ht (kk V H locs ls hI hR hL hl)
theorem r_ifnonnull (hC : xCtx C own cc nL0 ret rm) {x : Nat} {off : Int} (tgt : Nat) (hd : decode cc pc = .ok (.ifnonnull off, 3)) (ht : (pc : Int) + off = (tgt : Int)) (kk : rn C I k n tgt lv st) : rn C I k n pc lv (.ref x :: st) := by
  obtain ⟨p, l, e, R, s, m, args, below, meth, c, G, nL, Q, X⟩ := C
  obtain ⟨hx, hb, hml, hnL, hown, hts, -⟩ := hC
  intro V H locs ls hI hR hL hl
  exact lv_ifnonnull hx hb hd ht (kk V H locs ls hI hR hL hl)
theorem r_ifnull (hC : xCtx C own cc nL0 ret rm) {x : Nat} {off : Int} (hd : decode cc pc = .ok (.ifnull off, 3)) (pc1 : Nat) (hp : pc + 3 = pc1) (kk : rn C I k n pc1 lv st) : rn C I k n pc lv (.ref x :: st) := by
  subst hp
  obtain ⟨p, l, e, R, s, m, args, below, meth, c, G, nL, Q, X⟩ := C
  obtain ⟨hx, hb, hml, hnL, hown, hts, -⟩ := hC
  intro V H locs ls hI hR hL hl
  exact lv_ifnull hx hb hd (kk V H locs ls hI hR hL hl)
theorem r_ifnullN (hC : xCtx C own cc nL0 ret rm) {off : Int} (tgt : Nat) (hd : decode cc pc = .ok (.ifnull off, 3)) (ht : (pc : Int) + off = (tgt : Int)) (kk : rn C I k n tgt lv st) : rn C I k n pc lv (.null :: st) := by
  obtain ⟨p, l, e, R, s, m, args, below, meth, c, G, nL, Q, X⟩ := C
  obtain ⟨hx, hb, hml, hnL, hown, hts, -⟩ := hC
  intro V H locs ls hI hR hL hl
  exact lv_ifnullN hx hb hd ht (kk V H locs ls hI hR hL hl)
theorem r_ifnonnullN (hC : xCtx C own cc nL0 ret rm) {off : Int} (hd : decode cc pc = .ok (.ifnonnull off, 3)) (pc1 : Nat) (hp : pc + 3 = pc1) (kk : rn C I k n pc1 lv st) : rn C I k n pc lv (.null :: st) := by
  subst hp
  obtain ⟨p, l, e, R, s, m, args, below, meth, c, G, nL, Q, X⟩ := C
  obtain ⟨hx, hb, hml, hnL, hown, hts, -⟩ := hC
  intro V H locs ls hI hR hL hl
  exact lv_ifnonnullN hx hb hd (kk V H locs ls hI hR hL hl)
theorem r_aceq (hC : xCtx C own cc nL0 ret rm) {rx ry : Option Nat} {off : Int} (tgt : Nat) (hd : decode cc pc = .ok (.if_acmp .eq off, 3)) (ht : (pc : Int) + off = (tgt : Int)) (pc1 : Nat) (hp : pc + 3 = pc1) (kt : rx = ry → rn C I k n tgt lv st) (kf : ¬ rx = ry → rn C I k n pc1 lv st) : rn C I k n pc lv (va_rf ry :: va_rf rx :: st) := by
  subst hp
  obtain ⟨p, l, e, R, s, m, args, below, meth, c, G, nL, Q, X⟩ := C
  obtain ⟨hx, hb, hml, hnL, hown, hts, -⟩ := hC
  intro V H locs ls hI hR hL hl
  exact lv_acmp_eq hx hb hd ht (fun h => kt h V H locs ls hI hR hL hl) (fun h => kf h V H locs ls hI hR hL hl)
theorem r_acne (hC : xCtx C own cc nL0 ret rm) {rx ry : Option Nat} {off : Int} (tgt : Nat) (hd : decode cc pc = .ok (.if_acmp .ne off, 3)) (ht : (pc : Int) + off = (tgt : Int)) (pc1 : Nat) (hp : pc + 3 = pc1) (kt : ¬ rx = ry → rn C I k n tgt lv st) (kf : rx = ry → rn C I k n pc1 lv st) : rn C I k n pc lv (va_rf ry :: va_rf rx :: st) := by
  subst hp
  obtain ⟨p, l, e, R, s, m, args, below, meth, c, G, nL, Q, X⟩ := C
  obtain ⟨hx, hb, hml, hnL, hown, hts, -⟩ := hC
  intro V H locs ls hI hR hL hl
  exact lv_acmp_ne hx hb hd ht (fun h => kt h V H locs ls hI hR hL hl) (fun h => kf h V H locs ls hI hR hL hl)
theorem r_tblIn (hC : xCtx C own cc nL0 ret rm) {dflt lo hi : Int} {offs : Array Int} {len : Nat} {x : Int32} {off : Int} (tgt : Nat) (hd : decode cc pc = .ok (.tableswitch dflt lo hi offs, len)) (h1 : ¬ x.toInt < lo) (h2 : ¬ hi < x.toInt) (ho : offs[(x.toInt - lo).toNat]? = some off) (ht : (pc : Int) + off = (tgt : Int)) (kk : rn C I k n tgt lv st) : rn C I k n pc lv (.int x :: st) := by
  obtain ⟨p, l, e, R, s, m, args, below, meth, c, G, nL, Q, X⟩ := C
  obtain ⟨hx, hb, hml, hnL, hown, hts, -⟩ := hC
  intro V H locs ls hI hR hL hl
  exact lv_tableIn hx hb hd h1 h2 ho ht (kk V H locs ls hI hR hL hl)
theorem r_tblOut (hC : xCtx C own cc nL0 ret rm) {dflt lo hi : Int} {offs : Array Int} {len : Nat} {x : Int32} (tgt : Nat) (hd : decode cc pc = .ok (.tableswitch dflt lo hi offs, len)) (h : x.toInt < lo ∨ hi < x.toInt) (ht : (pc : Int) + dflt = (tgt : Int)) (kk : rn C I k n tgt lv st) : rn C I k n pc lv (.int x :: st) := by
  obtain ⟨p, l, e, R, s, m, args, below, meth, c, G, nL, Q, X⟩ := C
  obtain ⟨hx, hb, hml, hnL, hown, hts, -⟩ := hC
  intro V H locs ls hI hR hL hl
  exact lv_tableOut hx hb hd h ht (kk V H locs ls hI hR hL hl)
theorem r_lookup (hC : xCtx C own cc nL0 ret rm) {dflt : Int} {ps : Array (Int × Int)} {len : Nat} {x : Int32} {off : Int} (tgt : Nat) (hd : decode cc pc = .ok (.lookupswitch dflt ps, len)) (hp : (ps.toList.zip (ps.toList.drop 1)).all (fun (a, next) => a.1 < next.1) = true) (ho : Op.lookupswitch.offset ps.toList dflt x.toInt = off) (ht : (pc : Int) + off = (tgt : Int)) (kk : rn C I k n tgt lv st) : rn C I k n pc lv (.int x :: st) := by
  obtain ⟨p, l, e, R, s, m, args, below, meth, c, G, nL, Q, X⟩ := C
  obtain ⟨hx, hb, hml, hnL, hown, hts, -⟩ := hC
  intro V H locs ls hI hR hL hl
  exact lv_lookup hx hb hd hp ho ht (kk V H locs ls hI hR hL hl)
end XR
/-! ===== readers of the context ===== -/
abbrev xL (C : xC) : Launch := C.2.1
abbrev xGG (C : xC) : xG := C.2.2.2.2.2.2.2.2.2.2.1
abbrev xQ (C : xC) : Option Value → xV → Prop := C.2.2.2.2.2.2.2.2.2.2.2.2.1
abbrev xX (C : xC) : Nat → xV → Prop := C.2.2.2.2.2.2.2.2.2.2.2.2.2
/-! ===== the virtual heap ===== -/
theorem xat.lt {G : xG} {a : Nat} {e : xE} {H : Heap} (h : xat G a e H) : a < H.size := by
  rcases e with ⟨t, x⟩ | ⟨ci, fs⟩
  · exact (Array.getElem?_eq_some_iff.mp h).1
  · unfold xat at h
    dsimp only at h
    split at h
    · obtain ⟨r, -, cell, h1, -⟩ := h
      exact (Array.getElem?_eq_some_iff.mp h1).1
    · obtain ⟨cell, h1, -⟩ := h
      exact (Array.getElem?_eq_some_iff.mp h1).1
theorem xat.kept {G : xG} {a : Nat} {e : xE} {H H1 : Heap} (h : xat G a e H) (hq : H1[a]? = H[a]?) : xat G a e H1 := by
  rcases e with ⟨t, x⟩ | ⟨ci, fs⟩
  · exact hq.trans h
  · unfold xat at h ⊢
    dsimp only at h ⊢
    split at h
    · rename_i hc
      rw [if_pos hc]
      obtain ⟨r, h0, cell, h1, h2⟩ := h
      exact ⟨r, h0, cell, hq.trans h1, h2⟩
    · rename_i hc
      rw [if_neg hc]
      obtain ⟨cell, h1, h2⟩ := h
      exact ⟨cell, hq.trans h1, h2⟩
theorem xRep.at {G : xG} {V : xV} {H : Heap} (h : xRep G V H) {a : Nat} {e : xE} (ha : V.2 a = some e) : xat G a e H := (h.2.2.2 a e ha).2
theorem xRep.lt {G : xG} {V : xV} {H : Heap} (h : xRep G V H) {a : Nat} {e : xE} (ha : V.2 a = some e) : a < V.1 := by
  rw [← h.1]; exact (h.at ha).lt
theorem xRep.set {G : xG} {V : xV} {H H1 : Heap} (h : xRep G V H) {a : Nat} {e e' : xE} (ha : V.2 a = some e) (hz : H1.size = H.size) (ho : ∀ q : Nat, q ≠ a → H1[q]? = H[q]?) (hn : xat G a e' H1) : xRep G (xset V a e') H1 := by
  obtain ⟨h1, h2, h3, h4⟩ := h
  have hb := (h4 a e ha).1
  refine ⟨hz.trans h1, h2, fun q hq => (ho q (by omega)).trans (h3 q hq), fun b x hx => ?_⟩
  by_cases hba : b = a
  · subst hba
    have : x = e' := by
      have h9 : (if b = b then some e' else V.2 b) = some x := hx
      rw [if_pos rfl] at h9
      exact (Option.some.inj h9).symm
    subst this
    exact ⟨hb, hn⟩
  · have h9 : (if b = a then some e' else V.2 b) = some x := hx
    rw [if_neg hba] at h9
    exact ⟨(h4 b x h9).1, (h4 b x h9).2.kept (ho b hba)⟩
theorem xRep.push {G : xG} {V : xV} {H H1 : Heap} (h : xRep G V H) {e : xE} (hz : H1.size = V.1 + 1) (ho : ∀ q : Nat, q < V.1 → H1[q]? = H[q]?) (hn : xat G V.1 e H1) : xRep G (xpush V e) H1 := by
  have hlt := @xRep.lt G V H h
  obtain ⟨h1, h2, h3, h4⟩ := h
  refine ⟨hz, Nat.le_succ_of_le h2, fun q hq => (ho q (by omega)).trans (h3 q hq), fun b x hx => ?_⟩
  by_cases hba : b = V.1
  · subst hba
    have h9 : (if V.1 = V.1 then some e else V.2 V.1) = some x := hx
    rw [if_pos rfl] at h9
    cases Option.some.inj h9
    exact ⟨h2, hn⟩
  · have h9 : (if b = V.1 then some e else V.2 b) = some x := hx
    rw [if_neg hba] at h9
    exact ⟨(h4 b x h9).1, (h4 b x h9).2.kept (ho b (hlt h9))⟩
/-- a class by its number: its table, its words, its types, its names apart -/
def xCls (ci : Nat) (cN : String) (T : u_T) (N : Nat) (ty : Nat → FieldType) : Prop :=
  vwCl[ci]? = some (cN, T, N) ∧ ci < 100 ∧ (∀ w ∈ u_ws cN T N, w ∈ lw_all) ∧ (∀ k, k < N → parseFieldDescriptor (T k).2.2.1 = some (ty k)) ∧ ∀ a, a < N → ∀ b, b < N → a ≠ b → (T a).2.1 ≠ (T b).2.1
theorem xat.obj {G : xG} {a ci : Nat} {fs : List Value} {H : Heap} {cN : String} {T : u_T} {N : Nat} {ty : Nat → FieldType} (hk : xCls ci cN T N ty) (h : xat G a (.inr (ci, fs)) H) : t_OB a (G.2.1.1 ci) N (G.2.1.2 ci) H (vp_V fs) := by
  unfold xat at h
  dsimp only at h
  rw [if_pos hk.2.1] at h
  obtain ⟨r, h0, h1⟩ := h
  cases Option.some.inj (h0.symm.trans hk.1)
  exact h1
theorem xat.ofObj {G : xG} {a ci : Nat} {fs : List Value} {H : Heap} {cN : String} {T : u_T} {N : Nat} {ty : Nat → FieldType} (hk : xCls ci cN T N ty) (h : t_OB a (G.2.1.1 ci) N (G.2.1.2 ci) H (vp_V fs)) : xat G a (.inr (ci, fs)) H := by
  unfold xat
  dsimp only
  rw [if_pos hk.2.1]
  exact ⟨_, hk.1, h⟩
/-- an index, its place -/
def xix (i : Int32) (N j : Nat) : Prop := vp_in i N ∧ i.toNatClampNeg = j
theorem xix_n {N : Nat} (j : Nat) (h : j < N) (hN : N < 2 ^ 31) : xix (nI j) N j := ⟨vp_in_nI h hN, nI_clamp (Nat.lt_trans h hN)⟩
theorem xix.lt {i : Int32} {N j : Nat} (h : xix i N j) : j < N := by
  rw [← h.2]
  exact Nat.not_le.mp fun q => h.1 (Or.inr q)
section XH
variable {C : xC} {I : xV → Prop} {k n pc : Nat} {lv lv' : List (Nat × Value)} {st : List Value} {own : String} {cc : ByteArray} {nL0 : Nat} {ret : Option FieldType} {rm : Room}
theorem r_get (hC : xCtx C own cc nL0 ret rm) {ci N ix : Nat} {cN : String} {T : u_T} {ty : Nat → FieldType} {a : Nat} {fs : List Value} {v : Value} (hk : xCls ci cN T N ty) (j : Nat) (hj : Nat.blt j N = true) (hq : Cond.fieldLink own ix (T j).1 (T j).2.1 (T j).2.2.1 ∈ lw_all) (hI : ∀ V, I V → V.2 a = some (.inr (ci, fs))) (hv : fs[j]? = some v) (hd : decode cc pc = .ok (.getfield ix, 3)) (pc1 : Nat) (hp : pc + 3 = pc1) (kk : rn C I k n pc1 lv (v :: st)) : rn C I k n pc lv (.ref a :: st) := by
  subst hp
  obtain ⟨p, l, e, R, s, m, args, below, meth, c, G, nL, Q, X⟩ := C
  obtain ⟨hx, hb, hml, hnL, hown, hts, hK, -⟩ := hC
  intro V H locs ls hV hR hL hl
  have hj : j < N := Nat.le_of_ble_eq_true hj
  obtain ⟨cell, q1, q2, q3, q4⟩ := (hR.at (hI V hV)).obj hk
  obtain ⟨hS, hfc, kC, hkC, hkind⟩ := hK.1 ci _ hk.1
  obtain ⟨cf, kf, fi, f, hi, hsl⟩ := hS j hj
  refine W.getf hx hb hown (hts _ hq) hi (u_facts hfc hkC (u_lays hts hk.2.2.1 hj) hi).1 q1 (by rw [q3]; exact fun h => by cases h) (v := v) ?_ rfl rfl hd (kk V H locs ls hV hR hL hl)
  rw [hsl, q4 j hj]
  simp [vp_V, hv]
theorem r_put (hC : xCtx C own cc nL0 ret rm) {J : xV → Prop} {ci N ix : Nat} {cN : String} {T : u_T} {ty : Nat → FieldType} {a : Nat} {fs : List Value} {v : Value} (hk : xCls ci cN T N ty) (j : Nat) (hj : Nat.blt j N = true) (hq : Cond.fieldLink own ix (T j).1 (T j).2.1 (T j).2.2.1 ∈ lw_all) (hfin : (T j).2.2.2 = false) (hI : ∀ V, I V → V.2 a = some (.inr (ci, fs))) (hl9 : j < fs.length) (hn : narrow (ty j) v = v) (hfit : fits (ty j) v = true) (hd : decode cc pc = .ok (.putfield ix, 3)) (hJ : ∀ V, I V → J (xset V a (.inr (ci, fs.set j v)))) (pc1 : Nat) (hp : pc + 3 = pc1) (kk : rn C J k n pc1 lv st) : rn C I k n pc lv (v :: .ref a :: st) := by
  subst hp
  obtain ⟨p, l, e, R, s, m, args, below, meth, c, G, nL, Q, X⟩ := C
  obtain ⟨hx, hb, hml, hnL, hown, hts, hK, -⟩ := hC
  intro V H locs ls hV hR hL hl
  have hj : j < N := Nat.le_of_ble_eq_true hj
  have hap := va_apart (own := own) hts hk.2.2.1 ty hk.2.2.2.1 hk.2.2.2.2 hK hk.1
  obtain ⟨cell, q1, q2, q3, q4⟩ := (hR.at (hI V hV)).obj hk
  obtain ⟨hS, hfc, kC, hkC, hkind⟩ := hK.1 ci _ hk.1
  obtain ⟨cf, kf, fi, f, hi, hsl⟩ := hS j hj
  have hlay := hts _ (hk.2.2.1 _ (u_in_lay hj))
  unfold u_lay at hlay
  rw [if_neg (by rw [hfin]; decide)] at hlay
  have hst := (u_facts hfc hkC (u_lays hts hk.2.2.1 hj) hi).1
  have h6 := u_store hfc hkC hkind hlay hi (hk.2.2.2.1 j hj) hn hfit
  refine W.putK hx hb (f := f) ⟨hown, hts _ hq, ⟨_, _, _, hi⟩, hst⟩ (by rw [q2]; exact h6) q1 q3 (by rw [hsl]; exact k2_hasslot (q4 j hj)) rfl rfl hd fun H' e1 e2 e3 => ?_
  rw [hsl] at e1
  refine kk _ H' _ ls (hJ V hV) (hR.set (hI V hV) e2 e3 (xat.ofObj hk (t_OB.to (V := updV (vp_V fs) j v) ⟨_, e1, q2, q3, t_set q4 hap hj v⟩ (fun i _ => vp_updV_set hl9 v i)))) (fun q hq => ?_) hl
  rcases List.mem_append.mp hq with h1 | h1
  · exact hL q h1
  · rw [List.mem_singleton.mp h1]; exact (hR.2.2.2 _ _ (hI V hV)).1
theorem r_putF (hC : xCtx C own cc nL0 ret rm) {J : xV → Prop} {ci N ix : Nat} {cN : String} {T : u_T} {ty : Nat → FieldType} {a : Nat} {fs : List Value} {v : Value} (hini : xIni C) (hk : xCls ci cN T N ty) (j : Nat) (hj : Nat.blt j N = true) (hq : Cond.fieldLink own ix (T j).1 (T j).2.1 (T j).2.2.1 ∈ lw_all) (hfin : (T j).2.2.2 = true) (hdecl : (T j).1 = own) (hI : ∀ V, I V → V.2 a = some (.inr (ci, fs))) (hl9 : j < fs.length) (hn : narrow (ty j) v = v) (hfit : fits (ty j) v = true) (hd : decode cc pc = .ok (.putfield ix, 3)) (hJ : ∀ V, I V → J (xset V a (.inr (ci, fs.set j v)))) (pc1 : Nat) (hp : pc + 3 = pc1) (kk : rn C J k n pc1 lv st) : rn C I k n pc lv (v :: .ref a :: st) := by
  subst hp
  obtain ⟨p, l, e, R, s, m, args, below, meth, c, G, nL, Q, X⟩ := C
  obtain ⟨hx, hb, hml, hnL, hown, hts, hK, -⟩ := hC
  intro V H locs ls hV hR hL hl
  have hj : j < N := Nat.le_of_ble_eq_true hj
  have hap := va_apart (own := own) hts hk.2.2.1 ty hk.2.2.2.1 hk.2.2.2.2 hK hk.1
  obtain ⟨cell, q1, q2, q3, q4⟩ := (hR.at (hI V hV)).obj hk
  obtain ⟨hS, hfc, kC, hkC, hkind⟩ := hK.1 ci _ hk.1
  obtain ⟨cf, kf, fi, f, hi, hsl⟩ := hS j hj
  have hlay := hts _ (hk.2.2.1 _ (u_in_lay hj))
  unfold u_lay at hlay
  rw [if_pos hfin] at hlay
  have hst := (u_facts hfc hkC (u_lays hts hk.2.2.1 hj) hi).1
  have hcf : m.cls = cf := by
    obtain ⟨_, _, c', _, _, _, -, -, hf', -, -, -, hown2, -⟩ := Cond.laysFinal_spec hlay
    have e1 : c' = cf := by have := hi.symm.trans hf'; simp at this; exact this.1.symm
    rw [hdecl] at hown2
    rw [← e1]; exact Option.some.inj (hown.symm.trans hown2)
  have h6 := u_fits hfc hkC hkind (Or.inr hlay) hi (hk.2.2.2.1 j hj) hn hfit
  refine W.putFinK hx hb hown (hts _ hq) hi hst hcf hini (by rw [q2]; exact h6) q1 q3 (by rw [hsl]; exact k2_hasslot (q4 j hj)) rfl rfl hd fun H' e1 e2 e3 => ?_
  rw [hsl] at e1
  refine kk _ H' _ ls (hJ V hV) (hR.set (hI V hV) e2 e3 (xat.ofObj hk (t_OB.to (V := updV (vp_V fs) j v) ⟨_, e1, q2, q3, t_set q4 hap hj v⟩ (fun i _ => vp_updV_set hl9 v i)))) (fun q hq => ?_) hl
  rcases List.mem_append.mp hq with h1 | h1
  · exact hL q h1
  · rw [List.mem_singleton.mp h1]; exact (hR.2.2.2 _ _ (hI V hV)).1
theorem r_new (hC : xCtx C own cc nL0 ret rm) {J : Nat → xV → Prop} {ci N ix : Nat} {cN : String} {T : u_T} {ty : Nat → FieldType} (fs : List Value) (hk : xCls ci cN T N ty) (hcl : Cond.classLink own ix cN ∈ lw_all) (hinst : Cond.instantiable cN N ∈ lw_all) (hini : Cond.initialized cN ∈ lw_all) (hfs : ∀ j, j < N → defaultValue (ty j) = vp_V fs j) (hk1 : k + 1 ≤ rm.cells) (hn1 : n + N ≤ rm.slots) (hd : decode cc pc = .ok (.new ix, 3)) (hJ : ∀ V, I V → J V.1 (xpush V (.inr (ci, fs)))) (pc1 : Nat) (hp : pc + 3 = pc1) (kk : ∀ q, rn C (J q) (k + 1) (n + N) pc1 lv (.ref q :: st)) : rn C I k n pc lv st := by
  subst hp
  obtain ⟨p, l, e, R, s, m, args, below, meth, c, G, nL, Q, X⟩ := C
  obtain ⟨hx, hb, hml, hnL, hown, hts, hK, -, -, -, hRm, -⟩ := hC
  intro V H locs ls hV hR hL hl
  have hKn := hK.1 ci _ hk.1
  refine W.newcK hx hb hown (hts _ hcl) (hts _ hinst) (hts _ hini) rfl hd (by rw [hRm]; exact hk1) (by rw [hRm]; exact hn1) hKn.2.1 rfl fun H1 kC hkC e1 z1 o1 => ?_
  have := kk V.1 (xpush V (.inr (ci, fs))) H1 locs ls (hJ V hV) (hR.push (by rw [z1, hR.1]) (fun q hq => o1 q (by rw [hR.1]; exact hq)) (by rw [← hR.1]; exact xat.ofObj hk ((u_born ty hts hk.2.2.1 hKn hkC e1 hk.2.2.2.1).to hfs))) hL hl
  rw [← hR.1] at this
  exact this
theorem r_newa (hC : xCtx C own cc nL0 ret rm) {J : Nat → xV → Prop} {atype : ArrayType} (ty : FieldType) (t : Nat) {z : Int32} (N : Nat) (a0 : vp_A) (hty : newarray.typeOf atype = ty) (harr : Cond.arrayClass ty ∈ lw_all) (ht : vwAr[t]? = some ty) (hprim : xPrim ty = true) (ha : ∀ cA : ClassId, vp_cell cA a0 = arrV cA N (fun _ => defaultValue ty)) (hz : z = nI N) (hN : N < 65536) (hk1 : k + 1 ≤ rm.cells) (hn1 : n + N ≤ rm.slots) (hd : decode cc pc = .ok (.newarray atype, 2)) (hJ : ∀ V, I V → J V.1 (xpush V (.inl (t, a0)))) (pc1 : Nat) (hp : pc + 2 = pc1) (kk : ∀ q, rn C (J q) (k + 1) (n + N) pc1 lv (.ref q :: st)) : rn C I k n pc lv (.int z :: st) := by
  subst hp
  obtain ⟨p, l, e, R, s, m, args, below, meth, c, G, nL, Q, X⟩ := C
  obtain ⟨hx, hb, hml, hnL, hown, hts, hK, -, -, -, hRm, -⟩ := hC
  intro V H locs ls hV hR hL hl
  subst hty
  subst hz
  have hcl := nI_clamp (Nat.lt_trans hN (by decide : 65536 < 2 ^ 31))
  have hnn : ¬ nI N < 0 := nI_pos (Nat.lt_trans hN (by decide))
  have hby : N * componentBytes (newarray.typeOf atype) ≤ 536870912 := by
    have : componentBytes (newarray.typeOf atype) ≤ 8 := by cases atype <;> decide
    calc N * componentBytes (newarray.typeOf atype) ≤ N * 8 := Nat.mul_le_mul_left _ this
      _ ≤ 536870912 := by omega
  refine va_newaK hx hb (hts _ harr) rfl hd rfl hnn hcl hby (by rw [hRm]; exact hk1) (by rw [hRm]; exact hn1) rfl fun H1 cA e1 z1 o1 hAr hNm => ?_
  have hRA := ((xtys_at hK ht).2)
  have hcA : cA = G.2.2.1 t := by
    have h2 : s.vm.findClass ("[" ++ (newarray.typeOf atype).toString) = some (G.2.2.1 t) := xprim_RA hprim hRA
    exact Option.some.inj (hNm.symm.trans h2)
  have := kk V.1 (xpush V (.inl (t, a0))) H1 locs ls (hJ V hV) (hR.push (by rw [z1, hR.1]) (fun q hq => o1 q (by rw [hR.1]; exact hq)) (by
    show H1[V.1]? = some (vp_cell (G.2.2.1 t) a0)
    rw [ha, ← hcA, ← hR.1]
    exact e1)) hL hl
  rw [← hR.1] at this
  exact this
theorem r_iald (hC : xCtx C own cc nL0 ret rm) {a N : Nat} {f : Nat → Int32} {i : Int32} (j : Nat) (hi : xix i N j) (hI : ∀ V, I V → V.2 a = some (.inl (0, N, .inl f))) (v : Int32) (hv : f j = v) (hd : decode cc pc = .ok (.iaload, 1)) (pc1 : Nat) (hp : pc + 1 = pc1) (kk : rn C I k n pc1 lv (.int v :: st)) : rn C I k n pc lv (.int i :: .ref a :: st) := by
  subst hp
  obtain ⟨p, l, e, R, s, m, args, below, meth, c, G, nL, Q, X⟩ := C
  obtain ⟨hx, hb, hml, hnL, hown, hts, hK, -⟩ := hC
  intro V H locs ls hV hR hL hl
  have hc : H[a]? = some (vp_cell (G.2.2.1 0) (N, .inl f)) := hR.at (hI V hV)
  have hT := (xtys_at (t := 0) hK rfl).1
  obtain ⟨hin, hj⟩ := hi
  have hlt : i.toNatClampNeg < N := Nat.not_le.mp fun q => hin (Or.inr q)
  refine W.iald hx hb hc (hT N _) (fun q => by cases q) (by show ¬ (i < 0 ∨ (arrV _ _ _).slots.size ≤ _); rw [arrV_size]; exact hin) (v := .int v) (by show (arrV _ _ _).slots[_]? = _; rw [arrV_read _ _ hlt, hj, hv]) rfl rfl hd (kk V H locs ls hV hR hL hl)
theorem r_lald (hC : xCtx C own cc nL0 ret rm) {a N : Nat} {f : Nat → Int64} {i : Int32} (j : Nat) (hi : xix i N j) (hI : ∀ V, I V → V.2 a = some (.inl (1, N, .inr (.inl f)))) (v : Int64) (hv : f j = v) (hd : decode cc pc = .ok (.laload, 1)) (pc1 : Nat) (hp : pc + 1 = pc1) (kk : rn C I k n pc1 lv (.long v :: st)) : rn C I k n pc lv (.int i :: .ref a :: st) := by
  subst hp
  obtain ⟨p, l, e, R, s, m, args, below, meth, c, G, nL, Q, X⟩ := C
  obtain ⟨hx, hb, hml, hnL, hown, hts, hK, -⟩ := hC
  intro V H locs ls hV hR hL hl
  have hc : H[a]? = some (vp_cell (G.2.2.1 1) (N, .inr (.inl f))) := hR.at (hI V hV)
  have hT := (xtys_at (t := 1) hK rfl).1
  obtain ⟨hin, hj⟩ := hi
  have hlt : i.toNatClampNeg < N := Nat.not_le.mp fun q => hin (Or.inr q)
  refine W.lald hx hb hc (hT N _) (fun q => by cases q) (by show ¬ (i < 0 ∨ (arrV _ _ _).slots.size ≤ _); rw [arrV_size]; exact hin) (v := .long v) (by show (arrV _ _ _).slots[_]? = _; rw [arrV_read _ _ hlt, hj, hv]) rfl rfl hd (kk V H locs ls hV hR hL hl)
theorem r_bald (hC : xCtx C own cc nL0 ret rm) {a N : Nat} {f : Nat → Int32} {i : Int32} (j : Nat) (hi : xix i N j) (hI : ∀ V, I V → V.2 a = some (.inl (2, N, .inl f))) (v : Int32) (hv : f j = v) (hd : decode cc pc = .ok (.baload, 1)) (pc1 : Nat) (hp : pc + 1 = pc1) (kk : rn C I k n pc1 lv (.int v :: st)) : rn C I k n pc lv (.int i :: .ref a :: st) := by
  subst hp
  obtain ⟨p, l, e, R, s, m, args, below, meth, c, G, nL, Q, X⟩ := C
  obtain ⟨hx, hb, hml, hnL, hown, hts, hK, -⟩ := hC
  intro V H locs ls hV hR hL hl
  have hc : H[a]? = some (vp_cell (G.2.2.1 2) (N, .inl f)) := hR.at (hI V hV)
  have hT := (xtys_at (t := 2) hK rfl).1
  obtain ⟨hin, hj⟩ := hi
  have hlt : i.toNatClampNeg < N := Nat.not_le.mp fun q => hin (Or.inr q)
  refine W.bald hx hb hc (hT N _) (fun q => by cases q) (by show ¬ (i < 0 ∨ (arrV _ _ _).slots.size ≤ _); rw [arrV_size]; exact hin) (v := .int v) (by show (arrV _ _ _).slots[_]? = _; rw [arrV_read _ _ hlt, hj, hv]) rfl rfl hd (kk V H locs ls hV hR hL hl)
theorem r_iast (hC : xCtx C own cc nL0 ret rm) {J : xV → Prop} {a N : Nat} {f : Nat → Int32} {i : Int32} {x : Int32} (j : Nat) (hi : xix i N j) (hI : ∀ V, I V → V.2 a = some (.inl (0, N, .inl f))) (hd : decode cc pc = .ok (.iastore, 1)) (hJ : ∀ V, I V → J (xset V a (.inl (0, N, .inl (va_up f j x))))) (pc1 : Nat) (hp : pc + 1 = pc1) (kk : rn C J k n pc1 lv st) : rn C I k n pc lv (.int x :: .int i :: .ref a :: st) := by
  subst hp
  obtain ⟨p, l, e, R, s, m, args, below, meth, c, G, nL, Q, X⟩ := C
  obtain ⟨hx, hb, hml, hnL, hown, hts, hK, -⟩ := hC
  intro V H locs ls hV hR hL hl
  have hc : H[a]? = some (vp_cell (G.2.2.1 0) (N, .inl f)) := hR.at (hI V hV)
  have hT := (xtys_at (t := 0) hK rfl).1
  obtain ⟨hin, hj⟩ := hi
  refine W.iast hx hb hc (hT N _) (fun q => by cases q) (by show ¬ (i < 0 ∨ (arrV _ _ _).slots.size ≤ _); rw [arrV_size]; exact hin) rfl rfl hd fun H1 e1 z oq => ?_
  refine kk _ H1 _ ls (hJ V hV) (hR.set (hI V hV) z oq ?_) (fun q hq => ?_) hl
  · show H1[a]? = some (vp_cell (G.2.2.1 0) (N, .inl (va_up f j x)))
    rw [e1, hj]
    rw [vp_cell_i, vp_cell_i, arrV_store]
    congr 2
    funext q
    by_cases hq : q = j
    · subst hq
      first | (simp [updV, va_up]; done) | (simp [updV, va_up]; rfl)
    · simp [updV, va_up, hq]
  · rcases List.mem_append.mp hq with h1 | h1
    · exact hL q h1
    · rw [List.mem_singleton.mp h1]; exact (hR.2.2.2 _ _ (hI V hV)).1
theorem r_last (hC : xCtx C own cc nL0 ret rm) {J : xV → Prop} {a N : Nat} {f : Nat → Int64} {i : Int32} {x : Int64} (j : Nat) (hi : xix i N j) (hI : ∀ V, I V → V.2 a = some (.inl (1, N, .inr (.inl f)))) (hd : decode cc pc = .ok (.lastore, 1)) (hJ : ∀ V, I V → J (xset V a (.inl (1, N, .inr (.inl (va_up f j x)))))) (pc1 : Nat) (hp : pc + 1 = pc1) (kk : rn C J k n pc1 lv st) : rn C I k n pc lv (.long x :: .int i :: .ref a :: st) := by
  subst hp
  obtain ⟨p, l, e, R, s, m, args, below, meth, c, G, nL, Q, X⟩ := C
  obtain ⟨hx, hb, hml, hnL, hown, hts, hK, -⟩ := hC
  intro V H locs ls hV hR hL hl
  have hc : H[a]? = some (vp_cell (G.2.2.1 1) (N, .inr (.inl f))) := hR.at (hI V hV)
  have hT := (xtys_at (t := 1) hK rfl).1
  obtain ⟨hin, hj⟩ := hi
  refine W.last hx hb hc (hT N _) (fun q => by cases q) (by show ¬ (i < 0 ∨ (arrV _ _ _).slots.size ≤ _); rw [arrV_size]; exact hin) rfl rfl hd fun H1 e1 z oq => ?_
  refine kk _ H1 _ ls (hJ V hV) (hR.set (hI V hV) z oq ?_) (fun q hq => ?_) hl
  · show H1[a]? = some (vp_cell (G.2.2.1 1) (N, .inr (.inl (va_up f j x))))
    rw [e1, hj]
    rw [vp_cell_l, vp_cell_l, arrV_store]
    congr 2
    funext q
    by_cases hq : q = j
    · subst hq
      first | (simp [updV, va_up]; done) | (simp [updV, va_up]; rfl)
    · simp [updV, va_up, hq]
  · rcases List.mem_append.mp hq with h1 | h1
    · exact hL q h1
    · rw [List.mem_singleton.mp h1]; exact (hR.2.2.2 _ _ (hI V hV)).1
theorem r_bast (hC : xCtx C own cc nL0 ret rm) {J : xV → Prop} {a N : Nat} {f : Nat → Int32} {i : Int32} {x : Int32} (j : Nat) (hi : xix i N j) (hI : ∀ V, I V → V.2 a = some (.inl (2, N, .inl f))) (hd : decode cc pc = .ok (.bastore, 1)) (hJ : ∀ V, I V → J (xset V a (.inl (2, N, .inl (va_up f j x.toInt8.toInt32))))) (pc1 : Nat) (hp : pc + 1 = pc1) (kk : rn C J k n pc1 lv st) : rn C I k n pc lv (.int x :: .int i :: .ref a :: st) := by
  subst hp
  obtain ⟨p, l, e, R, s, m, args, below, meth, c, G, nL, Q, X⟩ := C
  obtain ⟨hx, hb, hml, hnL, hown, hts, hK, -⟩ := hC
  intro V H locs ls hV hR hL hl
  have hc : H[a]? = some (vp_cell (G.2.2.1 2) (N, .inl f)) := hR.at (hI V hV)
  have hT := (xtys_at (t := 2) hK rfl).1
  obtain ⟨hin, hj⟩ := hi
  refine W.bast hx hb hc (hT N _) (fun q => by cases q) (by show ¬ (i < 0 ∨ (arrV _ _ _).slots.size ≤ _); rw [arrV_size]; exact hin) rfl rfl hd fun H1 e1 z oq => ?_
  refine kk _ H1 _ ls (hJ V hV) (hR.set (hI V hV) z oq ?_) (fun q hq => ?_) hl
  · show H1[a]? = some (vp_cell (G.2.2.1 2) (N, .inl (va_up f j x.toInt8.toInt32)))
    rw [e1, hj]
    rw [vp_cell_i, vp_cell_i, arrV_store]
    congr 2
    funext q
    by_cases hq : q = j
    · subst hq
      first | (simp [updV, va_up]; done) | (simp [updV, va_up]; rfl)
    · simp [updV, va_up, hq]
  · rcases List.mem_append.mp hq with h1 | h1
    · exact hL q h1
    · rw [List.mem_singleton.mp h1]; exact (hR.2.2.2 _ _ (hI V hV)).1
theorem r_alen (hC : xCtx C own cc nL0 ret rm) {a t N : Nat} {x : _} {ty : FieldType} (v : Int32) (ht : vwAr[t]? = some ty) (hI : ∀ V, I V → V.2 a = some (.inl (t, N, x))) (hv : Int32.ofNat N = v) (hd : decode cc pc = .ok (.arraylength, 1)) (pc1 : Nat) (hp : pc + 1 = pc1) (kk : rn C I k n pc1 lv (.int v :: st)) : rn C I k n pc lv (.ref a :: st) := by
  subst hp
  obtain ⟨p, l, e, R, s, m, args, below, meth, c, G, nL, Q, X⟩ := C
  obtain ⟨hx, hb, hml, hnL, hown, hts, hK, -⟩ := hC
  intro V H locs ls hV hR hL hl
  have hc : H[a]? = some (vp_cell (G.2.2.1 t) (N, x)) := hR.at (hI V hV)
  have hT := xtys_at hK ht
  exact va_alen (D := G.2.1) (cl := vwCl) (ws := [(a, .inl (G.2.2.1 t, N, x))]) (tys := [(G.2.2.1 t, ty)]) hx hb ⟨hK.1, fun k q hq => by
    match k, hq with
    | 0, hq => cases hq; exact hT⟩ (fun k q hq => by
    match k, hq with
    | 0, hq => cases hq; exact hc) 0 0 rfl rfl hv hd (kk V H locs ls hV hR hL hl)
end XH
/-! ===== ends of a method ===== -/
section XEnd
variable {C : xC} {I : xV → Prop} {k n pc : Nat} {lv lv' : List (Nat × Value)} {own : String} {cc : ByteArray} {nL0 : Nat} {ret : Option FieldType} {rm : Room}
theorem xW_mono {p : Program} {l : Launch} {e : Env} {R : Room} {s : State} {m : MethodId} {args : Array Value} {below : List Frame} {meth : Method} {c : Code} {H : Heap} {locs : List Loc} {cells slots : Nat} {Q Q' : State → Prop} {g : JFrame} (h : ∀ t, Q t → Q' t) (kk : W p l e R s m args below meth c H locs cells slots Q g) : W p l e R s m args below meth c H locs cells slots Q' g := by
  intro T hT X
  obtain ⟨t, a, b⟩ := kk T hT X
  exact ⟨t, a, h t b⟩
/-- the kit's end out of ours -/
theorem xMQ_fin {G : xG} {below : List Frame} {args : Array Value} {s : State} {R : Room} {Q : Option Value → xV → Prop} {X : Nat → xV → Prop} {k n : Nat} {v : Option Value} {V : xV} {H : Heap} (hk : k ≤ R.cells) (hn : n ≤ R.slots) (hR : xRep G V H) (hQ : Q v V) :
    ∀ t, MQ below (fun _ _ o t => o = .returned v ∧ t.heap = H) args s k n (fun q => G.1.heap.size ≤ q) t → xFin G below s R Q X t := by
  intro t ⟨o, h1, h2, ⟨h3, h3'⟩, L, ⟨hv, hW, hS⟩, hL⟩
  exact ⟨o, h1, h2, V, L, by rw [h3']; exact hR, hL, hW, hS.mono hk hn, Or.inl ⟨v, h3, hQ⟩⟩
theorem r_iret (hC : xCtx C own cc nL0 (some .int) rm) {v : Int32} (hk : k ≤ rm.cells) (hn : n ≤ rm.slots) (hQ : ∀ V, I V → xQ C (some (.int v)) V) (hd : decode cc pc = .ok (.ireturn, 1)) : rn C I k n pc lv [.int v] := by
  obtain ⟨p, l, e, R, s, m, args, below, meth, c, G, nL, Q, X⟩ := C
  obtain ⟨hx, hb, hml, hnL, hown, hts, hK, hr, hlocks, hW0, hRm, -⟩ := hC
  intro V H locs ls hV hR hL hl
  exact xW_mono (xMQ_fin (by rw [hRm]; exact hk) (by rw [hRm]; exact hn) hR (hQ V hV)) (W.iret hx hb hr (fun t ht _ => ⟨rfl, ht⟩) hL hd)
theorem r_zret {ty : FieldType} (hC : xCtx C own cc nL0 (some ty) rm) {v : Int32} (hnar : narrow ty (.int v) = .int v) (hk : k ≤ rm.cells) (hn : n ≤ rm.slots) (hQ : ∀ V, I V → xQ C (some (.int v)) V) (hd : decode cc pc = .ok (.ireturn, 1)) : rn C I k n pc lv [.int v] := by
  obtain ⟨p, l, e, R, s, m, args, below, meth, c, G, nL, Q, X⟩ := C
  obtain ⟨hx, hb, hml, hnL, hown, hts, hK, hr, hlocks, hW0, hRm, -⟩ := hC
  intro V H locs ls hV hR hL hl
  exact xW_mono (xMQ_fin (by rw [hRm]; exact hk) (by rw [hRm]; exact hn) hR (hQ V hV)) (W.zret hx hb hr hnar (fun t ht _ => ⟨rfl, ht⟩) hL hd)
theorem r_lret (hC : xCtx C own cc nL0 (some .long) rm) {v : Int64} (hk : k ≤ rm.cells) (hn : n ≤ rm.slots) (hQ : ∀ V, I V → xQ C (some (.long v)) V) (hd : decode cc pc = .ok (.lreturn, 1)) : rn C I k n pc lv [.long v] := by
  obtain ⟨p, l, e, R, s, m, args, below, meth, c, G, nL, Q, X⟩ := C
  obtain ⟨hx, hb, hml, hnL, hown, hts, hK, hr, hlocks, hW0, hRm, -⟩ := hC
  intro V H locs ls hV hR hL hl
  exact xW_mono (xMQ_fin (by rw [hRm]; exact hk) (by rw [hRm]; exact hn) hR (hQ V hV)) (W.lret hx hb hr (fun t ht _ => ⟨rfl, ht⟩) hL hd)
theorem r_fret (hC : xCtx C own cc nL0 (some .float) rm) {v : UInt32} (hk : k ≤ rm.cells) (hn : n ≤ rm.slots) (hQ : ∀ V, I V → xQ C (some (.float v)) V) (hd : decode cc pc = .ok (.freturn, 1)) : rn C I k n pc lv [.float v] := by
  obtain ⟨p, l, e, R, s, m, args, below, meth, c, G, nL, Q, X⟩ := C
  obtain ⟨hx, hb, hml, hnL, hown, hts, hK, hr, hlocks, hW0, hRm, -⟩ := hC
  intro V H locs ls hV hR hL hl
  exact xW_mono (xMQ_fin (by rw [hRm]; exact hk) (by rw [hRm]; exact hn) hR (hQ V hV)) (W.fret hx hb hr (fun t ht _ => ⟨rfl, ht⟩) hL hd)
theorem r_dret (hC : xCtx C own cc nL0 (some .double) rm) {v : UInt64} (hk : k ≤ rm.cells) (hn : n ≤ rm.slots) (hQ : ∀ V, I V → xQ C (some (.double v)) V) (hd : decode cc pc = .ok (.dreturn, 1)) : rn C I k n pc lv [.double v] := by
  obtain ⟨p, l, e, R, s, m, args, below, meth, c, G, nL, Q, X⟩ := C
  obtain ⟨hx, hb, hml, hnL, hown, hts, hK, hr, hlocks, hW0, hRm, -⟩ := hC
  intro V H locs ls hV hR hL hl
  exact xW_mono (xMQ_fin (by rw [hRm]; exact hk) (by rw [hRm]; exact hn) hR (hQ V hV)) (W.dret hx hb hr (fun t ht _ => ⟨rfl, ht⟩) hL hd)
theorem r_vret (hC : xCtx C own cc nL0 none rm) (hk : k ≤ rm.cells) (hn : n ≤ rm.slots) (hQ : ∀ V, I V → xQ C none V) (hd : decode cc pc = .ok (.return_, 1)) : rn C I k n pc lv [] := by
  obtain ⟨p, l, e, R, s, m, args, below, meth, c, G, nL, Q, X⟩ := C
  obtain ⟨hx, hb, hml, hnL, hown, hts, hK, hr, hlocks, hW0, hRm, -⟩ := hC
  intro V H locs ls hV hR hL hl
  exact xW_mono (xMQ_fin (by rw [hRm]; exact hk) (by rw [hRm]; exact hn) hR (hQ V hV)) (W.vret hx hb hr (fun t ht _ => ⟨rfl, ht⟩) hL hd)
theorem r_aret {rt : FieldType} (hC : xCtx C own cc nL0 (some rt) rm) {v : Option Nat} (hrt : (∃ n, rt = .object n) ∨ ∃ t, rt = .array t) (hk : k ≤ rm.cells) (hn : n ≤ rm.slots) (hQ : ∀ V, I V → xQ C (some (va_rf v)) V) (hd : decode cc pc = .ok (.areturn, 1)) : rn C I k n pc lv [va_rf v] := by
  obtain ⟨p, l, e, R, s, m, args, below, meth, c, G, nL, Q, X⟩ := C
  obtain ⟨hx, hb, hml, hnL, hown, hts, hK, hr, hlocks, hW0, hRm, -⟩ := hC
  intro V H locs ls hV hR hL hl
  have hvv : va_rf v = .null ∨ ∃ a, va_rf v = .ref a := by
    cases v with
    | none => exact Or.inl rfl
    | some a => exact Or.inr ⟨a, rfl⟩
  exact xW_mono (xMQ_fin (by rw [hRm]; exact hk) (by rw [hRm]; exact hn) hR (hQ V hV)) (W.aret hx hb hr hrt hvv (fun t ht _ => ⟨rfl, ht⟩) hL hd)
end XEnd
/-! ===== the start of a method ===== -/
theorem xWords {G : xG} (hG : xGood G) {s : State} (hW : G.1.WarmedH s.vm) {args : Array Value} : ∀ w ∈ lw_all, w.before args s = true := by
  obtain ⟨-, b, ht, -⟩ := hG
  intro w hw
  obtain ⟨h1, h2⟩ := List.mem_filter.mp hw
  exact word_at hW (good_of_word h2) (ht w h1)
theorem xMet_of {l : Launch} {G : xG} {y : MethodName} {cc : ByteArray} {maxL : Nat} {ret : Option FieldType} {rm : Room} {As : List Value} {V : xV} {Q : Option Value → xV → Prop} {X : Nat → xV → Prop} (own : String) (hG : xGood G) (hown : y.cls = own) (hy : plainName y.cls = true) (hlen : (lg_sl As).length ≤ maxL)
    (body : ∀ C : xC, xCtx C own cc maxL ret rm → (∀ v V', Q v V' → xQ C v V') → (∀ q V', X q V' → xX C q V') → xL C = l → xGG C = G → (y.name = "<init>" → xIni C) → rn C (fun V' => V' = V) 0 0 0 (lv_args 0 As) []) : xMet l G y [Cond.code y cc maxL ret] rm As V Q X := by
  refine MetFree.of_bodyS (code := cc) (maxLocals := maxL) (ret := ret) hy ?_ ?_
  · intro args s m h hn
    obtain ⟨meth, c, h1, h2, h3, h4, h5, h6, -, -⟩ := Cond.code_spec hn (atoms_spec (ws := [Cond.code y cc maxL ret]) h _ List.mem_cons_self)
    exact ⟨meth, c, h1, h2, h3, h4, h5, h6⟩
  · intro p e s m args below meth c s₁ B hml hP _
    obtain ⟨rfl, hW, hRep⟩ := hP
    have hh0 : s₁.heap = s.heap := by rw [B.state]; rfl
    have hK : va_K G.2.1 vwCl (xtys G) s := va_K.moved hW.alike hG.1
    have hl := lv_entry As (n := maxL) hlen
    have := body (p, l, e, (headSpec [Cond.code y cc maxL ret] rm).room, s, m, As.toArray, below, meth, c, G, maxL, Q, X)
      ⟨B.exec, B.bytes, hml, rfl, by rw [← hown]; exact findClass_of_methodNamed B.named, xWords hG hW, hK, B.returns, B.notSynchronized, hW, rfl, by rw [hRep.1]; exact hRep.2.1⟩ (fun _ _ h => h) (fun _ _ h => h) rfl rfl (fun h => by
        show meth.name = "<init>"
        rw [(name_of_methodNamed B.named B.method).1]; exact h) V s.heap [] _ rfl hRep (fun _ h => by cases h) hl
    rw [← lg_entry_eq] at this
    obtain ⟨t, a1, o, b1, b2, b3⟩ := this s₁ hh0 (Stand.of_body B)
    exact ⟨t, o, a1, b1, b2, b3⟩
/-! ===== a call: a contract as the kit's premise on a callee ===== -/
def xPre (R : Room) (G : xG) (rm : Room) (As : List Value) (V : xV) : Pt → Array Value → Prop := fun A a => A.cells + rm.cells ≤ R.cells ∧ A.slots + rm.slots ≤ R.slots ∧ a = As.toArray ∧ G.1.WarmedH A.U.vm ∧ xRep G V A.U.heap
def xPostR (G : xG) (rm : Room) (Q : Option Value → xV → Prop) : Pt → Array Value → Option Value → Pt → Prop := fun A _ v B =>
  ∃ (V' : xV) (L : List Loc), xRep G V' B.U.heap ∧ Q v V' ∧ B.locs = A.locs ++ L ∧ (∀ q ∈ L, G.1.heap.size ≤ q.base) ∧ B.cells = A.cells + rm.cells ∧ B.slots = A.slots + rm.slots
def xPostX (G : xG) (rm : Room) (X : Nat → xV → Prop) : Pt → Array Value → Addr → Pt → Prop := fun A _ q B =>
  ∃ (V' : xV) (L : List Loc), xRep G V' B.U.heap ∧ X q V' ∧ (∃ (ci : Nat) (fs : List Value), V'.2 q = some (.inr (ci, fs))) ∧ B.locs = A.locs ++ L ∧ (∀ q ∈ L, G.1.heap.size ≤ q.base) ∧ B.cells = A.cells + rm.cells ∧ B.slots = A.slots + rm.slots
section XCall
variable {l : Launch} {R : Room} {p : Program} {e : Env} {below : List Frame} {s : State} {sargs : Array Value} {y : MethodName} {len W9 : Nat}
/-- the callee's words: its code's row, with handlers or without -/
def xCode (y : MethodName) (bytes : ByteArray) (maxL : Nat) (w : Cond) : Prop := ∀ (a : Array Value) (U : State) (mk : MethodId), U.methodNamed? y = some mk → w.before a U = true → ∃ (methY : Method) (cY : Code), U.vm.method? mk = some methY ∧ methY.code = some cY ∧ cY.maxLocals = maxL
theorem xBack {G : xG} {w : Cond} {rm : Room} {As : List Value} {V : xV} {Q : Option Value → xV → Prop} {X : Nat → xV → Prop} {bytes : ByteArray} {maxL : Nat} (hcd : xCode y bytes maxL w)
    (hM : xMet l G y [w] rm As V Q X) (hframes : rm.frames + 1 ≤ R.frames) (hlocals : W9 + (maxL + 11) + rm.locals ≤ R.locals)
    (hws : ∀ a' U, s.WarmedH U.vm → w.before a' U = true) (hinit : ∀ a' U, s.WarmedH U.vm → (Cond.initialized y.cls).before a' U = true) :
    vx_Back l R p e below s sargs y len W9 (xPre R G rm As V) (xPostR G rm Q) (xPostX G rm X) := by
  intro m meth c A g ig mk a X0 hg hsize hdg hW hn hp
  have h1 : (headSpec [w] rm).pre.before a A.U = true := atoms_intro fun w' hw => by
    cases List.mem_singleton.mp hw
    exact hws _ _ X0.warmed
  have h3 : (Cond.initialized y.cls).before a A.U = true := hinit _ _ X0.warmed
  obtain ⟨h4, h5, rfl, hPW, hPR⟩ := hp
  obtain ⟨U, Ls, c0, s0⟩ := A
  dsimp only [Pt.U, Pt.locs, Pt.cells, Pt.slots] at h1 h3 h4 h5 X0 hn hPW hPR ⊢
  obtain ⟨methY, cY, hmY, hcY, hlY⟩ := hcd As.toArray U mk hn (hws _ _ X0.warmed)
  obtain ⟨kY, hkY, -⟩ := className_of_methodNamed hn
  have hinitY : kY.init = .initialized := Cond.initialized_spec (findClass_of_methodNamed hn) hkY h3
  have h : At U g.method c below := by rw [hg]; exact X0.here
  have happ : (headSpec [w] rm).appliesLoose y e.platform (U.calling g mk As.toArray) = true :=
    Spec.appliesLoose_calling (g := g) h hdg hn hkY hinitY
      (X0.room_calling (g := g) (R' := (headSpec [w] rm).room) hsize hmY hcY hframes (by rw [hlY]; show _ + rm.locals ≤ _; omega) h4 h5) h1
  obtain ⟨mid, hmid⟩ := h.above
  have hfr : (U.setTop g).frames = (.java g :: mid) ++ below := by rw [State.frames_setTop' g h.top, hmid]; rfl
  obtain ⟨o, s₂, hsteps, -, hend, hq⟩ := Steps.callFree hM p X0.admits X0.cas X0.clock (acts := []) hfr happ ⟨rfl, hPW, hPR⟩ trivial
  rw [State.frames_setTop' g h.top] at hend
  obtain ⟨g₀, hg0⟩ := Option.isSome_iff_exists.mp h.top
  obtain ⟨r, hr⟩ := State.topJava?_eq_some.mp hg0
  have hr' : (({ U with heap := s₂.heap, slotsUsed := s₂.slotsUsed } : State).setVm s₂.vm).frames = .java g₀ :: r := hr
  obtain ⟨V', L, hRep, hL, hW₂, hsm, hq⟩ := hq
  have hsm : (U.calling g mk As.toArray).sameButNew ({ s₂ with vm := (U.calling g mk As.toArray).vm } : State) L rm.cells rm.slots := hsm
  obtain ⟨e2, q2, q3, q4, q5, q6⟩ := id hsm
  have e3 : s₂ = ({ (U.calling g mk As.toArray).setFrames s₂.frames with heap := s₂.heap, slotsUsed := s₂.slotsUsed } : State).setVm s₂.vm := by
    have : s₂ = ({ s₂ with vm := (U.calling g mk As.toArray).vm } : State).setVm s₂.vm := rfl
    rw [e2] at this
    exact this
  have hW' : U.WarmedH s₂.vm := hW₂
  have hsame : U.sameButNew ({ U with heap := s₂.heap, slotsUsed := s₂.slotsUsed } : State) L rm.cells rm.slots := by
    refine ⟨?_, q2, q3, q4, q5, q6⟩
    obtain ⟨t, ht, -⟩ := State.frames_cons hr
    show ({ U with heap := s₂.heap, slotsUsed := s₂.slotsUsed } : State) = { U.setFrames U.frames with heap := s₂.heap, slotsUsed := s₂.slotsUsed }
    rw [State.setFrames_self ht]
  rcases hq with ⟨v, rfl, hqv⟩ | ⟨q, rfl, hqx, hcell⟩
  · obtain ⟨c₂, i₂, len₂, hc₂, hd₂, hf₂⟩ := hend
    have hcc : c₂ = c := by
      have h1 : s₂.code? g.method = U.code? g.method := by
        rw [State.code?_eq, State.code?_eq, hW'.alike.method?]
      exact Option.some.inj (hc₂.symm.trans (h1.trans h.code))
    subst hcc
    have hlen : len₂ = len := by rw [hdg] at hd₂; cases hd₂; rfl
    subst hlen
    have hs₂ : s₂ = (({ U with heap := s₂.heap, slotsUsed := s₂.slotsUsed } : State).setVm s₂.vm).setTop { g with pc := g.pc + len₂, stack := v.toList ++ g.stack } := by
      refine e3.trans ?_
      rw [hf₂, State.calling_eq h.top, State.setFrames_setFrames, State.setTop_of_frames _ hr', hr]
      rfl
    subst hg
    refine Or.inl ⟨v, ⟨(({ U with heap := s₂.heap, slotsUsed := s₂.slotsUsed } : State).setVm s₂.vm), Ls ++ L, c0 + rm.cells, s0 + rm.slots⟩,
      ⟨X0.admits, X0.cas, X0.clock, X0.frames, X0.room, X0.hears, X0.method, X0.code, (X0.here.setHeapUsed s₂.heap s₂.slotsUsed).setVm hW'.alike, X0.tail, State.WarmedH.trans X0.warmed hW', X0.limits, X0.bytes, X0.same.trans (hsame.setVm s.vm)⟩,
      ⟨V', L, hRep, hqv, rfl, hL, rfl, rfl⟩, ?_⟩
    show Steps p.tables e below _ ((({ U with heap := s₂.heap, slotsUsed := s₂.slotsUsed } : State).setVm s₂.vm).setTop { g with pc := g.pc + len₂, stack := v.toList ++ g.stack })
    rw [← hs₂]
    exact hsteps
  · have hf₂ : s₂.frames = .throwing q :: .java g :: U.frames.tail := hend
    have hs₂ : s₂ = ((({ U with heap := s₂.heap, slotsUsed := s₂.slotsUsed } : State).setVm s₂.vm).setTop g).pushFrame (.throwing q) := by
      refine e3.trans ?_
      rw [hf₂, State.calling_eq h.top, State.setFrames_setFrames, State.pushFrame, State.frames_setTop _ hr', State.setTop_of_frames _ hr', State.setFrames_setFrames, hr]
      rfl
    subst hg
    refine Or.inr ⟨q, ⟨(({ U with heap := s₂.heap, slotsUsed := s₂.slotsUsed } : State).setVm s₂.vm), Ls ++ L, c0 + rm.cells, s0 + rm.slots⟩,
      ⟨X0.admits, X0.cas, X0.clock, X0.frames, X0.room, X0.hears, X0.method, X0.code, (X0.here.setHeapUsed s₂.heap s₂.slotsUsed).setVm hW'.alike, X0.tail, State.WarmedH.trans X0.warmed hW', X0.limits, X0.bytes, X0.same.trans (hsame.setVm s.vm)⟩,
      ⟨V', L, hRep, hqx, hcell, rfl, hL, rfl, rfl⟩, ?_⟩
    show Steps p.tables e below _ (((({ U with heap := s₂.heap, slotsUsed := s₂.slotsUsed } : State).setVm s₂.vm).setTop g).pushFrame (.throwing q))
    rw [← hs₂]
    exact hsteps
end XCall
/-! ===== calls ===== -/
/-- q is being thrown at pc -/
def rx (C : xC) (I : xV → Prop) (k n pc : Nat) (lv : List (Nat × Value)) (st : List Value) (q : Nat) : Prop :=
  match C with
  | (p, l, e, R, s, m, args, below, meth, c, G, nL, Q, X) => ∀ (V : xV) (H : Heap) (locs : List Loc) (ls : Array Slot), I V → (∃ (ci : Nat) (fs : List Value), V.2 q = some (.inr (ci, fs))) → xRep G V H → (∀ q ∈ locs, G.1.heap.size ≤ q.base) → lv_has ls nL lv → vx_W p l e R s m args below meth c H locs k n (xFin G below s R Q X) (F0 m pc ls st) q
def xPlain (y : MethodName) (n : Nat) : Bool := decide (y.cls ≠ "java/lang/invoke/MethodHandle") && decide (y.cls ≠ "java/lang/invoke/VarHandle") && ((parseMethodDescriptor y.desc).map (fun d => d.parameters.length) == some n)
theorem xPlain_spec {y : MethodName} {n : Nat} (h : xPlain y n = true) : (y.cls ≠ "java/lang/invoke/MethodHandle" ∧ y.cls ≠ "java/lang/invoke/VarHandle") ∧ ∀ sig, parseMethodDescriptor y.desc = some sig → n = sig.parameters.length := by
  simp only [xPlain, Bool.and_eq_true, decide_eq_true_eq, beq_iff_eq] at h
  refine ⟨h.1, fun sig hs => ?_⟩
  have := h.2
  rw [hs] at this
  exact (Option.some.inj this).symm
def xMS (y : MethodName) (bytes : ByteArray) (maxL : Nat) (ret : Option FieldType) (n : Nat) : Prop := Cond.static y ∈ lw_all ∧ Cond.initialized y.cls ∈ lw_all ∧ Cond.code y bytes maxL ret ∈ lw_all ∧ xPlain y n = true
def xMV (Cn : String) (y : MethodName) (bytes : ByteArray) (maxL : Nat) (ret : Option FieldType) (n : Nat) : Prop := Cond.instanceMethod y ∈ lw_all ∧ Cond.selects Cn y y ∈ lw_all ∧ Cond.initialized y.cls ∈ lw_all ∧ Cond.code y bytes maxL ret ∈ lw_all ∧ xPlain y n = true
def xMI (y : MethodName) (bytes : ByteArray) (maxL : Nat) (n : Nat) : Prop := Cond.instanceMethod y ∈ lw_all ∧ Cond.initialized y.cls ∈ lw_all ∧ Cond.code y bytes maxL none ∈ lw_all ∧ xPlain y n = true ∧ y.name = "<init>"
theorem xCode_code {y : MethodName} {bytes : ByteArray} {maxL : Nat} {ret : Option FieldType} : xCode y bytes maxL (Cond.code y bytes maxL ret) := by
  intro a U mk hn h
  obtain ⟨methY, cY, hmY, hcY, -, hlY, -⟩ := Cond.code_spec hn h
  exact ⟨methY, cY, hmY, hcY, hlY⟩
theorem xWarmIni {s : State} {args : Array Value} {c : String} (h : (Cond.initialized c).before args s = true) : ∀ a' U, s.WarmedH U.vm → (Cond.initialized c).before a' U = true :=
  fun a' U hW => word_at hW (Or.inl (by first | rfl | simp [Cond.onTables, Cond.keeps, Cond.steady])) h
theorem xWarmG {s : State} {args : Array Value} (hts : ∀ w ∈ lw_all, w.before args s = true) {w : Cond} (h : w ∈ lw_all) : ∀ a' U, s.WarmedH U.vm → w.before a' U = true :=
  fun a' U hW => word_at hW (good_of_word (List.mem_filter.mp h).2) (hts w h)
section XInv
variable {C : xC} {I : xV → Prop} {k n pc : Nat} {lv lv' : List (Nat × Value)} {st stk : List Value} {own : String} {cc : ByteArray} {nL0 : Nat} {ret : Option FieldType} {rm : Room}
variable {y : MethodName} {bytes : ByteArray} {maxL ix : Nat} {ret2 : Option FieldType} {rm2 : Room} {Q2 : xV → Option Value → xV → Prop} {X2 : xV → Nat → xV → Prop}
theorem r_invS (hC : xCtx C own cc nL0 ret rm) (As : List Value) (hm : xMS y bytes maxL ret2 As.length) (hlink : Cond.methodLink own ix y ∈ lw_all) (hM : ∀ V, I V → xMet (xL C) (xGG C) y [Cond.code y bytes maxL ret2] rm2 As V (Q2 V) (X2 V))
    (hR : (rm2.frames + 1).ble rm.frames = true ∧ (8 + (maxL + 11) + rm2.locals).ble rm.locals = true) (hk : k + rm2.cells ≤ rm.cells) (hn : n + rm2.slots ≤ rm.slots) (hst : As.reverse ++ st = stk) (h8 : (st.map fun v => v.category).sum ≤ 8) (hd : decode cc pc = .ok (.invokestatic ix, 3))
    (pc1 : Nat) (hp : pc + 3 = pc1) (kk : ∀ v, rn C (fun V' => ∃ V, I V ∧ Q2 V v V') (k + rm2.cells) (n + rm2.slots) pc1 lv (v.toList ++ st))
    (kx : ∀ q, rx C (fun V' => ∃ V, I V ∧ X2 V q V') (k + rm2.cells) (n + rm2.slots) pc lv st q) : rn C I k n pc lv stk := by
  subst hp
  obtain ⟨p, l, e, R, s, m, args, below, meth, c, G, nL, Q, X⟩ := C
  obtain ⟨hx, hb, hml, hnL, hown, hts, hK, hr, hlocks, hW0, hRm, -⟩ := hC
  subst hRm
  obtain ⟨hstat, hini, hcode, hpl⟩ := hm
  obtain ⟨hy, hlen⟩ := xPlain_spec hpl
  intro V H locs ls hV hRep hL hl T hT X0
  have hbk := xBack (p := p) (e := e) (below := below) (sargs := args) (len := 3) (W9 := 8) xCode_code (hM V hV) (Nat.le_of_ble_eq_true hR.1) (Nat.le_of_ble_eq_true hR.2) (xWarmG hts hcode) (xWarmIni (hts _ hini))
  rcases vx_callS X0 hx hown (hts _ hlink) (hts _ hstat) (hts _ hini) (hts _ hcode) hy hbk (g := F0 m pc ls stk) rfl (hl.1.trans hml.symm) (argsL := As) (rest := st) hlen hst.symm (lv_room h8) (by rw [hb]; exact hd)
    (fun vm₁ hW₁ => ⟨hk, hn, rfl, State.WarmedH.trans hW0 hW₁, by show xRep G V T.heap; rw [hT]; exact hRep⟩) with ⟨v, vm₁, B, hW1, X', ⟨V', L, hRep', hQ, hlo, hL', hc, hs⟩, hsteps⟩ | ⟨q, vm₁, B, hW1, X', ⟨V', L, hRep', hQ, hcell, hlo, hL', hc, hs⟩, hsteps⟩
  · rw [hlo, hc, hs] at X'
    obtain ⟨t, a1, b1⟩ := kk v V' B.U.heap (locs ++ L) ls ⟨V, hV, hQ⟩ hRep' (fun q hq => (List.mem_append.mp hq).elim (hL q) (hL' q)) hl B.U rfl X'
    exact ⟨t, hsteps t a1, b1⟩
  · rw [hlo, hc, hs] at X'
    obtain ⟨t, a1, b1⟩ := kx q V' B.U.heap (locs ++ L) ls ⟨V, hV, hQ⟩ hcell hRep' (fun q hq => (List.mem_append.mp hq).elim (hL q) (hL' q)) hl B.U rfl X'
    exact ⟨t, hsteps.trans a1, b1⟩
theorem r_invV (hC : xCtx C own cc nL0 ret rm) {ci N : Nat} {cN : String} {T9 : u_T} {ty9 : Nat → FieldType} (hcls : xCls ci cN T9 N ty9) (b : Nat) (As : List Value) (hm : xMV cN y bytes maxL ret2 As.length) (hlink : Cond.methodLink own ix y ∈ lw_all) (hrecv : ∀ V, I V → ∃ fs, V.2 b = some (.inr (ci, fs))) (hM : ∀ V, I V → xMet (xL C) (xGG C) y [Cond.code y bytes maxL ret2] rm2 (.ref b :: As) V (Q2 V) (X2 V))
    (hR : (rm2.frames + 1).ble rm.frames = true ∧ (8 + (maxL + 11) + rm2.locals).ble rm.locals = true) (hk : k + rm2.cells ≤ rm.cells) (hn : n + rm2.slots ≤ rm.slots) (hst : As.reverse ++ .ref b :: st = stk) (h8 : (st.map fun v => v.category).sum ≤ 8) (hd : decode cc pc = .ok (.invokevirtual ix, 3))
    (pc1 : Nat) (hp : pc + 3 = pc1) (kk : ∀ v, rn C (fun V' => ∃ V, I V ∧ Q2 V v V') (k + rm2.cells) (n + rm2.slots) pc1 lv (v.toList ++ st))
    (kx : ∀ q, rx C (fun V' => ∃ V, I V ∧ X2 V q V') (k + rm2.cells) (n + rm2.slots) pc lv st q) : rn C I k n pc lv stk := by
  subst hp
  obtain ⟨p, l, e, R, s, m, args, below, meth, c, G, nL, Q, X⟩ := C
  obtain ⟨hx, hb, hml, hnL, hown, hts, hK, hr, hlocks, hW0, hRm, -⟩ := hC
  subst hRm
  obtain ⟨hinst, hsel, hini, hcode, hpl⟩ := hm
  obtain ⟨hy, hlen⟩ := xPlain_spec hpl
  intro V H locs ls hV hRep hL hl T hT X0
  have hbk := xBack (p := p) (e := e) (below := below) (sargs := args) (len := 3) (W9 := 8) xCode_code (hM V hV) (Nat.le_of_ble_eq_true hR.1) (Nat.le_of_ble_eq_true hR.2) (xWarmG hts hcode) (xWarmIni (hts _ hini))
  obtain ⟨fs, hfs⟩ := hrecv V hV
  obtain ⟨cell, c1, c2, c3, -⟩ := (hRep.at hfs).obj hcls
  rcases vx_callV X0 hx (C := cN) hown (hts _ hlink) (hts _ hinst) (hts _ hsel) (hts _ hcode) hy hbk (b := b) (by rw [hT]; exact c1) (by rw [c3]; rfl) (by rw [c2]; exact (hK.1 ci _ hcls.1).2.1) (g := F0 m pc ls stk) rfl (hl.1.trans hml.symm) (argsL := As) (rest := st) hlen hst.symm (lv_room h8) (by rw [hb]; exact hd)
    (fun vm₁ hW₁ => ⟨hk, hn, rfl, State.WarmedH.trans hW0 hW₁, by show xRep G V T.heap; rw [hT]; exact hRep⟩) with ⟨v, vm₁, B, hW1, X', ⟨V', L, hRep', hQ, hlo, hL', hc, hs⟩, hsteps⟩ | ⟨q, vm₁, B, hW1, X', ⟨V', L, hRep', hQ, hcell, hlo, hL', hc, hs⟩, hsteps⟩
  · rw [hlo, hc, hs] at X'
    obtain ⟨t, a1, b1⟩ := kk v V' B.U.heap (locs ++ L) ls ⟨V, hV, hQ⟩ hRep' (fun q hq => (List.mem_append.mp hq).elim (hL q) (hL' q)) hl B.U rfl X'
    exact ⟨t, hsteps t a1, b1⟩
  · rw [hlo, hc, hs] at X'
    obtain ⟨t, a1, b1⟩ := kx q V' B.U.heap (locs ++ L) ls ⟨V, hV, hQ⟩ hcell hRep' (fun q hq => (List.mem_append.mp hq).elim (hL q) (hL' q)) hl B.U rfl X'
    exact ⟨t, hsteps.trans a1, b1⟩
theorem r_invI (hC : xCtx C own cc nL0 ret rm) (b : Nat) (As : List Value) (hm : xMI y bytes maxL As.length) (hlink : Cond.methodLink own ix y ∈ lw_all) (hM : ∀ V, I V → xMet (xL C) (xGG C) y [Cond.code y bytes maxL none] rm2 (.ref b :: As) V (Q2 V) (X2 V))
    (hR : (rm2.frames + 1).ble rm.frames = true ∧ (8 + (maxL + 11) + rm2.locals).ble rm.locals = true) (hk : k + rm2.cells ≤ rm.cells) (hn : n + rm2.slots ≤ rm.slots) (hst : As.reverse ++ .ref b :: st = stk) (h8 : (st.map fun v => v.category).sum ≤ 8) (hd : decode cc pc = .ok (.invokespecial ix, 3))
    (pc1 : Nat) (hp : pc + 3 = pc1) (kk : ∀ v, rn C (fun V' => ∃ V, I V ∧ Q2 V v V') (k + rm2.cells) (n + rm2.slots) pc1 lv (v.toList ++ st))
    (kx : ∀ q, rx C (fun V' => ∃ V, I V ∧ X2 V q V') (k + rm2.cells) (n + rm2.slots) pc lv st q) : rn C I k n pc lv stk := by
  subst hp
  obtain ⟨p, l, e, R, s, m, args, below, meth, c, G, nL, Q, X⟩ := C
  obtain ⟨hx, hb, hml, hnL, hown, hts, hK, hr, hlocks, hW0, hRm, -⟩ := hC
  subst hRm
  obtain ⟨hinst, hini, hcode, hpl, hy1⟩ := hm
  obtain ⟨hy, hlen⟩ := xPlain_spec hpl
  intro V H locs ls hV hRep hL hl T hT X0
  have hbk := xBack (p := p) (e := e) (below := below) (sargs := args) (len := 3) (W9 := 8) xCode_code (hM V hV) (Nat.le_of_ble_eq_true hR.1) (Nat.le_of_ble_eq_true hR.2) (xWarmG hts hcode) (xWarmIni (hts _ hini))
  rcases vx_callI X0 hx hown hy1 (hts _ hlink) (hts _ hinst) (hts _ hcode) hy hbk (g := F0 m pc ls stk) rfl (hl.1.trans hml.symm) (a := b) (argsL := As) (rest := st) hlen hst.symm (lv_room h8) (by rw [hb]; exact hd)
    (fun vm₁ hW₁ => ⟨hk, hn, rfl, State.WarmedH.trans hW0 hW₁, by show xRep G V T.heap; rw [hT]; exact hRep⟩) with ⟨v, vm₁, B, hW1, X', ⟨V', L, hRep', hQ, hlo, hL', hc, hs⟩, hsteps⟩ | ⟨q, vm₁, B, hW1, X', ⟨V', L, hRep', hQ, hcell, hlo, hL', hc, hs⟩, hsteps⟩
  · rw [hlo, hc, hs] at X'
    obtain ⟨t, a1, b1⟩ := kk v V' B.U.heap (locs ++ L) ls ⟨V, hV, hQ⟩ hRep' (fun q hq => (List.mem_append.mp hq).elim (hL q) (hL' q)) hl B.U rfl X'
    exact ⟨t, hsteps t a1, b1⟩
  · rw [hlo, hc, hs] at X'
    obtain ⟨t, a1, b1⟩ := kx q V' B.U.heap (locs ++ L) ls ⟨V, hV, hQ⟩ hcell hRep' (fun q hq => (List.mem_append.mp hq).elim (hL q) (hL' q)) hl B.U rfl X'
    exact ⟨t, hsteps.trans a1, b1⟩
end XInv
/-! ===== worlds: lists of cells ===== -/
/-- since V0 only cells of F, and new ones, may have changed; the cells ws are there, apart -/
def xSt (F : Nat → Prop) (V0 : xV) (ws : xW) (V : xV) : Prop :=
  (∀ (i : Nat) (q : Nat × xE), ws[i]? = some q → V.2 q.1 = some q.2 ∧ q.1 < V.1 ∧ (F q.1 ∨ V0.1 ≤ q.1)) ∧ (∀ (i j : Nat) (p q : Nat × xE), ws[i]? = some p → ws[j]? = some q → p.1 = q.1 → i = j) ∧ V0.1 ≤ V.1 ∧ ∀ a : Nat, a < V0.1 → ¬ F a → V.2 a = V0.2 a
theorem xSt.get {F : Nat → Prop} {V0 V : xV} {ws : xW} (h : xSt F V0 ws V) (i : Nat) {a : Nat} {e : xE} (hi : ws[i]? = some (a, e)) : V.2 a = some e := (h.1 i _ hi).1
theorem xset_same {V : xV} {a : Nat} {e : xE} : (xset V a e).2 a = some e := if_pos rfl
theorem xset_ne {V : xV} {a b : Nat} {e : xE} (h : b ≠ a) : (xset V a e).2 b = V.2 b := if_neg h
theorem xSt.set {F : Nat → Prop} {V0 V : xV} {ws : xW} (h : xSt F V0 ws V) (i : Nat) {a : Nat} {e : xE} (e' : xE) (hi : ws[i]? = some (a, e)) : xSt F V0 (ws.set i (a, e')) (xset V a e') := by
  obtain ⟨h1, h2, h3, h4⟩ := h
  have hlt : i < ws.length := (List.getElem?_eq_some_iff.mp hi).1
  have hg : ∀ (j : Nat) (q : Nat × xE), (ws.set i (a, e'))[j]? = some q → (j = i ∧ q = (a, e')) ∨ (j ≠ i ∧ ws[j]? = some q) := by
    intro j q hq
    by_cases hji : j = i
    · subst hji
      rw [List.getElem?_set_self hlt] at hq
      exact Or.inl ⟨rfl, (Option.some.inj hq).symm⟩
    · rw [List.getElem?_set_ne (fun h => hji h.symm)] at hq
      exact Or.inr ⟨hji, hq⟩
  refine ⟨fun j q hq => ?_, fun j j2 p q hp hq hpq => ?_, h3, fun b hb hF => ?_⟩
  · rcases hg j q hq with ⟨rfl, rfl⟩ | ⟨hne, hq⟩
    · exact ⟨xset_same, (h1 j _ hi).2⟩
    · obtain ⟨g1, g2⟩ := h1 j q hq
      refine ⟨?_, g2⟩
      rw [xset_ne (fun hqa => hne (h2 j i q (a, e) hq hi hqa))]
      exact g1
  · rcases hg j p hp with ⟨rfl, rfl⟩ | ⟨hne, hp'⟩ <;> rcases hg j2 q hq with ⟨rfl, rfl⟩ | ⟨hne2, hq'⟩
    · rfl
    · exact h2 j j2 (a, e) q hi hq' hpq
    · exact h2 j j2 p (a, e) hp' hi hpq
    · exact h2 j j2 p q hp' hq' hpq
  · rw [xset_ne (fun hba => ?_)]
    · exact h4 b hb hF
    · subst hba
      rcases (h1 i _ hi).2.2 with g | g
      · exact hF g
      · exact absurd hb (by have : V0.1 ≤ b := g; omega)
theorem xSt.push {F : Nat → Prop} {V0 V : xV} {ws : xW} (h : xSt F V0 ws V) (e : xE) : xSt F V0 (ws ++ [(V.1, e)]) (xpush V e) := by
  obtain ⟨h1, h2, h3, h4⟩ := h
  have hg : ∀ (j : Nat) (q : Nat × xE), (ws ++ [(V.1, e)])[j]? = some q → (j = ws.length ∧ q = (V.1, e)) ∨ ws[j]? = some q := by
    intro j q hq
    by_cases hj : j < ws.length
    · rw [List.getElem?_append_left hj] at hq
      exact Or.inr hq
    · rw [List.getElem?_append_right (by omega)] at hq
      have hz : j - ws.length < 1 := (List.getElem?_eq_some_iff.mp hq).1
      rw [show j - ws.length = 0 by omega] at hq
      exact Or.inl ⟨by omega, (Option.some.inj hq).symm⟩
  have hne : ∀ b : Nat, b ≠ V.1 → (xpush V e).2 b = V.2 b := fun b hb => if_neg hb
  refine ⟨fun j q hq => ?_, fun j j2 p q hp hq hpq => ?_, Nat.le_succ_of_le h3, fun b hb hF => ?_⟩
  · rcases hg j q hq with ⟨rfl, rfl⟩ | hq
    · exact ⟨if_pos rfl, Nat.lt_succ_self _, Or.inr h3⟩
    · obtain ⟨g1, g2, g3⟩ := h1 j q hq
      exact ⟨(hne _ (by omega)).trans g1, Nat.lt_succ_of_lt g2, g3⟩
  · rcases hg j p hp with ⟨rfl, rfl⟩ | hp <;> rcases hg j2 q hq with ⟨rfl, rfl⟩ | hq
    · rfl
    · exact absurd (h1 j2 q hq).2.1 (by have : V.1 = q.1 := hpq; omega)
    · exact absurd (h1 j p hp).2.1 (by have : p.1 = V.1 := hpq; omega)
    · exact h2 j j2 p q hp hq hpq
  · rw [hne b (by omega)]
    exact h4 b hb hF
