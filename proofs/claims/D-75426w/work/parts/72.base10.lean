/-! ===== more rules: arrays of references; switches; names ===== -/
set_option maxRecDepth 100000
theorem xMet_ofN {l : Launch} {G : xG} {y : MethodName} {cc : ByteArray} {maxL : Nat} {ret : Option FieldType} {rm : Room} {As : List Value} {V : xV} {Q : Option Value → xV → Prop} {X : Nat → xV → Prop} (own : String) (hG : xGood G) (hown : y.cls = own) (hy : plainName y.cls = true) (hlen : (lg_sl As).length ≤ maxL)
    (body : ∀ C : xC, xCtx C own cc maxL ret rm → (∀ v V', Q v V' → xQ C v V') → (∀ q V', X q V' → xX C q V') → xL C = l → xGG C = G → (y.name = "<init>" → xIni C) → xTab C [] → xNm C y → rn C (fun V' => V' = V) 0 0 0 (lv_args 0 As) []) : xMet l G y [Cond.code y cc maxL ret] rm As V Q X := by
  refine MetFree.of_bodyS (code := cc) (maxLocals := maxL) (ret := ret) hy ?_ ?_
  · intro args s m h hn
    obtain ⟨meth, c, h1, h2, h3, h4, h5, h6, -, -⟩ := Cond.code_spec hn (atoms_spec (ws := [Cond.code y cc maxL ret]) h _ List.mem_cons_self)
    exact ⟨meth, c, h1, h2, h3, h4, h5, h6⟩
  · intro p e s m args below meth c s₁ B hml hP _
    obtain ⟨rfl, hW, hRep⟩ := hP
    have hh0 : s₁.heap = s.heap := by rw [B.state]; rfl
    have hK : va_K G.2.1 vwCl (xtys G) s := va_K.moved hW.alike hG.1
    have hl := lv_entry As (n := maxL) hlen
    have htab : c.exceptionTable.toList = tableOf [] := by
      obtain ⟨meth9, c9, h1, h2, -, -, -, -, h7, -⟩ := Cond.code_spec B.named (atoms_spec (ws := [Cond.code y cc maxL ret]) B.pre _ List.mem_cons_self)
      cases Option.some.inj (h1.symm.trans B.method)
      cases Option.some.inj (h2.symm.trans (Stand.of_body B).code)
      rw [Array.isEmpty_iff.mp h7]
      rfl
    have := body (p, l, e, (headSpec [Cond.code y cc maxL ret] rm).room, s, m, As.toArray, below, meth, c, G, maxL, Q, X)
      ⟨B.exec, B.bytes, hml, rfl, by rw [← hown]; exact findClass_of_methodNamed B.named, xWords hG hW, hK, B.returns, B.notSynchronized, hW, rfl, by rw [hRep.1]; exact hRep.2.1⟩ (fun _ _ h => h) (fun _ _ h => h) rfl rfl (fun h => by
        show meth.name = "<init>"
        rw [(name_of_methodNamed B.named B.method).1]; exact h) htab B.named V s.heap [] _ rfl hRep (fun _ h => by cases h) hl
    rw [← lg_entry_eq] at this
    obtain ⟨t, a1, o, b1, b2, b3⟩ := this s₁ hh0 (Stand.of_body B)
    exact ⟨t, o, a1, b1, b2, b3⟩
/-- the class of the components, by its name -/
def xComp : FieldType → Option String
  | .object n => some n
  | .array u => some (FieldType.array u).toString
  | _ => none
theorem overS {args : Array Value} {s : State} {ty : FieldType} {N : String} (hN : xComp ty = some N) (h : (Cond.arrayOver ty).before args s = true) :
    ∃ comp c k, s.vm.findClass N = some comp ∧ (s.vm.classes.findIdx? fun x => match x.kind with | .array component _ => component == comp | _ => false) = some c ∧ s.vm.classes[c]? = some k ∧ k.kind = .array comp ty ∧ s.vm.findClass ("[" ++ ty.toString) = some c := by
  simp only [Cond.before, Cond.holds, Cond.value, beq_iff_eq] at h
  cases ty with
  | object n =>
      cases hN
      cases hc : s.vm.findClass N with
      | none => simp [hc] at h
      | some comp =>
        simp only [hc, Option.bind_some, Option.bind_eq_some_iff, Option.map_eq_some_iff] at h
        obtain ⟨c, hi, k, hk, hb⟩ := h
        obtain ⟨hlt, hp, -⟩ := Array.findIdx?_eq_some_iff_getElem.mp hi
        have hkk : s.vm.classes[c] = k := (Array.getElem?_eq_some_iff.mp hk).2
        rw [hkk] at hp
        cases hkind : k.kind with
        | array component ty9 =>
          rw [hkind] at hb hp
          simp at hb hp
          exact ⟨comp, c, k, rfl, hi, hk, by rw [hkind, hp, hb.1], hb.2⟩
        | _ => rw [hkind] at hb; simp at hb
  | array u =>
      cases hN
      cases hc : s.vm.findClass (FieldType.array u).toString with
      | none => simp [hc] at h
      | some comp =>
        simp only [hc, Option.bind_some, Option.bind_eq_some_iff, Option.map_eq_some_iff] at h
        obtain ⟨c, hi, k, hk, hb⟩ := h
        obtain ⟨hlt, hp, -⟩ := Array.findIdx?_eq_some_iff_getElem.mp hi
        have hkk : s.vm.classes[c] = k := (Array.getElem?_eq_some_iff.mp hk).2
        rw [hkk] at hp
        cases hkind : k.kind with
        | array component ty9 =>
          rw [hkind] at hb hp
          simp at hb hp
          exact ⟨comp, c, k, rfl, hi, hk, by rw [hkind, hp, hb.1], hb.2⟩
        | _ => rw [hkind] at hb; simp at hb
  | _ => cases hN
section XA10
variable {C : xC} {I : xV → Prop} {k n pc : Nat} {lv lv' : List (Nat × Value)} {st stk : List Value} {own : String} {cc : ByteArray} {nL0 : Nat} {ret : Option FieldType} {rm : Room}
theorem r_anew (hC : xCtx C own cc nL0 ret rm) (hG : xGood (xGG C)) {J : Nat → xV → Prop} {Nc : String} {ix : Nat} (ty : FieldType) (t : Nat) {z : Int32} (N : Nat) (hcl : Cond.classLink own ix Nc ∈ lw_all) (hov : Cond.arrayOver ty ∈ lw_tbl) (hcomp : xComp ty = some Nc) (ht : vwAr[t]? = some ty) (hz : z = nI N) (hN : N < 65536) (hk1 : k + 1 ≤ rm.cells) (hn1 : n + N ≤ rm.slots) (hd : decode cc pc = .ok (.anewarray ix, 3)) (hJ : ∀ V, I V → J V.1 (xpush V (.inl (t, (N, .inr (.inr (.inr (.inr (fun _ => none))))))))) (pc1 : Nat) (hp : pc + 3 = pc1) (kk : ∀ q, rn C (J q) (k + 1) (n + N) pc1 lv (.ref q :: st)) : rn C I k n pc lv (.int z :: st) := by
  subst hp
  obtain ⟨p, l, e, R, s, m, args, below, meth, c, G, nL, Q, X⟩ := C
  obtain ⟨hx, hb, hml, hnL, hown, hts, hK, hr, hlocks, hW0, hRm, hsz⟩ := hC
  subst hRm
  obtain ⟨-, b9, ht9, -⟩ := id hG
  obtain ⟨comp, cA, kA, hco, hidx, hkA, hkindA, hnameA⟩ := overS hcomp (ht9 _ hov)
  have href : ty.isReference = true := by cases ty <;> first | rfl | cases hcomp
  have hcA : G.2.2.1 t = cA := by
    have h1 := (xtys_at hK ht).2
    have h2 : s.vm.findClass ("[" ++ ty.toString) = some (G.2.2.1 t) := by
      cases ty with
      | object n9 => obtain ⟨_, _, _, _, _, h⟩ := h1; exact h
      | _ => exact h1
    rw [hW0.alike.findClass, hnameA] at h2
    exact (Option.some.inj h2).symm
  have hpl : e.platform.magicAccessors = ({} : Platform).magicAccessors → True := fun _ => trivial
  intro V H locs ls hV hRep hL hl T hT X0
  have hpl : e.platform.magicAccessors = ({} : Platform).magicAccessors := by rw [X0.admits.platform]
  obtain ⟨cc9, hfcc, hcl9⟩ := Cond.classLink_spec hown (hts _ hcl) e.platform hpl
  have hco' : s.vm.findClass Nc = some comp := by rw [hW0.alike.findClass]; exact hco
  cases hco'.symm.trans hfcc
  obtain ⟨kComp, hkComp, -⟩ := Vm.findClass_spec hco'
  obtain ⟨kA', hkA', heA'⟩ := hW0.alike.2.2 _ _ hkA
  have hidx' : (s.vm.classes.findIdx? fun x => match x.kind with | .array component _ => component == comp | _ => false) = some cA := by
    rw [hW0.alike.findIdx?_eqK _ (fun _ => rfl)]; exact hidx
  obtain ⟨hg₁, hwarm₁, hready₁⟩ := State.classEntry (e := e) X0.warmed hcl9
  generalize T.vm.noted m.cls ix (.cls comp) = vm₁ at hg₁ hwarm₁ hready₁
  have hal : s.vm.Alike vm₁ := hwarm₁.alike
  obtain ⟨kComp₁, hkComp₁, -⟩ := hal.2.2 _ _ hkComp
  obtain ⟨kA₁, hkA₁, heA⟩ := hal.2.2 _ _ hkA'
  have hkindA₁ : kA₁.kind = .array comp ty := by rw [heA]; show kA'.kind = _; rw [heA']; exact hkindA
  have hidx₁ : (vm₁.classes.findIdx? fun x => match x.kind with | .array component _ => component == comp | _ => false) = some cA := by
    rw [hal.findIdx?_eqK _ (fun _ => rfl)]; exact hidx'
  have hzc : z.toNatClampNeg = N := by rw [hz]; exact nI_clamp (by omega)
  have hzn : ¬ z < 0 := by rw [hz]; exact nI_pos (by omega)
  have hcb : componentBytes ty ≤ 8 := by cases ty <;> simp [componentBytes]
  have hlimit : ¬ z.toNatClampNeg > e.platform.arrayLengthLimit := by rw [Launch.admits_arrayLengthLimit X0.admits, hzc]; omega
  have hheap : ¬ z.toNatClampNeg * componentBytes ty > e.platform.maxHeapBytes := by
    rw [Launch.admits_maxHeapBytes X0.admits, hzc]
    have : N * componentBytes ty ≤ 65536 * 8 := Nat.mul_le_mul (by omega) hcb
    omega
  have X₁ := X0.noted hwarm₁
  have X₂ := X₁.pushed { cls := cA, slots := Array.replicate z.toNatClampNeg .null, vm := .none }
  rw [hzc] at X₂
  obtain ⟨hr1, hr2⟩ := X0.roomAbove hk1 hn1
  have hRep' : xRep G (xpush V (.inl (t, (N, .inr (.inr (.inr (.inr (fun _ => none)))))))) (H.push { cls := cA, slots := Array.replicate N .null, vm := .none }) := by
    refine hRep.push (by rw [Array.size_push, hRep.1]) (fun q hq => by rw [Array.getElem?_push, if_neg (by have := hRep.1; omega)]) ?_
    show (H.push _)[V.1]? = some (vp_cell (G.2.2.1 t) (N, .inr (.inr (.inr (.inr (fun _ => none))))))
    rw [← hRep.1, Array.getElem?_push_size, hcA, vp_cell_q]
    exact congrArg some (arrV_new cA N .null)
  obtain ⟨t9, a1, b1⟩ := kk V.1 (xpush V (.inl (t, (N, .inr (.inr (.inr (.inr (fun _ => none)))))))) (H.push { cls := cA, slots := Array.replicate N .null, vm := .none }) locs ls (hJ V hV) hRep' hL hl ((T.setVm vm₁).pushCell { cls := cA, slots := Array.replicate N .null, vm := .none }) (by show T.heap.push _ = _; rw [hT]) (by simpa using X₂)
  refine ⟨t9, ?_, b1⟩
  jvm_step X0.here [X0.here.top, hx, hb, hd, anewarray.wp_cold (e := e) (s := T) (f := F0 m pc ls (.int z :: st)) X0.here.top hg₁ hready₁,
    anewarray.wp_ready (e := e) (s := T.setVm vm₁) (f := F0 m pc ls (.int z :: st)) (kc := kComp₁) (k := kA₁) (type := ty) X0.here.top hready₁ hkComp₁ hidx₁ hkA₁ hkindA₁ href rfl hzn hlimit hheap]
  have hTs : T.heap.size = V.1 := by rw [hT]; exact hRep.1
  refine ⟨by show T.heap.size < _; omega, by rw [hzc]; show T.slotsUsed + _ ≤ _; exact hr2, ?_⟩
  rw [hzc]
  rw [hTs]
  exact a1
theorem r_dupx2 (hC : xCtx C own cc nL0 ret rm) {va vb vd : Value} (hd : decode cc pc = .ok (.dup_x2, 1)) (h1 : va.category = 1) (h2 : vb.category = 1) (h3 : vd.category = 1) (pc1 : Nat) (hp : pc + 1 = pc1) (kk : rn C I k n pc1 lv (va :: vb :: vd :: va :: st)) : rn C I k n pc lv (va :: vb :: vd :: st) := by
  subst hp
  obtain ⟨p, l, e, R, s, m, args, below, meth, c, G, nL, Q, X⟩ := C
  obtain ⟨hx, hb, -⟩ := hC
  exact fun V H locs ls hV hR hL hl => lv_dup_x2 hx hb hd h1 h2 h3 (kk V H locs ls hV hR hL hl)
end XA10
