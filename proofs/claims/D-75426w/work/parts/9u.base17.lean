/-! ===== string constants ===== -/
set_option maxRecDepth 100000
/-- an old string: its object, its bytes -/
def xStr (G : xG) (a v n : Nat) (B : Nat → Int32) : Prop := va_O "java/lang/String" a (xA G) G.1 G.1.heap ∧ va_OF "java/lang/String" "coder" "B" (.int 0) a (xA G) G.1 G.1.heap ∧ va_OF "java/lang/String" "value" "[B" (.ref v) a (xA G) G.1 G.1.heap ∧ xTb G .byte v n (fun j => .int (B j)) ∧ n < 65536
theorem xOldq {G : xG} {V : xV} {H : Heap} (hR : xRep G V H) : ∀ a : Nat, a < G.1.heap.size → ¬ xA G a → H[a]? = G.1.heap[a]? := fun a h _ => hR.2.2.1 a h
theorem xOldlt {G : xG} {a : Nat} {E : String} (h : va_O E a (xA G) G.1 G.1.heap) : a < G.1.heap.size := by
  obtain ⟨cell, h1, -⟩ := h
  exact (Array.getElem?_eq_some_iff.mp h1).1
section XSTR
variable {C : xC} {I : xV → Prop} {k n pc len : Nat} {lv lv' : List (Nat × Value)} {st stk : List Value} {own : String} {cc : ByteArray} {nL0 : Nat} {ret : Option FieldType} {rm : Room}
theorem r_ldcS (hC : xCtx C own cc nL0 ret rm) {tx : String} {ix a : Nat} (hZ : vk_R own ix tx a (xGG C).1) (hd : decode cc pc = .ok (.ldc ix, 2)) (pc1 : Nat) (hp : pc + 2 = pc1) (kk : rn C I k n pc1 lv (.ref a :: st)) : rn C I k n pc lv st := by
  subst hp
  obtain ⟨p, l, e, R, s, m, args, below, meth, c, G, nL, Q, X⟩ := C
  obtain ⟨hx, hb, hml, hnL, hown, hts, hK, -, -, hW0, -⟩ := hC
  exact fun V H locs ls hV hR hL hl => va_ldcS hx hb hown (vk_R.warm hW0 hZ) hd (kk V H locs ls hV hR hL hl)
theorem r_ldcwS (hC : xCtx C own cc nL0 ret rm) {tx : String} {ix a : Nat} (hZ : vk_R own ix tx a (xGG C).1) (hd : decode cc pc = .ok (.ldc_w ix, 3)) (pc1 : Nat) (hp : pc + 3 = pc1) (kk : rn C I k n pc1 lv (.ref a :: st)) : rn C I k n pc lv st := by
  subst hp
  obtain ⟨p, l, e, R, s, m, args, below, meth, c, G, nL, Q, X⟩ := C
  obtain ⟨hx, hb, hml, hnL, hown, hts, hK, -, -, hW0, -⟩ := hC
  intro V H locs ls hV hR hL hl T hT X0
  obtain ⟨t, a1, b1⟩ := kk V H locs ls hV hR hL hl T hT X0
  refine ⟨t, ?_, b1⟩
  obtain ⟨hz1, hz2⟩ := vk_R.warm hW0 hZ
  obtain ⟨kc, cf, i, a', hk, hcf, hcp, -, hr, hev'⟩ := Cond.stringRef_spec hown hz1
  cases hz2.symm.trans hev'
  obtain ⟨k', hk', he⟩ := X0.warmed.alike.2.2 _ _ hk
  have hr' : k'.resolved[ix]? = some (some (.string a)) := by
    rcases X0.warmed.entry hk hk' ix with h | ⟨h, -⟩
    · rw [h]; exact hr
    · rw [hr] at h; cases h
  jvm_step X0.here [X0.here.top, hx, hb, hd, Jvm.Op.ldc_w.wp_string (s := T) (f := F0 m pc ls st) X0.here.top hk' (by rw [he]; exact hcf) hcp hr']
  exact a1
/-- a field of an old object -/
theorem r_getO (hC : xCtx C own cc nL0 ret rm) {o nm d : String} {ix a : Nat} {v : Value} (hE : va_OF o nm d v a (xA (xGG C)) (xGG C).1 (xGG C).1.heap) (hq : Cond.fieldLink own ix o nm d ∈ lw_all) (hd : decode cc pc = .ok (.getfield ix, 3)) (pc1 : Nat) (hp : pc + 3 = pc1) (kk : rn C I k n pc1 lv (v :: st)) : rn C I k n pc lv (.ref a :: st) := by
  subst hp
  obtain ⟨p, l, e, R, s, m, args, below, meth, c, G, nL, Q, X⟩ := C
  obtain ⟨hx, hb, hml, hnL, hown, hts, hK, -, -, hW0, -⟩ := hC
  intro V H locs ls hV hR hL hl
  obtain ⟨cf, k9, fi, f, cell, h1, h2, h3, h4, h5, h6⟩ := (va_OF.moved hW0.alike hE).kept (xOldq hR)
  exact W.getf hx hb hown (hts _ hq) h1 h2 h3 h4 (v := v) h5 rfl rfl hd (kk V H locs ls hV hR hL hl)
theorem r_instO (hC : xCtx C own cc nL0 ret rm) {nm : String} {ix a : Nat} (hE : va_O nm a (xA (xGG C)) (xGG C).1 (xGG C).1.heap) (hlink : Cond.classLink own ix nm ∈ lw_all) (hd : decode cc pc = .ok (.instanceof ix, 3)) (pc1 : Nat) (hp : pc + 3 = pc1) (kk : rn C I k n pc1 lv (.int 1 :: st)) : rn C I k n pc lv (.ref a :: st) := by
  subst hp
  obtain ⟨p, l, e, R, s, m, args, below, meth, c, G, nL, Q, X⟩ := C
  obtain ⟨hx, hb, hml, hnL, hown, hts, hK, -, -, hW0, -⟩ := hC
  intro V H locs ls hV hR hL hl
  obtain ⟨cell, h1, h2, h3, -⟩ := (va_O.moved hW0.alike hE).kept (xOldq hR)
  exact va_instE hx hb hown (hts _ hlink) ⟨cell, h1, h2, h3⟩ hd (kk V H locs ls hV hR hL hl)
theorem r_castO (hC : xCtx C own cc nL0 ret rm) {nm : String} {ix a : Nat} (hE : va_O nm a (xA (xGG C)) (xGG C).1 (xGG C).1.heap) (hlink : Cond.classLink own ix nm ∈ lw_all) (hd : decode cc pc = .ok (.checkcast ix, 3)) (pc1 : Nat) (hp : pc + 3 = pc1) (kk : rn C I k n pc1 lv (.ref a :: st)) : rn C I k n pc lv (.ref a :: st) := by
  subst hp
  obtain ⟨p, l, e, R, s, m, args, below, meth, c, G, nL, Q, X⟩ := C
  obtain ⟨hx, hb, hml, hnL, hown, hts, hK, -, -, hW0, -⟩ := hC
  intro V H locs ls hV hR hL hl
  obtain ⟨cell, h1, h2, h3, -⟩ := (va_O.moved hW0.alike hE).kept (xOldq hR)
  exact va_castE hx hb hown (hts _ hlink) ⟨cell, h1, h2, h3⟩ hd (kk V H locs ls hV hR hL hl)
/-- the length of an old array -/
theorem r_alenT (hC : xCtx C own cc nL0 ret rm) {ty : FieldType} {t N : Nat} {f : Nat → Value} (hT : xTb (xGG C) ty t N f) (hd : decode cc pc = .ok (.arraylength, 1)) (pc1 : Nat) (hp : pc + 1 = pc1) (kk : rn C I k n pc1 lv (.int (nI N) :: st)) : rn C I k n pc lv (.ref t :: st) := by
  subst hp
  obtain ⟨p, l, e, R, s, m, args, below, meth, c, G, nL, Q, X⟩ := C
  obtain ⟨hx, hb, hml, hnL, hown, hts, hK, -, -, hW0, -⟩ := hC
  intro V H locs ls hV hR hL hl
  obtain ⟨cell, h1, h2, h3, h4, h5, h6, h7⟩ := (va_T.moved hW0.alike hT).kept (xOldq hR)
  exact W.alen (n := nI N) hx hb h1 h2 h5 rfl rfl hd (kk V H locs ls hV hR hL hl)
/-- a new reference is no old one -/
theorem r_acneO (hC : xCtx C own cc nL0 ret rm) {a b : Nat} {off : Int} (tgt : Nat) (hI : ∀ V, I V → ∃ e, V.2 a = some e) (hb9 : b < (xGG C).1.heap.size) (hd : decode cc pc = .ok (.if_acmp .ne off, 3)) (ht : (pc : Int) + off = (tgt : Int)) (kk : rn C I k n tgt lv st) : rn C I k n pc lv (.ref b :: .ref a :: st) := by
  have hC0 := hC
  obtain ⟨p, l, e, R, s, m, args, below, meth, c, G, nL, Q, X⟩ := C
  intro V H locs ls hV hR hL hl
  have hne : ¬ (some a : Option Nat) = some b := by
    intro h
    obtain rfl := Option.some.inj h
    obtain ⟨x, hx⟩ := hI V hV
    have h8 := (hR.2.2.2 a x hx).1
    have h9 : a < G.1.heap.size := hb9
    omega
  exact r_acne (rx := some a) (ry := some b) hC0 tgt hd ht _ rfl (fun _ => kk) (fun h => absurd h hne) V H locs ls hV hR hL hl
/-- bytes copied out of an old array -/
theorem r_copyT (hC : xCtx C own cc nL0 ret rm) {J : xV → Prop} {ix a0 a n0 n1 : Nat} {f g : Nat → Int32} (sp dp n9 : Nat) (hq : Cond.methodLink own ix arraycopyName ∈ lw_all) (hX : xTb (xGG C) .byte a0 n0 (fun j => .int (f j))) (hI1 : ∀ V, I V → V.2 a = some (.inl (2, n1, .inl g))) (h4 : sp + n9 ≤ n0) (h5 : dp + n9 ≤ n1) (hb0 : n0 < 2 ^ 31) (hb1 : n1 < 2 ^ 31) (hfit : ∀ i, i < n9 → fits .byte (.int (f (sp + i))) = true) (h8 : (st.map fun v => v.category).sum ≤ 8) (hf : 1 ≤ rm.frames) (hlo : 60 ≤ rm.locals) (hd : decode cc pc = .ok (.invokestatic ix, 3)) (hJ : ∀ V, I V → J (xset V a (.inl (2, n1, .inl (va_cpy f g sp dp n9))))) (pc1 : Nat) (hp : pc + 3 = pc1) (kk : rn C J k n pc1 lv st) : rn C I k n pc lv (.int (nI n9) :: .int (nI dp) :: .ref a :: .int (nI sp) :: .ref a0 :: st) := by
  subst hp
  obtain ⟨p, l, e, R, s, m, args, below, meth, c, G, nL, Q, X⟩ := C
  obtain ⟨hx, hb, hml, hnL, hown, hts, hK, hr, hlocks, hW0, hRm, -⟩ := hC
  subst hRm
  intro V H locs ls hV hR hL hl T hT X0
  obtain ⟨cs, g1, g2, g3, g4, g5, g6, g7⟩ := (va_T.moved hW0.alike hX).kept (xOldq hR)
  have hc1 : H[a]? = some (vp_cell (G.2.2.1 2) (n1, .inl g)) := hR.at (hI1 V hV)
  obtain ⟨g3', k0, hk0, cm0, hkk0⟩ := g2
  obtain ⟨-, k1, hk1, cm1, hkk1⟩ := (xtys_at (t := 2) hK rfl).1 n1 (fun j => .int (g j))
  have hnf : nativeFrameWords "java/lang/System" "arraycopy" 5 + 11 ≤ 52 := by decide
  have es : (nI sp).toNatClampNeg = sp := nI_clamp (by omega)
  have ed : (nI dp).toNatClampNeg = dp := nI_clamp (by omega)
  have en : (nI n9).toNatClampNeg = n9 := nI_clamp (by omega)
  obtain ⟨vm', X', step⟩ := X0.arraycopy hx hown (hts _ hq) (hts _ q672) (hts _ q671) (hts _ q120) (src := a0) (dst := a) (cs := cs) (cd := vp_cell (G.2.2.1 2) (n1, .inl g)) (srcPos := nI sp) (destPos := nI dp) (n := nI n9) (by rw [hT]; exact g1) (by rw [hT]; exact hc1)
    g3' (fun _ h => by cases h) g3 (fun h => by cases h) hk0 hk1 hkk0 hkk1 (by simp [refKind]) (nI_pos (by omega)) (nI_pos (by omega)) (nI_pos (by omega))
    (by rw [nI_toInt (by omega), nI_toInt (by omega)]; omega)
    (by rw [nI_toInt (by omega), nI_toInt (by omega)]; show ¬ _ > ((arrV _ n1 (fun j => .int (g j))).slots.size : Int); rw [arrV_size]; omega)
    (fun vm₁ _ i hi => by
      rw [en] at hi
      have e : cs.slots.getD ((nI sp).toNatClampNeg + i) .null = .int (f (sp + i)) := by
        rw [es, Array.getD_eq_getD_getElem?, g6 _ (by omega)]
        rfl
      refine ⟨?_, ?_⟩
      · rw [e]
        exact hfit i hi
      · rw [e]
        exact trivial)
    (g := F0 m pc ls (.int (nI n9) :: .int (nI dp) :: .ref a :: .int (nI sp) :: .ref a0 :: st)) rfl (hl.1.trans hml.symm) (rest := st) rfl (by rw [hb]; exact hd) hf (by show 2 * 0 + _ + (nativeFrameWords "java/lang/System" "arraycopy" 5 + 11) ≤ _; omega)
  have e1 : copied cs (vp_cell (G.2.2.1 2) (n1, .inl g)) (nI sp) (nI dp) (nI n9) = vp_cell (G.2.2.1 2) (n1, .inl (va_cpy f g sp dp n9)) := by
    have := va_copiedX (fun z => .int z) cs (G.2.2.1 2) (n1 := n1) (dp := dp) f g g6 h4
    unfold copied
    rw [es, ed, en]
    exact this
  rw [e1] at X' step
  have hlt : a < H.size := (Array.getElem?_eq_some_iff.mp hc1).1
  have hheap : ((T.setVm vm').setCell a (vp_cell (G.2.2.1 2) (n1, .inl (va_cpy f g sp dp n9)))).heap = H.setIfInBounds a (vp_cell (G.2.2.1 2) (n1, .inl (va_cpy f g sp dp n9))) := by rw [← hT]; rfl
  have oq : ∀ q : Nat, q ≠ a → (H.setIfInBounds a (vp_cell (G.2.2.1 2) (n1, .inl (va_cpy f g sp dp n9))))[q]? = H[q]? := fun q hq => by simp [Array.getElem?_setIfInBounds, Ne.symm hq]
  have hR1 : xRep G (xset V a (.inl (2, n1, .inl (va_cpy f g sp dp n9)))) (H.setIfInBounds a (vp_cell (G.2.2.1 2) (n1, .inl (va_cpy f g sp dp n9)))) := hR.set (hI1 V hV) (by simp) oq (show (H.setIfInBounds a _)[a]? = some _ by simp [Array.getElem?_setIfInBounds, hlt])
  obtain ⟨t9, a1, b1⟩ := kk _ _ _ ls (hJ V hV) hR1 (fun q hq => by
      rcases List.mem_append.mp hq with h | h
      · exact hL q h
      · obtain ⟨z, -, hz⟩ := List.mem_map.mp h
        rw [← hz]
        exact (hR.2.2.2 _ _ (hI1 V hV)).1) hl _ hheap X'
  exact ⟨t9, step t9 a1, b1⟩
/-- an array of bytes is cloned -/
theorem r_clone (hC : xCtx C own cc nL0 ret rm) (hG : xGood (xGG C)) {J : Nat → xV → Prop} {ix a N : Nat} {f : Nat → Int32} (hq : Cond.methodLink own ix ⟨"[B", "clone", "()Ljava/lang/Object;"⟩ ∈ lw_all) (hI : ∀ V, I V → V.2 a = some (.inl (2, N, .inl f))) (hfit : ∀ i, i < N → fits .byte (.int (f i)) = true) (h8 : (st.map fun v => v.category).sum ≤ 8) (hf : 1 ≤ rm.frames) (hlo : 30 ≤ rm.locals) (hk1 : k + 1 ≤ rm.cells) (hn1 : n + N ≤ rm.slots) (hd : decode cc pc = .ok (.invokevirtual ix, 3)) (hJ : ∀ V, I V → J V.1 (xpush V (.inl (2, N, .inl f)))) (pc1 : Nat) (hp : pc + 3 = pc1) (kk : ∀ q, rn C (J q) (k + 1) (n + N) pc1 lv (.ref q :: st)) : rn C I k n pc lv (.ref a :: st) := by
  subst hp
  obtain ⟨p, l, e, R, s, m, args, below, meth, c, G, nL, Q, X⟩ := C
  obtain ⟨hx, hb, hml, hnL, hown, hts, hK, hr, hlocks, hW0, hRm, -⟩ := hC
  subst hRm
  intro V H locs ls hV hR hL hl T hT X0
  have hc : H[a]? = some (vp_cell (G.2.2.1 2) (N, .inl f)) := hR.at (hI V hV)
  have hnm : s.vm.findClass "[B" = some (G.2.2.1 2) := xprim_RA (ty := .byte) rfl (xtys_at (t := 2) hK rfl).2
  obtain ⟨c0, t0', f1, f2, f3⟩ := Cond.castable_spec (va_Nw.use (A := args) rfl (va_Nw.warmC hW0 (xT hG rfl q1022)))
  cases hnm.symm.trans f1
  have hsz : (vp_cell (G.2.2.1 2) (N, .inl f)).slots.size = N := arrV_size _ _ _
  obtain ⟨-, kA, hkA, comp, hkind⟩ := State.isArrayOf_alike X0.warmed.alike ((xtys_at (t := 2) hK rfl).1 0 (fun _ => .null))
  obtain ⟨-, kS, hkS, compS, hkindS⟩ := (xtys_at (t := 2) hK rfl).1 0 (fun _ => .null)
  obtain ⟨vm', X', step⟩ := X0.cloneArray hx hown (hts _ hq) (hts _ q1018) (hts _ q1019) (hts _ q1020) (hts _ q1021) (a := a) (cell := vp_cell (G.2.2.1 2) (N, .inl f)) (by rw [hT]; exact hc) (fun k h => by cases h) (fun h => by cases h) hnm f2 f3
    (fun i v hv => by
      have hk' : T.vm.classes[G.2.2.1 2]? = some kA := hkA
      have hi : i < N := by rw [← hsz]; exact (Array.getElem?_eq_some_iff.mp hv).1
      have hv' : v = .int (f i) := by
        have h9 : (arrV (G.2.2.1 2) N (fun j => .int (f j))).slots[i]? = some v := hv
        rw [arrV_read _ _ hi] at h9
        exact (Option.some.inj h9).symm
      have hcl0 : (vp_cell (G.2.2.1 2) (N, .inl f)).cls = G.2.2.1 2 := rfl
      rw [hcl0, hv']
      simpa [State.fitsSlot, State.slotType?, hk', hkind] using hfit i hi)
    (g := F0 m pc ls (.ref a :: st)) rfl (hl.1.trans hml.symm) rfl (by rw [hb]; exact hd) hf (by show 2 * 0 + _ + 14 ≤ _; omega) hk1 (by rw [hsz]; exact hn1) (hloader := Vm.clonesLoader_of_array hkS hkindS)
  rw [show ({ cls := (vp_cell (G.2.2.1 2) (N, .inl f)).cls, slots := (vp_cell (G.2.2.1 2) (N, .inl f)).slots } : Cell) = vp_cell (G.2.2.1 2) (N, .inl f) from rfl, hsz] at X'
  have hTs : T.heap.size = V.1 := by rw [hT]; exact hR.1
  have hRep' : xRep G (xpush V (.inl (2, N, .inl f))) (H.push (vp_cell (G.2.2.1 2) (N, .inl f))) := by
    refine hR.push (by rw [Array.size_push, hR.1]) (fun q hq => by rw [Array.getElem?_push, if_neg (by have := hR.1; omega)]) ?_
    show (H.push _)[V.1]? = some _
    rw [← hR.1, Array.getElem?_push_size]
  obtain ⟨t9, a1, b1⟩ := kk V.1 (xpush V (.inl (2, N, .inl f))) (H.push (vp_cell (G.2.2.1 2) (N, .inl f))) locs ls (hJ V hV) hRep' hL hl _ (by show T.heap.push _ = _; rw [hT]) X'
  refine ⟨t9, step _ ?_, b1⟩
  rw [hTs]
  exact a1
theorem r_castB (hC : xCtx C own cc nL0 ret rm) {ix a N : Nat} {f : Nat → Int32} (hI : ∀ V, I V → V.2 a = some (.inl (2, N, .inl f))) (hlink : Cond.classLink own ix "[B" ∈ lw_all) (hd : decode cc pc = .ok (.checkcast ix, 3)) (pc1 : Nat) (hp : pc + 3 = pc1) (kk : rn C I k n pc1 lv (.ref a :: st)) : rn C I k n pc lv (.ref a :: st) := by
  subst hp
  obtain ⟨p, l, e, R, s, m, args, below, meth, c, G, nL, Q, X⟩ := C
  obtain ⟨hx, hb, hml, hnL, hown, hts, hK, -, -, hW0, -⟩ := hC
  intro V H locs ls hV hR hL hl
  have hc : H[a]? = some (vp_cell (G.2.2.1 2) (N, .inl f)) := hR.at (hI V hV)
  have hnm : s.vm.findClass "[B" = some (G.2.2.1 2) := xprim_RA (ty := .byte) rfl (xtys_at (t := 2) hK rfl).2
  exact va_castE hx hb hown (hts _ hlink) ⟨_, hc, rfl, hnm⟩ hd (kk V H locs ls hV hR hL hl)
end XSTR
section XCVO
variable {C : xC} {I : xV → Prop} {k n pc len : Nat} {lv lv' : List (Nat × Value)} {st stk : List Value} {own : String} {cc : ByteArray} {nL0 : Nat} {ret : Option FieldType} {rm : Room}
variable {y : MethodName} {bytes : ByteArray} {maxL ix : Nat} {ret2 : Option FieldType} {rm2 : Room} {Q2 : xV → Option Value → xV → Prop} {X2 : xV → Nat → xV → Prop}
theorem r_cVO (hC : xCtx C own cc nL0 ret rm) {nmO : String} (b : Nat) (hO : va_O nmO b (xA (xGG C)) (xGG C).1 (xGG C).1.heap) (As : List Value) (hm : xMV nmO y bytes maxL ret2 As.length) (hlink : Cond.methodLink own ix y ∈ lw_all)  (hM : ∀ V, I V → xMet (xL C) (xGG C) y [Cond.code y bytes maxL ret2] rm2 (.ref b :: As) V (Q2 V) (X2 V))
    (hR : (rm2.frames + 1).ble rm.frames = true ∧ (8 + (maxL + 11) + rm2.locals).ble rm.locals = true) (hk : k + rm2.cells ≤ rm.cells) (hn : n + rm2.slots ≤ rm.slots) (hst : As.reverse ++ .ref b :: st = stk) (h8 : (st.map fun v => v.category).sum ≤ 8) (hd : decode cc pc = .ok (.invokevirtual ix, 3)) : xCall C I k n pc 3 lv stk st rm2 Q2 X2 := by
  intro kk kx
  obtain ⟨p, l, e, R, s, m, args, below, meth, c, G, nL, Q, X⟩ := C
  obtain ⟨hx, hb, hml, hnL, hown, hts, hK, hr, hlocks, hW0, hRm, -⟩ := hC
  subst hRm
  obtain ⟨hinst, hsel, hini, hcode, hpl⟩ := hm
  obtain ⟨hy, hlen⟩ := xPlain_spec hpl
  intro V H locs ls hV hRep hL hl T hT X0
  have hbk := xBack (p := p) (e := e) (below := below) (sargs := args) (len := 3) (W9 := 8) xCode_code (hM V hV) (Nat.le_of_ble_eq_true hR.1) (Nat.le_of_ble_eq_true hR.2) (xWarmG hts hcode) (xWarmIni (hts _ hini))
  obtain ⟨cell, c1, c2, c3, -⟩ := (va_O.moved hW0.alike hO).kept (xOldq hRep)
  rcases vx_callV X0 hx (C := nmO) hown (hts _ hlink) (hts _ hinst) (hts _ hsel) (hts _ hcode) hy hbk (b := b) (by rw [hT]; exact c1) c2 c3 (g := F0 m pc ls stk) rfl (hl.1.trans hml.symm) (argsL := As) (rest := st) hlen hst.symm (lv_room h8) (by rw [hb]; exact hd)
    (fun vm₁ hW₁ => ⟨hk, hn, rfl, State.WarmedH.trans hW0 hW₁, by show xRep G V T.heap; rw [hT]; exact hRep⟩) with ⟨v, vm₁, B, hW1, X', ⟨V', L, hRep', hQ, hlo, hL', hc, hs⟩, hsteps⟩ | ⟨q, vm₁, B, hW1, X', ⟨V', L, hRep', hQ, hcell, hlo, hL', hc, hs⟩, hsteps⟩
  · rw [hlo, hc, hs] at X'
    obtain ⟨t, a1, b1⟩ := kk v V' B.U.heap (locs ++ L) ls ⟨V, hV, hQ⟩ hRep' (fun q hq => (List.mem_append.mp hq).elim (hL q) (hL' q)) hl B.U rfl X'
    exact ⟨t, hsteps t a1, b1⟩
  · rw [hlo, hc, hs] at X'
    obtain ⟨t, a1, b1⟩ := kx q V' B.U.heap (locs ++ L) ls ⟨V, hV, hQ⟩ hcell hRep' (fun q hq => (List.mem_append.mp hq).elim (hL q) (hL' q)) hl B.U rfl X'
    exact ⟨t, hsteps.trans a1, b1⟩
end XCVO
theorem ks_X1_207 {G : xG} (hG : xGood G) : ∃ a v, vk_R "ThreeBodies" 207 ";-" a G.1 ∧ xStr G a v 2 (fun j => ([59, 45] : List Int32).getD j 0) := by
  obtain ⟨-, b, ht, hn, -⟩ := hG
  replace hn := flat_of_before _ hn
  obtain ⟨K, V, hS, hev⟩ := vk_Sof (N := 1) (tm := fun _ => .string "ThreeBodies" 207) (len := [2]) (byt := [[59, 45]]) (A := xA G) (fun i hi => match i, hi with
    | 0, _ => by decide
    | m + 1, h => absurd h (by omega)) (fun _ _ => hn _ (nr_at 971 rfl)) (fun _ _ => hn _ (nr_at 972 rfl)) (fun _ _ => hn _ (nr_at 973 rfl)) (fun i hi => match i, hi with
    | 0, _ => hn _ (nr_at 974 rfl)
    | m + 1, h => absurd h (by omega)) (fun i hi => match i, hi with
    | 0, _ => fun j hj => match j, hj with
      | 0, _ => hn _ (nr_at 975 rfl)
      | 1, _ => hn _ (nr_at 976 rfl)
      | m + 2, h => absurd h (by show ¬ m + 2 < 2; omega)
    | m + 1, h => absurd h (by omega)) (fun i j hi hj hne => absurd (show i = j by omega) hne) (fun a h => Nat.not_le.mpr h)
  obtain ⟨h1, h2, h3, h4⟩ := hS.1 0 (by decide)
  exact ⟨K 0, V 0, vk_R.of (ht _ q970) (hev 0 (by decide)), h1, h2, h3, h4, by decide⟩
theorem ks_X1_449 {G : xG} (hG : xGood G) : ∃ a v, vk_R "ThreeBodies" 449 " m" a G.1 ∧ xStr G a v 2 (fun j => ([32, 109] : List Int32).getD j 0) := by
  obtain ⟨-, b, ht, hn, -⟩ := hG
  replace hn := flat_of_before _ hn
  obtain ⟨K, V, hS, hev⟩ := vk_Sof (N := 1) (tm := fun _ => .string "ThreeBodies" 449) (len := [2]) (byt := [[32, 109]]) (A := xA G) (fun i hi => match i, hi with
    | 0, _ => by decide
    | m + 1, h => absurd h (by omega)) (fun _ _ => hn _ (nr_at 1172 rfl)) (fun _ _ => hn _ (nr_at 1173 rfl)) (fun _ _ => hn _ (nr_at 1174 rfl)) (fun i hi => match i, hi with
    | 0, _ => hn _ (nr_at 1175 rfl)
    | m + 1, h => absurd h (by omega)) (fun i hi => match i, hi with
    | 0, _ => fun j hj => match j, hj with
      | 0, _ => hn _ (nr_at 1176 rfl)
      | 1, _ => hn _ (nr_at 1177 rfl)
      | m + 2, h => absurd h (by show ¬ m + 2 < 2; omega)
    | m + 1, h => absurd h (by omega)) (fun i j hi hj hne => absurd (show i = j by omega) hne) (fun a h => Nat.not_le.mpr h)
  obtain ⟨h1, h2, h3, h4⟩ := hS.1 0 (by decide)
  exact ⟨K 0, V 0, vk_R.of (ht _ q2512) (hev 0 (by decide)), h1, h2, h3, h4, by decide⟩
theorem ks_X1_454 {G : xG} (hG : xGood G) : ∃ a v, vk_R "ThreeBodies" 454 " (" a G.1 ∧ xStr G a v 2 (fun j => ([32, 40] : List Int32).getD j 0) := by
  obtain ⟨-, b, ht, hn, -⟩ := hG
  replace hn := flat_of_before _ hn
  obtain ⟨K, V, hS, hev⟩ := vk_Sof (N := 1) (tm := fun _ => .string "ThreeBodies" 454) (len := [2]) (byt := [[32, 40]]) (A := xA G) (fun i hi => match i, hi with
    | 0, _ => by decide
    | m + 1, h => absurd h (by omega)) (fun _ _ => hn _ (nr_at 1180 rfl)) (fun _ _ => hn _ (nr_at 1181 rfl)) (fun _ _ => hn _ (nr_at 1182 rfl)) (fun i hi => match i, hi with
    | 0, _ => hn _ (nr_at 1183 rfl)
    | m + 1, h => absurd h (by omega)) (fun i hi => match i, hi with
    | 0, _ => fun j hj => match j, hj with
      | 0, _ => hn _ (nr_at 1184 rfl)
      | 1, _ => hn _ (nr_at 1185 rfl)
      | m + 2, h => absurd h (by show ¬ m + 2 < 2; omega)
    | m + 1, h => absurd h (by omega)) (fun i j hi hj hne => absurd (show i = j by omega) hne) (fun a h => Nat.not_le.mpr h)
  obtain ⟨h1, h2, h3, h4⟩ := hS.1 0 (by decide)
  exact ⟨K 0, V 0, vk_R.of (ht _ q2514) (hev 0 (by decide)), h1, h2, h3, h4, by decide⟩
theorem ks_X1_456 {G : xG} (hG : xGood G) : ∃ a v, vk_R "ThreeBodies" 456 ") [" a G.1 ∧ xStr G a v 3 (fun j => ([41, 32, 91] : List Int32).getD j 0) := by
  obtain ⟨-, b, ht, hn, -⟩ := hG
  replace hn := flat_of_before _ hn
  obtain ⟨K, V, hS, hev⟩ := vk_Sof (N := 1) (tm := fun _ => .string "ThreeBodies" 456) (len := [3]) (byt := [[41, 32, 91]]) (A := xA G) (fun i hi => match i, hi with
    | 0, _ => by decide
    | m + 1, h => absurd h (by omega)) (fun _ _ => hn _ (nr_at 1188 rfl)) (fun _ _ => hn _ (nr_at 1189 rfl)) (fun _ _ => hn _ (nr_at 1190 rfl)) (fun i hi => match i, hi with
    | 0, _ => hn _ (nr_at 1191 rfl)
    | m + 1, h => absurd h (by omega)) (fun i hi => match i, hi with
    | 0, _ => fun j hj => match j, hj with
      | 0, _ => hn _ (nr_at 1192 rfl)
      | 1, _ => hn _ (nr_at 1193 rfl)
      | 2, _ => hn _ (nr_at 1194 rfl)
      | m + 3, h => absurd h (by show ¬ m + 3 < 3; omega)
    | m + 1, h => absurd h (by omega)) (fun i j hi hj hne => absurd (show i = j by omega) hne) (fun a h => Nat.not_le.mpr h)
  obtain ⟨h1, h2, h3, h4⟩ := hS.1 0 (by decide)
  exact ⟨K 0, V 0, vk_R.of (ht _ q2515) (hev 0 (by decide)), h1, h2, h3, h4, by decide⟩
theorem ks_X1_479 {G : xG} (hG : xGood G) : ∃ a v, vk_R "ThreeBodies" 479 ";()<=>" a G.1 ∧ xStr G a v 6 (fun j => ([59, 40, 41, 60, 61, 62] : List Int32).getD j 0) := by
  obtain ⟨-, b, ht, hn, -⟩ := hG
  replace hn := flat_of_before _ hn
  obtain ⟨K, V, hS, hev⟩ := vk_Sof (N := 1) (tm := fun _ => .string "ThreeBodies" 479) (len := [6]) (byt := [[59, 40, 41, 60, 61, 62]]) (A := xA G) (fun i hi => match i, hi with
    | 0, _ => by decide
    | m + 1, h => absurd h (by omega)) (fun _ _ => hn _ (nr_at 1197 rfl)) (fun _ _ => hn _ (nr_at 1198 rfl)) (fun _ _ => hn _ (nr_at 1199 rfl)) (fun i hi => match i, hi with
    | 0, _ => hn _ (nr_at 1200 rfl)
    | m + 1, h => absurd h (by omega)) (fun i hi => match i, hi with
    | 0, _ => fun j hj => match j, hj with
      | 0, _ => hn _ (nr_at 1201 rfl)
      | 1, _ => hn _ (nr_at 1202 rfl)
      | 2, _ => hn _ (nr_at 1203 rfl)
      | 3, _ => hn _ (nr_at 1204 rfl)
      | 4, _ => hn _ (nr_at 1205 rfl)
      | 5, _ => hn _ (nr_at 1206 rfl)
      | m + 6, h => absurd h (by show ¬ m + 6 < 6; omega)
    | m + 1, h => absurd h (by omega)) (fun i j hi hj hne => absurd (show i = j by omega) hne) (fun a h => Nat.not_le.mpr h)
  obtain ⟨h1, h2, h3, h4⟩ := hS.1 0 (by decide)
  exact ⟨K 0, V 0, vk_R.of (ht _ q2553) (hev 0 (by decide)), h1, h2, h3, h4, by decide⟩
theorem ks_X1_74 {G : xG} (hG : xGood G) : ∃ a v, vk_R "ThreeBodies" 74 "number" a G.1 ∧ xStr G a v 6 (fun j => ([110, 117, 109, 98, 101, 114] : List Int32).getD j 0) := by
  obtain ⟨-, b, ht, hn, -⟩ := hG
  replace hn := flat_of_before _ hn
  obtain ⟨K, V, hS, hev⟩ := vk_Sof (N := 1) (tm := fun _ => .string "ThreeBodies" 74) (len := [6]) (byt := [[110, 117, 109, 98, 101, 114]]) (A := xA G) (fun i hi => match i, hi with
    | 0, _ => by decide
    | m + 1, h => absurd h (by omega)) (fun _ _ => hn _ (nr_at 1239 rfl)) (fun _ _ => hn _ (nr_at 1240 rfl)) (fun _ _ => hn _ (nr_at 1241 rfl)) (fun i hi => match i, hi with
    | 0, _ => hn _ (nr_at 1242 rfl)
    | m + 1, h => absurd h (by omega)) (fun i hi => match i, hi with
    | 0, _ => fun j hj => match j, hj with
      | 0, _ => hn _ (nr_at 1243 rfl)
      | 1, _ => hn _ (nr_at 1244 rfl)
      | 2, _ => hn _ (nr_at 1245 rfl)
      | 3, _ => hn _ (nr_at 1246 rfl)
      | 4, _ => hn _ (nr_at 1247 rfl)
      | 5, _ => hn _ (nr_at 1248 rfl)
      | m + 6, h => absurd h (by show ¬ m + 6 < 6; omega)
    | m + 1, h => absurd h (by omega)) (fun i j hi hj hne => absurd (show i = j by omega) hne) (fun a h => Nat.not_le.mpr h)
  obtain ⟨h1, h2, h3, h4⟩ := hS.1 0 (by decide)
  exact ⟨K 0, V 0, vk_R.of (ht _ q2667) (hev 0 (by decide)), h1, h2, h3, h4, by decide⟩
theorem ks_X1_80 {G : xG} (hG : xGood G) : ∃ a v, vk_R "ThreeBodies" 80 "clock" a G.1 ∧ xStr G a v 5 (fun j => ([99, 108, 111, 99, 107] : List Int32).getD j 0) := by
  obtain ⟨-, b, ht, hn, -⟩ := hG
  replace hn := flat_of_before _ hn
  obtain ⟨K, V, hS, hev⟩ := vk_Sof (N := 1) (tm := fun _ => .string "ThreeBodies" 80) (len := [5]) (byt := [[99, 108, 111, 99, 107]]) (A := xA G) (fun i hi => match i, hi with
    | 0, _ => by decide
    | m + 1, h => absurd h (by omega)) (fun _ _ => hn _ (nr_at 1251 rfl)) (fun _ _ => hn _ (nr_at 1252 rfl)) (fun _ _ => hn _ (nr_at 1253 rfl)) (fun i hi => match i, hi with
    | 0, _ => hn _ (nr_at 1254 rfl)
    | m + 1, h => absurd h (by omega)) (fun i hi => match i, hi with
    | 0, _ => fun j hj => match j, hj with
      | 0, _ => hn _ (nr_at 1255 rfl)
      | 1, _ => hn _ (nr_at 1256 rfl)
      | 2, _ => hn _ (nr_at 1257 rfl)
      | 3, _ => hn _ (nr_at 1258 rfl)
      | 4, _ => hn _ (nr_at 1259 rfl)
      | m + 5, h => absurd h (by show ¬ m + 5 < 5; omega)
    | m + 1, h => absurd h (by omega)) (fun i j hi hj hne => absurd (show i = j by omega) hne) (fun a h => Nat.not_le.mpr h)
  obtain ⟨h1, h2, h3, h4⟩ := hS.1 0 (by decide)
  exact ⟨K 0, V 0, vk_R.of (ht _ q2669) (hev 0 (by decide)), h1, h2, h3, h4, by decide⟩
theorem ks_X1_82 {G : xG} (hG : xGood G) : ∃ a v, vk_R "ThreeBodies" 82 "pair" a G.1 ∧ xStr G a v 4 (fun j => ([112, 97, 105, 114] : List Int32).getD j 0) := by
  obtain ⟨-, b, ht, hn, -⟩ := hG
  replace hn := flat_of_before _ hn
  obtain ⟨K, V, hS, hev⟩ := vk_Sof (N := 1) (tm := fun _ => .string "ThreeBodies" 82) (len := [4]) (byt := [[112, 97, 105, 114]]) (A := xA G) (fun i hi => match i, hi with
    | 0, _ => by decide
    | m + 1, h => absurd h (by omega)) (fun _ _ => hn _ (nr_at 1262 rfl)) (fun _ _ => hn _ (nr_at 1263 rfl)) (fun _ _ => hn _ (nr_at 1264 rfl)) (fun i hi => match i, hi with
    | 0, _ => hn _ (nr_at 1265 rfl)
    | m + 1, h => absurd h (by omega)) (fun i hi => match i, hi with
    | 0, _ => fun j hj => match j, hj with
      | 0, _ => hn _ (nr_at 1266 rfl)
      | 1, _ => hn _ (nr_at 1267 rfl)
      | 2, _ => hn _ (nr_at 1268 rfl)
      | 3, _ => hn _ (nr_at 1269 rfl)
      | m + 4, h => absurd h (by show ¬ m + 4 < 4; omega)
    | m + 1, h => absurd h (by omega)) (fun i j hi hj hne => absurd (show i = j by omega) hne) (fun a h => Nat.not_le.mpr h)
  obtain ⟨h1, h2, h3, h4⟩ := hS.1 0 (by decide)
  exact ⟨K 0, V 0, vk_R.of (ht _ q2670) (hev 0 (by decide)), h1, h2, h3, h4, by decide⟩
theorem ks_X1_84 {G : xG} (hG : xGood G) : ∃ a v, vk_R "ThreeBodies" 84 "distance" a G.1 ∧ xStr G a v 8 (fun j => ([100, 105, 115, 116, 97, 110, 99, 101] : List Int32).getD j 0) := by
  obtain ⟨-, b, ht, hn, -⟩ := hG
  replace hn := flat_of_before _ hn
  obtain ⟨K, V, hS, hev⟩ := vk_Sof (N := 1) (tm := fun _ => .string "ThreeBodies" 84) (len := [8]) (byt := [[100, 105, 115, 116, 97, 110, 99, 101]]) (A := xA G) (fun i hi => match i, hi with
    | 0, _ => by decide
    | m + 1, h => absurd h (by omega)) (fun _ _ => hn _ (nr_at 1272 rfl)) (fun _ _ => hn _ (nr_at 1273 rfl)) (fun _ _ => hn _ (nr_at 1274 rfl)) (fun i hi => match i, hi with
    | 0, _ => hn _ (nr_at 1275 rfl)
    | m + 1, h => absurd h (by omega)) (fun i hi => match i, hi with
    | 0, _ => fun j hj => match j, hj with
      | 0, _ => hn _ (nr_at 1276 rfl)
      | 1, _ => hn _ (nr_at 1277 rfl)
      | 2, _ => hn _ (nr_at 1278 rfl)
      | 3, _ => hn _ (nr_at 1279 rfl)
      | 4, _ => hn _ (nr_at 1280 rfl)
      | 5, _ => hn _ (nr_at 1281 rfl)
      | 6, _ => hn _ (nr_at 1282 rfl)
      | 7, _ => hn _ (nr_at 1283 rfl)
      | m + 8, h => absurd h (by show ¬ m + 8 < 8; omega)
    | m + 1, h => absurd h (by omega)) (fun i j hi hj hne => absurd (show i = j by omega) hne) (fun a h => Nat.not_le.mpr h)
  obtain ⟨h1, h2, h3, h4⟩ := hS.1 0 (by decide)
  exact ⟨K 0, V 0, vk_R.of (ht _ q2671) (hev 0 (by decide)), h1, h2, h3, h4, by decide⟩
theorem ks_X18_30 {G : xG} (hG : xGood G) : ∃ a v, vk_R "ThreeBodies$QueryParser" 30 "first" a G.1 ∧ xStr G a v 5 (fun j => ([102, 105, 114, 115, 116] : List Int32).getD j 0) := by
  obtain ⟨-, b, ht, hn, -⟩ := hG
  replace hn := flat_of_before _ hn
  obtain ⟨K, V, hS, hev⟩ := vk_Sof (N := 1) (tm := fun _ => .string "ThreeBodies$QueryParser" 30) (len := [5]) (byt := [[102, 105, 114, 115, 116]]) (A := xA G) (fun i hi => match i, hi with
    | 0, _ => by decide
    | m + 1, h => absurd h (by omega)) (fun _ _ => hn _ (nr_at 1209 rfl)) (fun _ _ => hn _ (nr_at 1210 rfl)) (fun _ _ => hn _ (nr_at 1211 rfl)) (fun i hi => match i, hi with
    | 0, _ => hn _ (nr_at 1212 rfl)
    | m + 1, h => absurd h (by omega)) (fun i hi => match i, hi with
    | 0, _ => fun j hj => match j, hj with
      | 0, _ => hn _ (nr_at 1213 rfl)
      | 1, _ => hn _ (nr_at 1214 rfl)
      | 2, _ => hn _ (nr_at 1215 rfl)
      | 3, _ => hn _ (nr_at 1216 rfl)
      | 4, _ => hn _ (nr_at 1217 rfl)
      | m + 5, h => absurd h (by show ¬ m + 5 < 5; omega)
    | m + 1, h => absurd h (by omega)) (fun i j hi hj hne => absurd (show i = j by omega) hne) (fun a h => Nat.not_le.mpr h)
  obtain ⟨h1, h2, h3, h4⟩ := hS.1 0 (by decide)
  exact ⟨K 0, V 0, vk_R.of (ht _ q2580) (hev 0 (by decide)), h1, h2, h3, h4, by decide⟩
theorem ks_X18_41 {G : xG} (hG : xGood G) : ∃ a v, vk_R "ThreeBodies$QueryParser" 41 "many" a G.1 ∧ xStr G a v 4 (fun j => ([109, 97, 110, 121] : List Int32).getD j 0) := by
  obtain ⟨-, b, ht, hn, -⟩ := hG
  replace hn := flat_of_before _ hn
  obtain ⟨K, V, hS, hev⟩ := vk_Sof (N := 1) (tm := fun _ => .string "ThreeBodies$QueryParser" 41) (len := [4]) (byt := [[109, 97, 110, 121]]) (A := xA G) (fun i hi => match i, hi with
    | 0, _ => by decide
    | m + 1, h => absurd h (by omega)) (fun _ _ => hn _ (nr_at 1220 rfl)) (fun _ _ => hn _ (nr_at 1221 rfl)) (fun _ _ => hn _ (nr_at 1222 rfl)) (fun i hi => match i, hi with
    | 0, _ => hn _ (nr_at 1223 rfl)
    | m + 1, h => absurd h (by omega)) (fun i hi => match i, hi with
    | 0, _ => fun j hj => match j, hj with
      | 0, _ => hn _ (nr_at 1224 rfl)
      | 1, _ => hn _ (nr_at 1225 rfl)
      | 2, _ => hn _ (nr_at 1226 rfl)
      | 3, _ => hn _ (nr_at 1227 rfl)
      | m + 4, h => absurd h (by show ¬ m + 4 < 4; omega)
    | m + 1, h => absurd h (by omega)) (fun i j hi hj hne => absurd (show i = j by omega) hne) (fun a h => Nat.not_le.mpr h)
  obtain ⟨h1, h2, h3, h4⟩ := hS.1 0 (by decide)
  exact ⟨K 0, V 0, vk_R.of (ht _ q2582) (hev 0 (by decide)), h1, h2, h3, h4, by decide⟩
theorem ks_X18_88 {G : xG} (hG : xGood G) : ∃ a v, vk_R "ThreeBodies$QueryParser" 88 "not" a G.1 ∧ xStr G a v 3 (fun j => ([110, 111, 116] : List Int32).getD j 0) := by
  obtain ⟨-, b, ht, hn, -⟩ := hG
  replace hn := flat_of_before _ hn
  obtain ⟨K, V, hS, hev⟩ := vk_Sof (N := 1) (tm := fun _ => .string "ThreeBodies$QueryParser" 88) (len := [3]) (byt := [[110, 111, 116]]) (A := xA G) (fun i hi => match i, hi with
    | 0, _ => by decide
    | m + 1, h => absurd h (by omega)) (fun _ _ => hn _ (nr_at 1230 rfl)) (fun _ _ => hn _ (nr_at 1231 rfl)) (fun _ _ => hn _ (nr_at 1232 rfl)) (fun i hi => match i, hi with
    | 0, _ => hn _ (nr_at 1233 rfl)
    | m + 1, h => absurd h (by omega)) (fun i hi => match i, hi with
    | 0, _ => fun j hj => match j, hj with
      | 0, _ => hn _ (nr_at 1234 rfl)
      | 1, _ => hn _ (nr_at 1235 rfl)
      | 2, _ => hn _ (nr_at 1236 rfl)
      | m + 3, h => absurd h (by show ¬ m + 3 < 3; omega)
    | m + 1, h => absurd h (by omega)) (fun i j hi hj hne => absurd (show i = j by omega) hne) (fun a h => Nat.not_le.mpr h)
  obtain ⟨h1, h2, h3, h4⟩ := hS.1 0 (by decide)
  exact ⟨K 0, V 0, vk_R.of (ht _ q2615) (hev 0 (by decide)), h1, h2, h3, h4, by decide⟩
theorem ks_X18_77 {G : xG} (hG : xGood G) : ∃ a v, vk_R "ThreeBodies$QueryParser" 77 "and" a G.1 ∧ xStr G a v 3 (fun j => ([97, 110, 100] : List Int32).getD j 0) := by
  obtain ⟨-, b, ht, hn, -⟩ := hG
  replace hn := flat_of_before _ hn
  obtain ⟨K, V, hS, hev⟩ := vk_Sof (N := 1) (tm := fun _ => .string "ThreeBodies$QueryParser" 77) (len := [3]) (byt := [[97, 110, 100]]) (A := xA G) (fun i hi => match i, hi with
    | 0, _ => by decide
    | m + 1, h => absurd h (by omega)) (fun _ _ => hn _ (nr_at 1286 rfl)) (fun _ _ => hn _ (nr_at 1287 rfl)) (fun _ _ => hn _ (nr_at 1288 rfl)) (fun i hi => match i, hi with
    | 0, _ => hn _ (nr_at 1289 rfl)
    | m + 1, h => absurd h (by omega)) (fun i hi => match i, hi with
    | 0, _ => fun j hj => match j, hj with
      | 0, _ => hn _ (nr_at 1290 rfl)
      | 1, _ => hn _ (nr_at 1291 rfl)
      | 2, _ => hn _ (nr_at 1292 rfl)
      | m + 3, h => absurd h (by show ¬ m + 3 < 3; omega)
    | m + 1, h => absurd h (by omega)) (fun i j hi hj hne => absurd (show i = j by omega) hne) (fun a h => Nat.not_le.mpr h)
  obtain ⟨h1, h2, h3, h4⟩ := hS.1 0 (by decide)
  exact ⟨K 0, V 0, vk_R.of (ht _ q2691) (hev 0 (by decide)), h1, h2, h3, h4, by decide⟩
theorem ks_X18_69 {G : xG} (hG : xGood G) : ∃ a v, vk_R "ThreeBodies$QueryParser" 69 "or" a G.1 ∧ xStr G a v 2 (fun j => ([111, 114] : List Int32).getD j 0) := by
  obtain ⟨-, b, ht, hn, -⟩ := hG
  replace hn := flat_of_before _ hn
  obtain ⟨K, V, hS, hev⟩ := vk_Sof (N := 1) (tm := fun _ => .string "ThreeBodies$QueryParser" 69) (len := [2]) (byt := [[111, 114]]) (A := xA G) (fun i hi => match i, hi with
    | 0, _ => by decide
    | m + 1, h => absurd h (by omega)) (fun _ _ => hn _ (nr_at 1295 rfl)) (fun _ _ => hn _ (nr_at 1296 rfl)) (fun _ _ => hn _ (nr_at 1297 rfl)) (fun i hi => match i, hi with
    | 0, _ => hn _ (nr_at 1298 rfl)
    | m + 1, h => absurd h (by omega)) (fun i hi => match i, hi with
    | 0, _ => fun j hj => match j, hj with
      | 0, _ => hn _ (nr_at 1299 rfl)
      | 1, _ => hn _ (nr_at 1300 rfl)
      | m + 2, h => absurd h (by show ¬ m + 2 < 2; omega)
    | m + 1, h => absurd h (by omega)) (fun i j hi hj hne => absurd (show i = j by omega) hne) (fun a h => Nat.not_le.mpr h)
  obtain ⟨h1, h2, h3, h4⟩ := hS.1 0 (by decide)
  exact ⟨K 0, V 0, vk_R.of (ht _ q2693) (hev 0 (by decide)), h1, h2, h3, h4, by decide⟩
theorem ks_X7_54 {G : xG} (hG : xGood G) : ∃ a v, vk_R "ThreeBodies$Reader" 54 "force" a G.1 ∧ xStr G a v 5 (fun j => ([102, 111, 114, 99, 101] : List Int32).getD j 0) := by
  obtain ⟨-, b, ht, hn, -⟩ := hG
  replace hn := flat_of_before _ hn
  obtain ⟨K, V, hS, hev⟩ := vk_Sof (N := 1) (tm := fun _ => .string "ThreeBodies$Reader" 54) (len := [5]) (byt := [[102, 111, 114, 99, 101]]) (A := xA G) (fun i hi => match i, hi with
    | 0, _ => by decide
    | m + 1, h => absurd h (by omega)) (fun _ _ => hn _ (nr_at 994 rfl)) (fun _ _ => hn _ (nr_at 995 rfl)) (fun _ _ => hn _ (nr_at 996 rfl)) (fun i hi => match i, hi with
    | 0, _ => hn _ (nr_at 997 rfl)
    | m + 1, h => absurd h (by omega)) (fun i hi => match i, hi with
    | 0, _ => fun j hj => match j, hj with
      | 0, _ => hn _ (nr_at 998 rfl)
      | 1, _ => hn _ (nr_at 999 rfl)
      | 2, _ => hn _ (nr_at 1000 rfl)
      | 3, _ => hn _ (nr_at 1001 rfl)
      | 4, _ => hn _ (nr_at 1002 rfl)
      | m + 5, h => absurd h (by show ¬ m + 5 < 5; omega)
    | m + 1, h => absurd h (by omega)) (fun i j hi hj hne => absurd (show i = j by omega) hne) (fun a h => Nat.not_le.mpr h)
  obtain ⟨h1, h2, h3, h4⟩ := hS.1 0 (by decide)
  exact ⟨K 0, V 0, vk_R.of (ht _ q1320) (hev 0 (by decide)), h1, h2, h3, h4, by decide⟩
theorem ks_X7_63 {G : xG} (hG : xGood G) : ∃ a v, vk_R "ThreeBodies$Reader" 63 "soft" a G.1 ∧ xStr G a v 4 (fun j => ([115, 111, 102, 116] : List Int32).getD j 0) := by
  obtain ⟨-, b, ht, hn, -⟩ := hG
  replace hn := flat_of_before _ hn
  obtain ⟨K, V, hS, hev⟩ := vk_Sof (N := 1) (tm := fun _ => .string "ThreeBodies$Reader" 63) (len := [4]) (byt := [[115, 111, 102, 116]]) (A := xA G) (fun i hi => match i, hi with
    | 0, _ => by decide
    | m + 1, h => absurd h (by omega)) (fun _ _ => hn _ (nr_at 1005 rfl)) (fun _ _ => hn _ (nr_at 1006 rfl)) (fun _ _ => hn _ (nr_at 1007 rfl)) (fun i hi => match i, hi with
    | 0, _ => hn _ (nr_at 1008 rfl)
    | m + 1, h => absurd h (by omega)) (fun i hi => match i, hi with
    | 0, _ => fun j hj => match j, hj with
      | 0, _ => hn _ (nr_at 1009 rfl)
      | 1, _ => hn _ (nr_at 1010 rfl)
      | 2, _ => hn _ (nr_at 1011 rfl)
      | 3, _ => hn _ (nr_at 1012 rfl)
      | m + 4, h => absurd h (by show ¬ m + 4 < 4; omega)
    | m + 1, h => absurd h (by omega)) (fun i j hi hj hne => absurd (show i = j by omega) hne) (fun a h => Nat.not_le.mpr h)
  obtain ⟨h1, h2, h3, h4⟩ := hS.1 0 (by decide)
  exact ⟨K 0, V 0, vk_R.of (ht _ q1388) (hev 0 (by decide)), h1, h2, h3, h4, by decide⟩
theorem ks_X7_65 {G : xG} (hG : xGood G) : ∃ a v, vk_R "ThreeBodies$Reader" 65 "time" a G.1 ∧ xStr G a v 4 (fun j => ([116, 105, 109, 101] : List Int32).getD j 0) := by
  obtain ⟨-, b, ht, hn, -⟩ := hG
  replace hn := flat_of_before _ hn
  obtain ⟨K, V, hS, hev⟩ := vk_Sof (N := 1) (tm := fun _ => .string "ThreeBodies$Reader" 65) (len := [4]) (byt := [[116, 105, 109, 101]]) (A := xA G) (fun i hi => match i, hi with
    | 0, _ => by decide
    | m + 1, h => absurd h (by omega)) (fun _ _ => hn _ (nr_at 1015 rfl)) (fun _ _ => hn _ (nr_at 1016 rfl)) (fun _ _ => hn _ (nr_at 1017 rfl)) (fun i hi => match i, hi with
    | 0, _ => hn _ (nr_at 1018 rfl)
    | m + 1, h => absurd h (by omega)) (fun i hi => match i, hi with
    | 0, _ => fun j hj => match j, hj with
      | 0, _ => hn _ (nr_at 1019 rfl)
      | 1, _ => hn _ (nr_at 1020 rfl)
      | 2, _ => hn _ (nr_at 1021 rfl)
      | 3, _ => hn _ (nr_at 1022 rfl)
      | m + 4, h => absurd h (by show ¬ m + 4 < 4; omega)
    | m + 1, h => absurd h (by omega)) (fun i j hi hj hne => absurd (show i = j by omega) hne) (fun a h => Nat.not_le.mpr h)
  obtain ⟨h1, h2, h3, h4⟩ := hS.1 0 (by decide)
  exact ⟨K 0, V 0, vk_R.of (ht _ q1389) (hev 0 (by decide)), h1, h2, h3, h4, by decide⟩
theorem ks_X7_67 {G : xG} (hG : xGood G) : ∃ a v, vk_R "ThreeBodies$Reader" 67 "near" a G.1 ∧ xStr G a v 4 (fun j => ([110, 101, 97, 114] : List Int32).getD j 0) := by
  obtain ⟨-, b, ht, hn, -⟩ := hG
  replace hn := flat_of_before _ hn
  obtain ⟨K, V, hS, hev⟩ := vk_Sof (N := 1) (tm := fun _ => .string "ThreeBodies$Reader" 67) (len := [4]) (byt := [[110, 101, 97, 114]]) (A := xA G) (fun i hi => match i, hi with
    | 0, _ => by decide
    | m + 1, h => absurd h (by omega)) (fun _ _ => hn _ (nr_at 1025 rfl)) (fun _ _ => hn _ (nr_at 1026 rfl)) (fun _ _ => hn _ (nr_at 1027 rfl)) (fun i hi => match i, hi with
    | 0, _ => hn _ (nr_at 1028 rfl)
    | m + 1, h => absurd h (by omega)) (fun i hi => match i, hi with
    | 0, _ => fun j hj => match j, hj with
      | 0, _ => hn _ (nr_at 1029 rfl)
      | 1, _ => hn _ (nr_at 1030 rfl)
      | 2, _ => hn _ (nr_at 1031 rfl)
      | 3, _ => hn _ (nr_at 1032 rfl)
      | m + 4, h => absurd h (by show ¬ m + 4 < 4; omega)
    | m + 1, h => absurd h (by omega)) (fun i j hi hj hne => absurd (show i = j by omega) hne) (fun a h => Nat.not_le.mpr h)
  obtain ⟨h1, h2, h3, h4⟩ := hS.1 0 (by decide)
  exact ⟨K 0, V 0, vk_R.of (ht _ q1390) (hev 0 (by decide)), h1, h2, h3, h4, by decide⟩
theorem ks_X7_70 {G : xG} (hG : xGood G) : ∃ a v, vk_R "ThreeBodies$Reader" 70 "band" a G.1 ∧ xStr G a v 4 (fun j => ([98, 97, 110, 100] : List Int32).getD j 0) := by
  obtain ⟨-, b, ht, hn, -⟩ := hG
  replace hn := flat_of_before _ hn
  obtain ⟨K, V, hS, hev⟩ := vk_Sof (N := 1) (tm := fun _ => .string "ThreeBodies$Reader" 70) (len := [4]) (byt := [[98, 97, 110, 100]]) (A := xA G) (fun i hi => match i, hi with
    | 0, _ => by decide
    | m + 1, h => absurd h (by omega)) (fun _ _ => hn _ (nr_at 1035 rfl)) (fun _ _ => hn _ (nr_at 1036 rfl)) (fun _ _ => hn _ (nr_at 1037 rfl)) (fun i hi => match i, hi with
    | 0, _ => hn _ (nr_at 1038 rfl)
    | m + 1, h => absurd h (by omega)) (fun i hi => match i, hi with
    | 0, _ => fun j hj => match j, hj with
      | 0, _ => hn _ (nr_at 1039 rfl)
      | 1, _ => hn _ (nr_at 1040 rfl)
      | 2, _ => hn _ (nr_at 1041 rfl)
      | 3, _ => hn _ (nr_at 1042 rfl)
      | m + 4, h => absurd h (by show ¬ m + 4 < 4; omega)
    | m + 1, h => absurd h (by omega)) (fun i j hi hj hne => absurd (show i = j by omega) hne) (fun a h => Nat.not_le.mpr h)
  obtain ⟨h1, h2, h3, h4⟩ := hS.1 0 (by decide)
  exact ⟨K 0, V 0, vk_R.of (ht _ q1392) (hev 0 (by decide)), h1, h2, h3, h4, by decide⟩
theorem ks_X7_72 {G : xG} (hG : xGood G) : ∃ a v, vk_R "ThreeBodies$Reader" 72 "scheme" a G.1 ∧ xStr G a v 6 (fun j => ([115, 99, 104, 101, 109, 101] : List Int32).getD j 0) := by
  obtain ⟨-, b, ht, hn, -⟩ := hG
  replace hn := flat_of_before _ hn
  obtain ⟨K, V, hS, hev⟩ := vk_Sof (N := 1) (tm := fun _ => .string "ThreeBodies$Reader" 72) (len := [6]) (byt := [[115, 99, 104, 101, 109, 101]]) (A := xA G) (fun i hi => match i, hi with
    | 0, _ => by decide
    | m + 1, h => absurd h (by omega)) (fun _ _ => hn _ (nr_at 1045 rfl)) (fun _ _ => hn _ (nr_at 1046 rfl)) (fun _ _ => hn _ (nr_at 1047 rfl)) (fun i hi => match i, hi with
    | 0, _ => hn _ (nr_at 1048 rfl)
    | m + 1, h => absurd h (by omega)) (fun i hi => match i, hi with
    | 0, _ => fun j hj => match j, hj with
      | 0, _ => hn _ (nr_at 1049 rfl)
      | 1, _ => hn _ (nr_at 1050 rfl)
      | 2, _ => hn _ (nr_at 1051 rfl)
      | 3, _ => hn _ (nr_at 1052 rfl)
      | 4, _ => hn _ (nr_at 1053 rfl)
      | 5, _ => hn _ (nr_at 1054 rfl)
      | m + 6, h => absurd h (by show ¬ m + 6 < 6; omega)
    | m + 1, h => absurd h (by omega)) (fun i j hi hj hne => absurd (show i = j by omega) hne) (fun a h => Nat.not_le.mpr h)
  obtain ⟨h1, h2, h3, h4⟩ := hS.1 0 (by decide)
  exact ⟨K 0, V 0, vk_R.of (ht _ q1393) (hev 0 (by decide)), h1, h2, h3, h4, by decide⟩
theorem ks_X7_40 {G : xG} (hG : xGood G) : ∃ a v, vk_R "ThreeBodies$Reader" 40 "euler" a G.1 ∧ xStr G a v 5 (fun j => ([101, 117, 108, 101, 114] : List Int32).getD j 0) := by
  obtain ⟨-, b, ht, hn, -⟩ := hG
  replace hn := flat_of_before _ hn
  obtain ⟨K, V, hS, hev⟩ := vk_Sof (N := 1) (tm := fun _ => .string "ThreeBodies$Reader" 40) (len := [5]) (byt := [[101, 117, 108, 101, 114]]) (A := xA G) (fun i hi => match i, hi with
    | 0, _ => by decide
    | m + 1, h => absurd h (by omega)) (fun _ _ => hn _ (nr_at 1057 rfl)) (fun _ _ => hn _ (nr_at 1058 rfl)) (fun _ _ => hn _ (nr_at 1059 rfl)) (fun i hi => match i, hi with
    | 0, _ => hn _ (nr_at 1060 rfl)
    | m + 1, h => absurd h (by omega)) (fun i hi => match i, hi with
    | 0, _ => fun j hj => match j, hj with
      | 0, _ => hn _ (nr_at 1061 rfl)
      | 1, _ => hn _ (nr_at 1062 rfl)
      | 2, _ => hn _ (nr_at 1063 rfl)
      | 3, _ => hn _ (nr_at 1064 rfl)
      | 4, _ => hn _ (nr_at 1065 rfl)
      | m + 5, h => absurd h (by show ¬ m + 5 < 5; omega)
    | m + 1, h => absurd h (by omega)) (fun i j hi hj hne => absurd (show i = j by omega) hne) (fun a h => Nat.not_le.mpr h)
  obtain ⟨h1, h2, h3, h4⟩ := hS.1 0 (by decide)
  exact ⟨K 0, V 0, vk_R.of (ht _ q1398) (hev 0 (by decide)), h1, h2, h3, h4, by decide⟩
theorem ks_X7_46 {G : xG} (hG : xGood G) : ∃ a v, vk_R "ThreeBodies$Reader" 46 "leap" a G.1 ∧ xStr G a v 4 (fun j => ([108, 101, 97, 112] : List Int32).getD j 0) := by
  obtain ⟨-, b, ht, hn, -⟩ := hG
  replace hn := flat_of_before _ hn
  obtain ⟨K, V, hS, hev⟩ := vk_Sof (N := 1) (tm := fun _ => .string "ThreeBodies$Reader" 46) (len := [4]) (byt := [[108, 101, 97, 112]]) (A := xA G) (fun i hi => match i, hi with
    | 0, _ => by decide
    | m + 1, h => absurd h (by omega)) (fun _ _ => hn _ (nr_at 1068 rfl)) (fun _ _ => hn _ (nr_at 1069 rfl)) (fun _ _ => hn _ (nr_at 1070 rfl)) (fun i hi => match i, hi with
    | 0, _ => hn _ (nr_at 1071 rfl)
    | m + 1, h => absurd h (by omega)) (fun i hi => match i, hi with
    | 0, _ => fun j hj => match j, hj with
      | 0, _ => hn _ (nr_at 1072 rfl)
      | 1, _ => hn _ (nr_at 1073 rfl)
      | 2, _ => hn _ (nr_at 1074 rfl)
      | 3, _ => hn _ (nr_at 1075 rfl)
      | m + 4, h => absurd h (by show ¬ m + 4 < 4; omega)
    | m + 1, h => absurd h (by omega)) (fun i j hi hj hne => absurd (show i = j by omega) hne) (fun a h => Nat.not_le.mpr h)
  obtain ⟨h1, h2, h3, h4⟩ := hS.1 0 (by decide)
  exact ⟨K 0, V 0, vk_R.of (ht _ q1399) (hev 0 (by decide)), h1, h2, h3, h4, by decide⟩
theorem ks_X7_48 {G : xG} (hG : xGood G) : ∃ a v, vk_R "ThreeBodies$Reader" 48 "verlet" a G.1 ∧ xStr G a v 6 (fun j => ([118, 101, 114, 108, 101, 116] : List Int32).getD j 0) := by
  obtain ⟨-, b, ht, hn, -⟩ := hG
  replace hn := flat_of_before _ hn
  obtain ⟨K, V, hS, hev⟩ := vk_Sof (N := 1) (tm := fun _ => .string "ThreeBodies$Reader" 48) (len := [6]) (byt := [[118, 101, 114, 108, 101, 116]]) (A := xA G) (fun i hi => match i, hi with
    | 0, _ => by decide
    | m + 1, h => absurd h (by omega)) (fun _ _ => hn _ (nr_at 1078 rfl)) (fun _ _ => hn _ (nr_at 1079 rfl)) (fun _ _ => hn _ (nr_at 1080 rfl)) (fun i hi => match i, hi with
    | 0, _ => hn _ (nr_at 1081 rfl)
    | m + 1, h => absurd h (by omega)) (fun i hi => match i, hi with
    | 0, _ => fun j hj => match j, hj with
      | 0, _ => hn _ (nr_at 1082 rfl)
      | 1, _ => hn _ (nr_at 1083 rfl)
      | 2, _ => hn _ (nr_at 1084 rfl)
      | 3, _ => hn _ (nr_at 1085 rfl)
      | 4, _ => hn _ (nr_at 1086 rfl)
      | 5, _ => hn _ (nr_at 1087 rfl)
      | m + 6, h => absurd h (by show ¬ m + 6 < 6; omega)
    | m + 1, h => absurd h (by omega)) (fun i j hi hj hne => absurd (show i = j by omega) hne) (fun a h => Nat.not_le.mpr h)
  obtain ⟨h1, h2, h3, h4⟩ := hS.1 0 (by decide)
  exact ⟨K 0, V 0, vk_R.of (ht _ q1400) (hev 0 (by decide)), h1, h2, h3, h4, by decide⟩
theorem ks_X7_81 {G : xG} (hG : xGood G) : ∃ a v, vk_R "ThreeBodies$Reader" 81 "body" a G.1 ∧ xStr G a v 4 (fun j => ([98, 111, 100, 121] : List Int32).getD j 0) := by
  obtain ⟨-, b, ht, hn, -⟩ := hG
  replace hn := flat_of_before _ hn
  obtain ⟨K, V, hS, hev⟩ := vk_Sof (N := 1) (tm := fun _ => .string "ThreeBodies$Reader" 81) (len := [4]) (byt := [[98, 111, 100, 121]]) (A := xA G) (fun i hi => match i, hi with
    | 0, _ => by decide
    | m + 1, h => absurd h (by omega)) (fun _ _ => hn _ (nr_at 1090 rfl)) (fun _ _ => hn _ (nr_at 1091 rfl)) (fun _ _ => hn _ (nr_at 1092 rfl)) (fun i hi => match i, hi with
    | 0, _ => hn _ (nr_at 1093 rfl)
    | m + 1, h => absurd h (by omega)) (fun i hi => match i, hi with
    | 0, _ => fun j hj => match j, hj with
      | 0, _ => hn _ (nr_at 1094 rfl)
      | 1, _ => hn _ (nr_at 1095 rfl)
      | 2, _ => hn _ (nr_at 1096 rfl)
      | 3, _ => hn _ (nr_at 1097 rfl)
      | m + 4, h => absurd h (by show ¬ m + 4 < 4; omega)
    | m + 1, h => absurd h (by omega)) (fun i j hi hj hne => absurd (show i = j by omega) hne) (fun a h => Nat.not_le.mpr h)
  obtain ⟨h1, h2, h3, h4⟩ := hS.1 0 (by decide)
  exact ⟨K 0, V 0, vk_R.of (ht _ q1418) (hev 0 (by decide)), h1, h2, h3, h4, by decide⟩
theorem ks_X8_7 {G : xG} (hG : xGood G) : ∃ a v, vk_R "ThreeBodies$Scanner" 7 "" a G.1 ∧ xStr G a v 0 (fun j => ([] : List Int32).getD j 0) := by
  obtain ⟨-, b, ht, hn, -⟩ := hG
  replace hn := flat_of_before _ hn
  obtain ⟨K, V, hS, hev⟩ := vk_Sof (N := 1) (tm := fun _ => .string "ThreeBodies$Scanner" 7) (len := [0]) (byt := [[]]) (A := xA G) (fun i hi => match i, hi with
    | 0, _ => by decide
    | m + 1, h => absurd h (by omega)) (fun _ _ => hn _ (nr_at 979 rfl)) (fun _ _ => hn _ (nr_at 980 rfl)) (fun _ _ => hn _ (nr_at 981 rfl)) (fun i hi => match i, hi with
    | 0, _ => hn _ (nr_at 982 rfl)
    | m + 1, h => absurd h (by omega)) (fun i hi => match i, hi with
    | 0, _ => fun j hj => match j, hj with

      | m + 0, h => absurd h (by show ¬ m + 0 < 0; omega)
    | m + 1, h => absurd h (by omega)) (fun i j hi hj hne => absurd (show i = j by omega) hne) (fun a h => Nat.not_le.mpr h)
  obtain ⟨h1, h2, h3, h4⟩ := hS.1 0 (by decide)
  exact ⟨K 0, V 0, vk_R.of (ht _ q975) (hev 0 (by decide)), h1, h2, h3, h4, by decide⟩
