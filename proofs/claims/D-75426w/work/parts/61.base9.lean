/-! ===== statics, tables, copies, exceptions ===== -/
set_option maxRecDepth 100000
def xA (G : xG) : Nat → Prop := fun q => G.1.heap.size ≤ q
def xZ (G : xG) (C n d : String) (v : Value) : Prop := va_Z C n d v (xA G) G.1 G.1.heap
def xZq (G : xG) (C n d : String) : Prop := va_Zq C n d (xA G) G.1 G.1.heap
def xTb (G : xG) (ty : FieldType) (t N : Nat) (f : Nat → Value) : Prop := va_T ty t N f (xA G) G.1 G.1.heap
theorem xNar {G : xG} (hG : xGood G) : ∃ b : Nat, ∀ c ∈ flatC (Jvm.Cond.and given_1 narrow_1), c.before #[Value.ref b] G.1 = true := by
  obtain ⟨-, b, -, h, -⟩ := hG
  exact ⟨b, flat_of_before _ h⟩
theorem xOld {G : xG} {V : xV} {H : Heap} (hR : xRep G V H) {a : Nat} {cell : Cell} (h : G.1.heap[a]? = some cell) : H[a]? = some cell := by
  rw [hR.2.2.1 a (Array.getElem?_eq_some_iff.mp h).1]; exact h
section XS9
variable {C : xC} {I : xV → Prop} {k n pc : Nat} {lv lv' : List (Nat × Value)} {st stk : List Value} {own : String} {cc : ByteArray} {nL0 : Nat} {ret : Option FieldType} {rm : Room}
theorem r_gets (hC : xCtx C own cc nL0 ret rm) {Cn nm d : String} {v : Value} {ix : Nat} (hZ : xZ (xGG C) Cn nm d v) (hq : Cond.fieldLink own ix Cn nm d ∈ lw_all) (hd : decode cc pc = .ok (.getstatic ix, 3)) (pc1 : Nat) (hp : pc + 3 = pc1) (kk : rn C I k n pc1 lv (v :: st)) : rn C I k n pc lv st := by
  subst hp
  obtain ⟨p, l, e, R, s, m, args, below, meth, c, G, nL, Q, X⟩ := C
  obtain ⟨hx, hb, hml, hnL, hown, hts, hK, -, -, hW0, -⟩ := hC
  intro V H locs ls hV hR hL hl
  obtain ⟨cf, kf, fi, f, a, cell, h1, h2, h3, h4, h5, h6, h7, h8⟩ := va_Z.moved hW0.alike hZ
  exact W.gets hx hb hown (hts _ hq) h1 h2 h3 h4 (xOld hR h5) (fun e => by rw [e] at h6; cases h6) h7 rfl hd (kk V H locs ls hV hR hL hl)
theorem r_getsN (hC : xCtx C own cc nL0 ret rm) (hG : xGood (xGG C)) {Cn nm d host : String} {v : Value} {ix : Nat} (hZ : xZ (xGG C) Cn nm d v) (hq : Cond.fieldLinkNest own ix Cn nm d host ∈ lw_tbl) (hd : decode cc pc = .ok (.getstatic ix, 3)) (pc1 : Nat) (hp : pc + 3 = pc1) (kk : rn C I k n pc1 lv (v :: st)) : rn C I k n pc lv st := by
  subst hp
  obtain ⟨p, l, e, R, s, m, args, below, meth, c, G, nL, Q, X⟩ := C
  obtain ⟨hx, hb, hml, hnL, hown, hts, hK, -, -, hW0, -⟩ := hC
  intro V H locs ls hV hR hL hl
  obtain ⟨cf, kf, fi, f, a, cell, h1, h2, h3, h4, h5, h6, h7, h8⟩ := va_Z.moved hW0.alike hZ
  exact va_WgetsN hx hb hown (va_Nw.use rfl (va_Nw.warmF hW0 (xT hG rfl hq))) h1 h2 h3 h4 (xOld hR h5) (fun e => by rw [e] at h6; cases h6) h7 rfl hd (kk V H locs ls hV hR hL hl)
theorem r_ialdT (hC : xCtx C own cc nL0 ret rm) {t N : Nat} {f : Nat → Value} {i : Int32} (hT : xTb (xGG C) .int t N f) (j : Nat) (hi : xix i N j) (v : Int32) (hv : f j = .int v) (hd : decode cc pc = .ok (.iaload, 1)) (pc1 : Nat) (hp : pc + 1 = pc1) (kk : rn C I k n pc1 lv (.int v :: st)) : rn C I k n pc lv (.int i :: .ref t :: st) := by
  subst hp
  obtain ⟨p, l, e, R, s, m, args, below, meth, c, G, nL, Q, X⟩ := C
  obtain ⟨hx, hb, hml, hnL, hown, hts, hK, -, -, hW0, -⟩ := hC
  intro V H locs ls hV hR hL hl
  obtain ⟨cell, h1, h2, h3, h4, h5, h6, h7⟩ := va_T.moved hW0.alike hT
  obtain ⟨hin, hj⟩ := hi
  have hlt : i.toNatClampNeg < N := Nat.not_le.mp fun q => hin (Or.inr q)
  have hin' : ¬ (i < 0 ∨ cell.slots.size ≤ i.toNatClampNeg) := by
    intro q
    rcases q with q | q
    · exact hin (Or.inl q)
    · omega
  exact W.iald (v := .int v) hx hb (xOld hR h1) h2 h3 hin' (by rw [h6 _ hlt, hj, hv]) rfl rfl hd (kk V H locs ls hV hR hL hl)
theorem r_baldT (hC : xCtx C own cc nL0 ret rm) {t N : Nat} {f : Nat → Value} {i : Int32} (hT : xTb (xGG C) .byte t N f) (j : Nat) (hi : xix i N j) (v : Int32) (hv : f j = .int v) (hd : decode cc pc = .ok (.baload, 1)) (pc1 : Nat) (hp : pc + 1 = pc1) (kk : rn C I k n pc1 lv (.int v :: st)) : rn C I k n pc lv (.int i :: .ref t :: st) := by
  subst hp
  obtain ⟨p, l, e, R, s, m, args, below, meth, c, G, nL, Q, X⟩ := C
  obtain ⟨hx, hb, hml, hnL, hown, hts, hK, -, -, hW0, -⟩ := hC
  intro V H locs ls hV hR hL hl
  obtain ⟨cell, h1, h2, h3, h4, h5, h6, h7⟩ := va_T.moved hW0.alike hT
  obtain ⟨hin, hj⟩ := hi
  have hlt : i.toNatClampNeg < N := Nat.not_le.mp fun q => hin (Or.inr q)
  have hin' : ¬ (i < 0 ∨ cell.slots.size ≤ i.toNatClampNeg) := by
    intro q
    rcases q with q | q
    · exact hin (Or.inl q)
    · omega
  exact W.bald (v := .int v) hx hb (xOld hR h1) h2 h3 hin' (by rw [h6 _ hlt, hj, hv]) rfl rfl hd (kk V H locs ls hV hR hL hl)
theorem r_copyI (hC : xCtx C own cc nL0 ret rm) {J : xV → Prop} {ix a0 a n0 n1 : Nat} {f g : Nat → Int32} (sp dp n9 : Nat) (hq : Cond.methodLink own ix arraycopyName ∈ lw_all) (hI0 : ∀ V, I V → V.2 a0 = some (.inl (0, n0, .inl f))) (hI1 : ∀ V, I V → V.2 a = some (.inl (0, n1, .inl g))) (h4 : sp + n9 ≤ n0) (h5 : dp + n9 ≤ n1) (hb0 : n0 < 2 ^ 31) (hb1 : n1 < 2 ^ 31) (h8 : (st.map fun v => v.category).sum ≤ 8) (hf : 1 ≤ rm.frames) (hlo : 60 ≤ rm.locals) (hd : decode cc pc = .ok (.invokestatic ix, 3)) (hJ : ∀ V, I V → J (xset V a (.inl (0, n1, .inl (va_cpy f g sp dp n9))))) (pc1 : Nat) (hp : pc + 3 = pc1) (kk : rn C J k n pc1 lv st) : rn C I k n pc lv (.int (nI n9) :: .int (nI dp) :: .ref a :: .int (nI sp) :: .ref a0 :: st) := by
  subst hp
  obtain ⟨p, l, e, R, s, m, args, below, meth, c, G, nL, Q, X⟩ := C
  obtain ⟨hx, hb, hml, hnL, hown, hts, hK, hr, hlocks, hW0, hRm, -⟩ := hC
  subst hRm
  intro V H locs ls hV hR hL hl T hT X0
  have hc0 : H[a0]? = some (vp_cell (G.2.2.1 0) (n0, .inl f)) := hR.at (hI0 V hV)
  have hc1 : H[a]? = some (vp_cell (G.2.2.1 0) (n1, .inl g)) := hR.at (hI1 V hV)
  obtain ⟨-, k0, hk0, cm0, hkk0⟩ := (xtys_at (t := 0) hK rfl).1 n0 (fun j => .int (f j))
  obtain ⟨-, k1, hk1, cm1, hkk1⟩ := (xtys_at (t := 0) hK rfl).1 n1 (fun j => .int (g j))
  have hnf : nativeFrameWords "java/lang/System" "arraycopy" 5 + 11 ≤ 52 := by decide
  have es : (nI sp).toNatClampNeg = sp := nI_clamp (by omega)
  have ed : (nI dp).toNatClampNeg = dp := nI_clamp (by omega)
  have en : (nI n9).toNatClampNeg = n9 := nI_clamp (by omega)
  obtain ⟨vm', X', step⟩ := X0.arraycopy hx hown (hts _ hq) (hts _ q672) (hts _ q671) (hts _ q120) (src := a0) (dst := a) (cs := vp_cell (G.2.2.1 0) (n0, .inl f)) (cd := vp_cell (G.2.2.1 0) (n1, .inl g)) (srcPos := nI sp) (destPos := nI dp) (n := nI n9) (by rw [hT]; exact hc0) (by rw [hT]; exact hc1)
    (fun _ h => by cases h) (fun _ h => by cases h) (fun h => by cases h) (fun h => by cases h) hk0 hk1 hkk0 hkk1 (by simp [refKind]) (nI_pos (by omega)) (nI_pos (by omega)) (nI_pos (by omega))
    (by rw [nI_toInt (by omega), nI_toInt (by omega)]; show ¬ _ > ((arrV _ n0 (fun j => .int (f j))).slots.size : Int); rw [arrV_size]; omega)
    (by rw [nI_toInt (by omega), nI_toInt (by omega)]; show ¬ _ > ((arrV _ n1 (fun j => .int (g j))).slots.size : Int); rw [arrV_size]; omega)
    (fun vm₁ _ i hi => by
      rw [en] at hi
      have e : (vp_cell (G.2.2.1 0) (n0, .inl f)).slots.getD ((nI sp).toNatClampNeg + i) .null = .int (f (sp + i)) := by
        show (arrV _ n0 (fun j => .int (f j))).slots.getD _ _ = _
        rw [es, Array.getD_eq_getD_getElem?, arrV_read _ _ (by omega)]
        rfl
      refine ⟨?_, ?_⟩
      · rw [e]
        exact rfl
      · rw [e]
        exact trivial)
    (g := F0 m pc ls (.int (nI n9) :: .int (nI dp) :: .ref a :: .int (nI sp) :: .ref a0 :: st)) rfl (hl.1.trans hml.symm) (rest := st) rfl (by rw [hb]; exact hd) hf (by show 2 * 0 + _ + (nativeFrameWords "java/lang/System" "arraycopy" 5 + 11) ≤ _; omega)
  have e1 : copied (vp_cell (G.2.2.1 0) (n0, .inl f)) (vp_cell (G.2.2.1 0) (n1, .inl g)) (nI sp) (nI dp) (nI n9) = vp_cell (G.2.2.1 0) (n1, .inl (va_cpy f g sp dp n9)) := by
    have := va_copied (fun z => .int z) (G.2.2.1 0) (G.2.2.1 0) (n1 := n1) (dp := dp) f g h4
    unfold copied
    rw [es, ed, en]
    exact this
  rw [e1] at X' step
  have hlt : a < H.size := (Array.getElem?_eq_some_iff.mp hc1).1
  have hheap : ((T.setVm vm').setCell a (vp_cell (G.2.2.1 0) (n1, .inl (va_cpy f g sp dp n9)))).heap = H.setIfInBounds a (vp_cell (G.2.2.1 0) (n1, .inl (va_cpy f g sp dp n9))) := by rw [← hT]; rfl
  have oq : ∀ q : Nat, q ≠ a → (H.setIfInBounds a (vp_cell (G.2.2.1 0) (n1, .inl (va_cpy f g sp dp n9))))[q]? = H[q]? := fun q hq => by simp [Array.getElem?_setIfInBounds, Ne.symm hq]
  have hR1 : xRep G (xset V a (.inl (0, n1, .inl (va_cpy f g sp dp n9)))) (H.setIfInBounds a (vp_cell (G.2.2.1 0) (n1, .inl (va_cpy f g sp dp n9)))) := hR.set (hI1 V hV) (by simp) oq (show (H.setIfInBounds a _)[a]? = some _ by simp [Array.getElem?_setIfInBounds, hlt])
  obtain ⟨t, a1, b1⟩ := kk _ _ _ ls (hJ V hV) hR1 (fun q hq => by
      rcases List.mem_append.mp hq with h | h
      · exact hL q h
      · obtain ⟨z, -, hz⟩ := List.mem_map.mp h
        rw [← hz]
        exact (hR.2.2.2 _ _ (hI1 V hV)).1) hl _ hheap X'
  exact ⟨t, step t a1, b1⟩
theorem r_copyL (hC : xCtx C own cc nL0 ret rm) {J : xV → Prop} {ix a0 a n0 n1 : Nat} {f g : Nat → Int64} (sp dp n9 : Nat) (hq : Cond.methodLink own ix arraycopyName ∈ lw_all) (hI0 : ∀ V, I V → V.2 a0 = some (.inl (1, n0, .inr (.inl f)))) (hI1 : ∀ V, I V → V.2 a = some (.inl (1, n1, .inr (.inl g)))) (h4 : sp + n9 ≤ n0) (h5 : dp + n9 ≤ n1) (hb0 : n0 < 2 ^ 31) (hb1 : n1 < 2 ^ 31) (h8 : (st.map fun v => v.category).sum ≤ 8) (hf : 1 ≤ rm.frames) (hlo : 60 ≤ rm.locals) (hd : decode cc pc = .ok (.invokestatic ix, 3)) (hJ : ∀ V, I V → J (xset V a (.inl (1, n1, .inr (.inl (va_cpy f g sp dp n9)))))) (pc1 : Nat) (hp : pc + 3 = pc1) (kk : rn C J k n pc1 lv st) : rn C I k n pc lv (.int (nI n9) :: .int (nI dp) :: .ref a :: .int (nI sp) :: .ref a0 :: st) := by
  subst hp
  obtain ⟨p, l, e, R, s, m, args, below, meth, c, G, nL, Q, X⟩ := C
  obtain ⟨hx, hb, hml, hnL, hown, hts, hK, hr, hlocks, hW0, hRm, -⟩ := hC
  subst hRm
  intro V H locs ls hV hR hL hl T hT X0
  have hc0 : H[a0]? = some (vp_cell (G.2.2.1 1) (n0, .inr (.inl f))) := hR.at (hI0 V hV)
  have hc1 : H[a]? = some (vp_cell (G.2.2.1 1) (n1, .inr (.inl g))) := hR.at (hI1 V hV)
  obtain ⟨-, k0, hk0, cm0, hkk0⟩ := (xtys_at (t := 1) hK rfl).1 n0 (fun j => .long (f j))
  obtain ⟨-, k1, hk1, cm1, hkk1⟩ := (xtys_at (t := 1) hK rfl).1 n1 (fun j => .long (g j))
  have hnf : nativeFrameWords "java/lang/System" "arraycopy" 5 + 11 ≤ 52 := by decide
  have es : (nI sp).toNatClampNeg = sp := nI_clamp (by omega)
  have ed : (nI dp).toNatClampNeg = dp := nI_clamp (by omega)
  have en : (nI n9).toNatClampNeg = n9 := nI_clamp (by omega)
  obtain ⟨vm', X', step⟩ := X0.arraycopy hx hown (hts _ hq) (hts _ q672) (hts _ q671) (hts _ q120) (src := a0) (dst := a) (cs := vp_cell (G.2.2.1 1) (n0, .inr (.inl f))) (cd := vp_cell (G.2.2.1 1) (n1, .inr (.inl g))) (srcPos := nI sp) (destPos := nI dp) (n := nI n9) (by rw [hT]; exact hc0) (by rw [hT]; exact hc1)
    (fun _ h => by cases h) (fun _ h => by cases h) (fun h => by cases h) (fun h => by cases h) hk0 hk1 hkk0 hkk1 (by simp [refKind]) (nI_pos (by omega)) (nI_pos (by omega)) (nI_pos (by omega))
    (by rw [nI_toInt (by omega), nI_toInt (by omega)]; show ¬ _ > ((arrV _ n0 (fun j => .long (f j))).slots.size : Int); rw [arrV_size]; omega)
    (by rw [nI_toInt (by omega), nI_toInt (by omega)]; show ¬ _ > ((arrV _ n1 (fun j => .long (g j))).slots.size : Int); rw [arrV_size]; omega)
    (fun vm₁ _ i hi => by
      rw [en] at hi
      have e : (vp_cell (G.2.2.1 1) (n0, .inr (.inl f))).slots.getD ((nI sp).toNatClampNeg + i) .null = .long (f (sp + i)) := by
        show (arrV _ n0 (fun j => .long (f j))).slots.getD _ _ = _
        rw [es, Array.getD_eq_getD_getElem?, arrV_read _ _ (by omega)]
        rfl
      refine ⟨?_, ?_⟩
      · rw [e]
        exact rfl
      · rw [e]
        exact trivial)
    (g := F0 m pc ls (.int (nI n9) :: .int (nI dp) :: .ref a :: .int (nI sp) :: .ref a0 :: st)) rfl (hl.1.trans hml.symm) (rest := st) rfl (by rw [hb]; exact hd) hf (by show 2 * 0 + _ + (nativeFrameWords "java/lang/System" "arraycopy" 5 + 11) ≤ _; omega)
  have e1 : copied (vp_cell (G.2.2.1 1) (n0, .inr (.inl f))) (vp_cell (G.2.2.1 1) (n1, .inr (.inl g))) (nI sp) (nI dp) (nI n9) = vp_cell (G.2.2.1 1) (n1, .inr (.inl (va_cpy f g sp dp n9))) := by
    have := va_copied (fun z => .long z) (G.2.2.1 1) (G.2.2.1 1) (n1 := n1) (dp := dp) f g h4
    unfold copied
    rw [es, ed, en]
    exact this
  rw [e1] at X' step
  have hlt : a < H.size := (Array.getElem?_eq_some_iff.mp hc1).1
  have hheap : ((T.setVm vm').setCell a (vp_cell (G.2.2.1 1) (n1, .inr (.inl (va_cpy f g sp dp n9))))).heap = H.setIfInBounds a (vp_cell (G.2.2.1 1) (n1, .inr (.inl (va_cpy f g sp dp n9)))) := by rw [← hT]; rfl
  have oq : ∀ q : Nat, q ≠ a → (H.setIfInBounds a (vp_cell (G.2.2.1 1) (n1, .inr (.inl (va_cpy f g sp dp n9)))))[q]? = H[q]? := fun q hq => by simp [Array.getElem?_setIfInBounds, Ne.symm hq]
  have hR1 : xRep G (xset V a (.inl (1, n1, .inr (.inl (va_cpy f g sp dp n9))))) (H.setIfInBounds a (vp_cell (G.2.2.1 1) (n1, .inr (.inl (va_cpy f g sp dp n9))))) := hR.set (hI1 V hV) (by simp) oq (show (H.setIfInBounds a _)[a]? = some _ by simp [Array.getElem?_setIfInBounds, hlt])
  obtain ⟨t, a1, b1⟩ := kk _ _ _ ls (hJ V hV) hR1 (fun q hq => by
      rcases List.mem_append.mp hq with h | h
      · exact hL q h
      · obtain ⟨z, -, hz⟩ := List.mem_map.mp h
        rw [← hz]
        exact (hR.2.2.2 _ _ (hI1 V hV)).1) hl _ hheap X'
  exact ⟨t, step t a1, b1⟩
theorem r_copyB (hC : xCtx C own cc nL0 ret rm) {J : xV → Prop} {ix a0 a n0 n1 : Nat} {f g : Nat → Int32} (sp dp n9 : Nat) (hq : Cond.methodLink own ix arraycopyName ∈ lw_all) (hI0 : ∀ V, I V → V.2 a0 = some (.inl (2, n0, .inl f))) (hI1 : ∀ V, I V → V.2 a = some (.inl (2, n1, .inl g))) (h4 : sp + n9 ≤ n0) (h5 : dp + n9 ≤ n1) (hb0 : n0 < 2 ^ 31) (hb1 : n1 < 2 ^ 31) (hfit : ∀ i, i < n9 → fits .byte (.int (f (sp + i))) = true) (h8 : (st.map fun v => v.category).sum ≤ 8) (hf : 1 ≤ rm.frames) (hlo : 60 ≤ rm.locals) (hd : decode cc pc = .ok (.invokestatic ix, 3)) (hJ : ∀ V, I V → J (xset V a (.inl (2, n1, .inl (va_cpy f g sp dp n9))))) (pc1 : Nat) (hp : pc + 3 = pc1) (kk : rn C J k n pc1 lv st) : rn C I k n pc lv (.int (nI n9) :: .int (nI dp) :: .ref a :: .int (nI sp) :: .ref a0 :: st) := by
  subst hp
  obtain ⟨p, l, e, R, s, m, args, below, meth, c, G, nL, Q, X⟩ := C
  obtain ⟨hx, hb, hml, hnL, hown, hts, hK, hr, hlocks, hW0, hRm, -⟩ := hC
  subst hRm
  intro V H locs ls hV hR hL hl T hT X0
  have hc0 : H[a0]? = some (vp_cell (G.2.2.1 2) (n0, .inl f)) := hR.at (hI0 V hV)
  have hc1 : H[a]? = some (vp_cell (G.2.2.1 2) (n1, .inl g)) := hR.at (hI1 V hV)
  obtain ⟨-, k0, hk0, cm0, hkk0⟩ := (xtys_at (t := 2) hK rfl).1 n0 (fun j => .int (f j))
  obtain ⟨-, k1, hk1, cm1, hkk1⟩ := (xtys_at (t := 2) hK rfl).1 n1 (fun j => .int (g j))
  have hnf : nativeFrameWords "java/lang/System" "arraycopy" 5 + 11 ≤ 52 := by decide
  have es : (nI sp).toNatClampNeg = sp := nI_clamp (by omega)
  have ed : (nI dp).toNatClampNeg = dp := nI_clamp (by omega)
  have en : (nI n9).toNatClampNeg = n9 := nI_clamp (by omega)
  obtain ⟨vm', X', step⟩ := X0.arraycopy hx hown (hts _ hq) (hts _ q672) (hts _ q671) (hts _ q120) (src := a0) (dst := a) (cs := vp_cell (G.2.2.1 2) (n0, .inl f)) (cd := vp_cell (G.2.2.1 2) (n1, .inl g)) (srcPos := nI sp) (destPos := nI dp) (n := nI n9) (by rw [hT]; exact hc0) (by rw [hT]; exact hc1)
    (fun _ h => by cases h) (fun _ h => by cases h) (fun h => by cases h) (fun h => by cases h) hk0 hk1 hkk0 hkk1 (by simp [refKind]) (nI_pos (by omega)) (nI_pos (by omega)) (nI_pos (by omega))
    (by rw [nI_toInt (by omega), nI_toInt (by omega)]; show ¬ _ > ((arrV _ n0 (fun j => .int (f j))).slots.size : Int); rw [arrV_size]; omega)
    (by rw [nI_toInt (by omega), nI_toInt (by omega)]; show ¬ _ > ((arrV _ n1 (fun j => .int (g j))).slots.size : Int); rw [arrV_size]; omega)
    (fun vm₁ _ i hi => by
      rw [en] at hi
      have e : (vp_cell (G.2.2.1 2) (n0, .inl f)).slots.getD ((nI sp).toNatClampNeg + i) .null = .int (f (sp + i)) := by
        show (arrV _ n0 (fun j => .int (f j))).slots.getD _ _ = _
        rw [es, Array.getD_eq_getD_getElem?, arrV_read _ _ (by omega)]
        rfl
      refine ⟨?_, ?_⟩
      · rw [e]
        exact hfit i hi
      · rw [e]
        exact trivial)
    (g := F0 m pc ls (.int (nI n9) :: .int (nI dp) :: .ref a :: .int (nI sp) :: .ref a0 :: st)) rfl (hl.1.trans hml.symm) (rest := st) rfl (by rw [hb]; exact hd) hf (by show 2 * 0 + _ + (nativeFrameWords "java/lang/System" "arraycopy" 5 + 11) ≤ _; omega)
  have e1 : copied (vp_cell (G.2.2.1 2) (n0, .inl f)) (vp_cell (G.2.2.1 2) (n1, .inl g)) (nI sp) (nI dp) (nI n9) = vp_cell (G.2.2.1 2) (n1, .inl (va_cpy f g sp dp n9)) := by
    have := va_copied (fun z => .int z) (G.2.2.1 2) (G.2.2.1 2) (n1 := n1) (dp := dp) f g h4
    unfold copied
    rw [es, ed, en]
    exact this
  rw [e1] at X' step
  have hlt : a < H.size := (Array.getElem?_eq_some_iff.mp hc1).1
  have hheap : ((T.setVm vm').setCell a (vp_cell (G.2.2.1 2) (n1, .inl (va_cpy f g sp dp n9)))).heap = H.setIfInBounds a (vp_cell (G.2.2.1 2) (n1, .inl (va_cpy f g sp dp n9))) := by rw [← hT]; rfl
  have oq : ∀ q : Nat, q ≠ a → (H.setIfInBounds a (vp_cell (G.2.2.1 2) (n1, .inl (va_cpy f g sp dp n9))))[q]? = H[q]? := fun q hq => by simp [Array.getElem?_setIfInBounds, Ne.symm hq]
  have hR1 : xRep G (xset V a (.inl (2, n1, .inl (va_cpy f g sp dp n9)))) (H.setIfInBounds a (vp_cell (G.2.2.1 2) (n1, .inl (va_cpy f g sp dp n9)))) := hR.set (hI1 V hV) (by simp) oq (show (H.setIfInBounds a _)[a]? = some _ by simp [Array.getElem?_setIfInBounds, hlt])
  obtain ⟨t, a1, b1⟩ := kk _ _ _ ls (hJ V hV) hR1 (fun q hq => by
      rcases List.mem_append.mp hq with h | h
      · exact hL q h
      · obtain ⟨z, -, hz⟩ := List.mem_map.mp h
        rw [← hz]
        exact (hR.2.2.2 _ _ (hI1 V hV)).1) hl _ hheap X'
  exact ⟨t, step t a1, b1⟩
/-! ===== throwing ===== -/
/-- the method's table of handlers -/
def xTab (C : xC) (hh : List (Nat × Nat × Nat × Nat)) : Prop := C.2.2.2.2.2.2.2.2.2.1.exceptionTable.toList = tableOf hh
theorem r_athrow (hC : xCtx C own cc nL0 ret rm) {q ci : Nat} {fs : List Value} (hI : ∀ V, I V → V.2 q = some (.inr (ci, fs))) (hd : decode cc pc = .ok (.athrow, 1)) (kk : rx C I k n pc lv st q) : rn C I k n pc lv (.ref q :: st) := by
  obtain ⟨p, l, e, R, s, m, args, below, meth, c, G, nL, Q, X⟩ := C
  obtain ⟨hx, hb, hml, hnL, hown, hts, hK, -⟩ := hC
  intro V H locs ls hV hR hL hl
  exact vx_athrow hx hb hd (kk V H locs ls hV ⟨ci, fs, hI V hV⟩ hR hL hl)
theorem rx_out (hC : xCtx C own cc nL0 ret rm) {q : Nat} {hh : List (Nat × Nat × Nat × Nat)} (hT : xTab C hh) (hcov : ∀ x ∈ tableOf hh, covers x pc = false) (hk : k ≤ rm.cells) (hn : n ≤ rm.slots) (hX : ∀ V, I V → xX C q V) : rx C I k n pc lv st q := by
  obtain ⟨p, l, e, R, s, m, args, below, meth, c, G, nL, Q, X⟩ := C
  obtain ⟨hx, hb, hml, hnL, hown, hts, hK, hr, hlocks, hW0, hRm, -⟩ := hC
  intro V H locs ls hV hcell hR hL hl T hT9 X0
  have hT' : c.exceptionTable.toList = tableOf hh := hT
  obtain ⟨st1, hrun, hend, hW, hsm⟩ := X0.leaveThrown q (g := F0 m pc ls st) rfl rfl rfl (fun x hx => hcov x (by rw [← hT']; exact hx)) hlocks
  refine ⟨_, st1, .threw q, hrun, hend, V, locs, ?_, hL, hW, hsm.mono (by rw [hRm]; exact hk) (by rw [hRm]; exact hn), Or.inr ⟨q, rfl, hX V hV, hcell⟩⟩
  show xRep G V T.heap
  rw [hT9]; exact hR
theorem rx.mono {q : Nat} {J : xV → Prop} (h : ∀ V, I V → J V) (kk : rx C J k n pc lv st q) : rx C I k n pc lv st q := by
  obtain ⟨p, l, e, R, s, m, args, below, meth, c, G, nL, Q, X⟩ := C
  exact fun V H locs ls hI => kk V H locs ls (h V hI)
theorem rx.sub {q : Nat} (ks : List Nat) (h : lv_pick lv ks = lv') (kk : rx C I k n pc lv' st q) : rx C I k n pc lv st q := by
  obtain ⟨p, l, e, R, s, m, args, below, meth, c, G, nL, Q, X⟩ := C
  exact fun V H locs ls hI hc hR hL hl => kk V H locs ls hI hc hR hL (lv_sub hl ks h)
/-- caught by the row z of the table; the rows ahead cover other places, or other classes -/
theorem rx_catch (hC : xCtx C own cc nL0 ret rm) (hG : xGood (xGG C)) {q ci N : Nat} {cN nm : String} {T9 : u_T} {ty9 : Nat → FieldType} (hcls : xCls ci cN T9 N ty9) {hh : List (Nat × Nat × Nat × Nat)} (hT : xTab C hh) (pre : List ExceptionTableEntry) (z : ExceptionTableEntry) (suf : List ExceptionTableEntry) (hsplit : tableOf hh = pre ++ z :: suf)
    (hpass : ∀ w ∈ pre, covers w pc = false ∨ (w.catchType ≠ 0 ∧ ∃ nm2 : String, Cond.classLink own w.catchType nm2 ∈ lw_all ∧ Cond.not (Cond.castable cN nm2) ∈ flatC (Jvm.Cond.and given_1 narrow_1))) (hz : covers z pc = true) (h0 : z.catchType ≠ 0) (hlink : Cond.classLink own z.catchType nm ∈ lw_all) (hcast : Cond.castable cN nm ∈ lw_tbl) (hI : ∀ V, I V → ∃ fs, V.2 q = some (.inr (ci, fs)))
    (kk : rn C I k n z.handlerPc lv [.ref q]) : rx C I k n pc lv st q := by
  obtain ⟨p, l, e, R, s, m, args, below, meth, c, G, nL, Q, X⟩ := C
  obtain ⟨hx, hb, hml, hnL, hown, hts, hK, hr, hlocks, hW0, hRm, -⟩ := hC
  intro V H locs ls hV hcell hR hL hl
  obtain ⟨fs, hfs⟩ := hI V hV
  obtain ⟨cell, q1, q2, q3, -⟩ := (hR.at hfs).obj hcls
  have hT' : c.exceptionTable.toList = tableOf hh := hT
  refine vx_catch (E := cN) (ce := cell) hown pre z suf (hT'.trans hsplit) (fun w hw => ?_) hz h0 (hts _ hlink) (va_Nw.use rfl (va_Nw.warmC hW0 (xT hG rfl hcast))) q1 q3 (by rw [q2]; exact (hK.1 ci _ hcls.1).2.1) (kk V H locs ls hV hR hL hl)
  rcases hpass w hw with h | ⟨h1, nm2, h2, h3⟩
  · exact Or.inl h
  · obtain ⟨b, hb9⟩ := xNar hG
    exact Or.inr ⟨h1, nm2, hts _ h2, va_Nc.moved hW0.alike (va_Nc.of (hb9 _ h3))⟩
end XS9
theorem xMet_ofT {l : Launch} {G : xG} {y : MethodName} {cc : ByteArray} {maxL : Nat} {ret : Option FieldType} {rm : Room} {As : List Value} {V : xV} {Q : Option Value → xV → Prop} {X : Nat → xV → Prop} (own : String) (hG : xGood G) (hown : y.cls = own) (hy : plainName y.cls = true) (hlen : (lg_sl As).length ≤ maxL)
    (body : ∀ C : xC, xCtx C own cc maxL ret rm → (∀ v V', Q v V' → xQ C v V') → (∀ q V', X q V' → xX C q V') → xL C = l → xGG C = G → (y.name = "<init>" → xIni C) → xTab C [] → rn C (fun V' => V' = V) 0 0 0 (lv_args 0 As) []) : xMet l G y [Cond.code y cc maxL ret] rm As V Q X := by
  refine MetFree.of_bodyS (code := cc) (maxLocals := maxL) (ret := ret) hy ?_ ?_
  · intro args s m h hn
    obtain ⟨meth, c, h1, h2, h3, h4, h5, h6, -, -⟩ := Cond.code_spec hn (atoms_spec (ws := [Cond.code y cc maxL ret]) h _ List.mem_cons_self)
    exact ⟨meth, c, h1, h2, h3, h4, h5, h6⟩
  · intro p e s m args below meth c s₁ B hml hP _
    obtain ⟨rfl, hW, hRep⟩ := hP
    have hh0 : s₁.heap = s.heap := by rw [B.state]; rfl
    have hK : va_K G.2.1 vwCl (xtys G) s := va_K.moved hW.alike hG.1
    have hl := lv_entry As (n := maxL) hlen
    have htab : c.exceptionTable.toList = tableOf [] := by
      obtain ⟨meth9, c9, h1, h2, -, -, -, -, h7, -⟩ := Cond.code_spec B.named (atoms_spec (ws := [Cond.code y cc maxL ret]) B.pre _ List.mem_cons_self)
      cases Option.some.inj (h1.symm.trans B.method)
      cases Option.some.inj (h2.symm.trans (Stand.of_body B).code)
      rw [Array.isEmpty_iff.mp h7]
      rfl
    have := body (p, l, e, (headSpec [Cond.code y cc maxL ret] rm).room, s, m, As.toArray, below, meth, c, G, maxL, Q, X)
      ⟨B.exec, B.bytes, hml, rfl, by rw [← hown]; exact findClass_of_methodNamed B.named, xWords hG hW, hK, B.returns, B.notSynchronized, hW, rfl, by rw [hRep.1]; exact hRep.2.1⟩ (fun _ _ h => h) (fun _ _ h => h) rfl rfl (fun h => by
        show meth.name = "<init>"
        rw [(name_of_methodNamed B.named B.method).1]; exact h) htab V s.heap [] _ rfl hRep (fun _ h => by cases h) hl
    rw [← lg_entry_eq] at this
    obtain ⟨t, a1, o, b1, b2, b3⟩ := this s₁ hh0 (Stand.of_body B)
    exact ⟨t, o, a1, b1, b2, b3⟩
theorem xMet_ofM {l : Launch} {G : xG} {y : MethodName} {cc : ByteArray} {maxL : Nat} {ret : Option FieldType} {rm : Room} {As : List Value} {V : xV} {Q : Option Value → xV → Prop} {X : Nat → xV → Prop} (own : String) (hG : xGood G) (hown : y.cls = own) (hy : plainFor y = true) (hlen : (lg_sl As).length ≤ maxL)
    (body : ∀ C : xC, xCtx C own cc maxL ret rm → (∀ v V', Q v V' → xQ C v V') → (∀ q V', X q V' → xX C q V') → xL C = l → xGG C = G → (y.name = "<init>" → xIni C) → xTab C [] → rn C (fun V' => V' = V) 0 0 0 (lv_args 0 As) []) : xMet l G y [Cond.code y cc maxL ret] rm As V Q X := by
  refine MetFree.of_bodySF (code := cc) (maxLocals := maxL) (ret := ret) hy ?_ ?_
  · intro args s m h hn
    obtain ⟨meth, c, h1, h2, h3, h4, h5, h6, -, -⟩ := Cond.code_spec hn (atoms_spec (ws := [Cond.code y cc maxL ret]) h _ List.mem_cons_self)
    exact ⟨meth, c, h1, h2, h3, h4, h5, h6⟩
  · intro p e s m args below meth c s₁ B hml hP _
    obtain ⟨rfl, hW, hRep⟩ := hP
    have hh0 : s₁.heap = s.heap := by rw [B.state]; rfl
    have hK : va_K G.2.1 vwCl (xtys G) s := va_K.moved hW.alike hG.1
    have hl := lv_entry As (n := maxL) hlen
    have htab : c.exceptionTable.toList = tableOf [] := by
      obtain ⟨meth9, c9, h1, h2, -, -, -, -, h7, -⟩ := Cond.code_spec B.named (atoms_spec (ws := [Cond.code y cc maxL ret]) B.pre _ List.mem_cons_self)
      cases Option.some.inj (h1.symm.trans B.method)
      cases Option.some.inj (h2.symm.trans (Stand.of_body B).code)
      rw [Array.isEmpty_iff.mp h7]
      rfl
    have := body (p, l, e, (headSpec [Cond.code y cc maxL ret] rm).room, s, m, As.toArray, below, meth, c, G, maxL, Q, X)
      ⟨B.exec, B.bytes, hml, rfl, by rw [← hown]; exact findClass_of_methodNamed B.named, xWords hG hW, hK, B.returns, B.notSynchronized, hW, rfl, by rw [hRep.1]; exact hRep.2.1⟩ (fun _ _ h => h) (fun _ _ h => h) rfl rfl (fun h => by
        show meth.name = "<init>"
        rw [(name_of_methodNamed B.named B.method).1]; exact h) htab V s.heap [] _ rfl hRep (fun _ h => by cases h) hl
    rw [← lg_entry_eq] at this
    obtain ⟨t, a1, o, b1, b2, b3⟩ := this s₁ hh0 (Stand.of_body B)
    exact ⟨t, o, a1, b1, b2, b3⟩
theorem xMet_ofW {l : Launch} {G : xG} {y : MethodName} {cc : ByteArray} {maxL : Nat} {ret : Option FieldType} {hh : List (Nat × Nat × Nat × Nat)} {rm : Room} {As : List Value} {V : xV} {Q : Option Value → xV → Prop} {X : Nat → xV → Prop} (own : String) (hG : xGood G) (hown : y.cls = own) (hy : plainName y.cls = true) (hlen : (lg_sl As).length ≤ maxL)
    (body : ∀ C : xC, xCtx C own cc maxL ret rm → (∀ v V', Q v V' → xQ C v V') → (∀ q V', X q V' → xX C q V') → xL C = l → xGG C = G → (y.name = "<init>" → xIni C) → xTab C hh → rn C (fun V' => V' = V) 0 0 0 (lv_args 0 As) []) : xMet l G y [Cond.codeWith y cc maxL ret hh] rm As V Q X := by
  refine MetFree.of_bodyS (code := cc) (maxLocals := maxL) (ret := ret) hy ?_ ?_
  · intro args s m h hn
    obtain ⟨m9, meth, c, hn9, h1, h2, h3, h4, -, h5, h6, -⟩ := Cond.codeWith_spec (atoms_spec (ws := [Cond.codeWith y cc maxL ret hh]) h _ List.mem_cons_self)
    cases hn.symm.trans hn9
    exact ⟨meth, c, h1, h2, h3, h4, h5, h6⟩
  · intro p e s m args below meth c s₁ B hml hP _
    obtain ⟨rfl, hW, hRep⟩ := hP
    have hh0 : s₁.heap = s.heap := by rw [B.state]; rfl
    have hK : va_K G.2.1 vwCl (xtys G) s := va_K.moved hW.alike hG.1
    have hl := lv_entry As (n := maxL) hlen
    have htab : c.exceptionTable.toList = tableOf hh := vx_table (x := y) B (atoms_spec (ws := [Cond.codeWith y cc maxL ret hh]) B.pre _ List.mem_cons_self)
    have := body (p, l, e, (headSpec [Cond.codeWith y cc maxL ret hh] rm).room, s, m, As.toArray, below, meth, c, G, maxL, Q, X)
      ⟨B.exec, B.bytes, hml, rfl, by rw [← hown]; exact findClass_of_methodNamed B.named, xWords hG hW, hK, B.returns, B.notSynchronized, hW, rfl, by rw [hRep.1]; exact hRep.2.1⟩ (fun _ _ h => h) (fun _ _ h => h) rfl rfl (fun h => by
        show meth.name = "<init>"
        rw [(name_of_methodNamed B.named B.method).1]; exact h) htab V s.heap [] _ rfl hRep (fun _ h => by cases h) hl
    rw [← lg_entry_eq] at this
    obtain ⟨t, a1, o, b1, b2, b3⟩ := this s₁ hh0 (Stand.of_body B)
    exact ⟨t, o, a1, b1, b2, b3⟩
