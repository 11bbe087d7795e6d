/-! ===== arraycopy between arrays of references ===== -/
set_option maxRecDepth 100000
section XC12
variable {C : xC} {I : xV → Prop} {k n pc : Nat} {lv lv' : List (Nat × Value)} {st stk : List Value} {own : String} {cc : ByteArray} {nL0 : Nat} {ret : Option FieldType} {rm : Room}
/-- what may stand in an array of Cn: x is an object whose class is one -/
def xStor (G : xG) (Cn : String) (I : xV → Prop) (x : Nat) : Prop := ∀ (s : State) (H : Heap) (V : xV) (comp : ClassId), va_K G.2.1 vwCl (xtys G) s → G.1.WarmedH s.vm → xRep G V H → I V → s.vm.findClass Cn = some comp → ∃ (cv : Cell) (kv : Class), H[x]? = some cv ∧ cv.vm = .none ∧ s.vm.classes[cv.cls]? = some kv ∧ s.vm.assignable cv.cls comp = true
theorem xStor.obj {G : xG} (hG : xGood G) {Cn cN : String} {ci N9 x : Nat} {T : u_T} {ty9 : Nat → FieldType} (hk : xCls ci cN T N9 ty9) (hcast : Cond.castable cN Cn ∈ lw_tbl) (hv : ∀ V, I V → ∃ fs, V.2 x = some (.inr (ci, fs))) : xStor G Cn I x := by
  intro s H V comp hK hW hR hV hc
  obtain ⟨fs, hfs⟩ := hv V hV
  obtain ⟨cell, q1, q2, q3, -⟩ := (hR.at hfs).obj hk
  obtain ⟨hcl, kC, hkC, -⟩ := (hK.1 ci _ hk.1).2
  obtain ⟨c0, t0, f1, f2, f3⟩ := Cond.castable_spec (va_Nw.use (A := #[]) rfl (va_Nw.warmC hW (xT hG rfl hcast)))
  have e1 : c0 = G.2.1.1 ci := Option.some.inj (f1.symm.trans hcl)
  have e2 : t0 = comp := Option.some.inj (f2.symm.trans hc)
  subst e1 e2
  exact ⟨cell, kC, q1, q3, by rw [q2]; exact hkC, by rw [q2]; exact f3⟩
theorem r_copyQ (hC : xCtx C own cc nL0 ret rm) {J : xV → Prop} {ix a0 a n0 n1 t : Nat} {Cn : String} {f g : Nat → Option Nat} (sp dp n9 : Nat) (ht : vwAr[t]? = some (.object Cn)) (hq : Cond.methodLink own ix arraycopyName ∈ lw_all) (hI0 : ∀ V, I V → V.2 a0 = some (.inl (t, n0, .inr (.inr (.inr (.inr f)))))) (hI1 : ∀ V, I V → V.2 a = some (.inl (t, n1, .inr (.inr (.inr (.inr g)))))) (h4 : sp + n9 ≤ n0) (h5 : dp + n9 ≤ n1) (hb0 : n0 < 2 ^ 31) (hb1 : n1 < 2 ^ 31) (hels : ∀ i x, i < n9 → f (sp + i) = some x → xStor (xGG C) Cn I x) (h8 : (st.map fun v => v.category).sum ≤ 8) (hf : 1 ≤ rm.frames) (hlo : 60 ≤ rm.locals) (hd : decode cc pc = .ok (.invokestatic ix, 3)) (hJ : ∀ V, I V → J (xset V a (.inl (t, n1, .inr (.inr (.inr (.inr (va_cpy f g sp dp n9)))))))) (pc1 : Nat) (hp : pc + 3 = pc1) (kk : rn C J k n pc1 lv st) : rn C I k n pc lv (.int (nI n9) :: .int (nI dp) :: .ref a :: .int (nI sp) :: .ref a0 :: st) := by
  subst hp
  obtain ⟨p, l, e, R, s, m, args, below, meth, c, G, nL, Q, X⟩ := C
  obtain ⟨hx, hb, hml, hnL, hown, hts, hK, hr, hlocks, hW0, hRm, -⟩ := hC
  subst hRm
  intro V H locs ls hV hR hL hl T hT X0
  have hc0 : H[a0]? = some (vp_cell (G.2.2.1 t) (n0, .inr (.inr (.inr (.inr f))))) := hR.at (hI0 V hV)
  have hc1 : H[a]? = some (vp_cell (G.2.2.1 t) (n1, .inr (.inr (.inr (.inr g))))) := hR.at (hI1 V hV)
  obtain ⟨kA, comp, k1, k2, k3, -⟩ := (xtys_at hK ht).2
  have hnf : nativeFrameWords "java/lang/System" "arraycopy" 5 + 11 ≤ 52 := by decide
  have es : (nI sp).toNatClampNeg = sp := nI_clamp (by omega)
  have ed : (nI dp).toNatClampNeg = dp := nI_clamp (by omega)
  have en : (nI n9).toNatClampNeg = n9 := nI_clamp (by omega)
  obtain ⟨vm', X', step⟩ := X0.arraycopy hx hown (hts _ hq) (hts _ q672) (hts _ q671) (hts _ q120) (src := a0) (dst := a) (cs := vp_cell (G.2.2.1 t) (n0, .inr (.inr (.inr (.inr f))))) (cd := vp_cell (G.2.2.1 t) (n1, .inr (.inr (.inr (.inr g))))) (srcPos := nI sp) (destPos := nI dp) (n := nI n9) (by rw [hT]; exact hc0) (by rw [hT]; exact hc1)
    (fun _ h => by cases h) (fun _ h => by cases h) (fun h => by cases h) (fun h => by cases h) k1 k1 k2 k2 (by simp [refKind]) (nI_pos (by omega)) (nI_pos (by omega)) (nI_pos (by omega))
    (by rw [nI_toInt (by omega), nI_toInt (by omega)]; show ¬ _ > ((arrV _ n0 (fun j => va_rf (f j))).slots.size : Int); rw [arrV_size]; omega)
    (by rw [nI_toInt (by omega), nI_toInt (by omega)]; show ¬ _ > ((arrV _ n1 (fun j => va_rf (g j))).slots.size : Int); rw [arrV_size]; omega)
    (fun vm₁ hal i hi => by
      rw [en] at hi
      have e : (vp_cell (G.2.2.1 t) (n0, .inr (.inr (.inr (.inr f))))).slots.getD ((nI sp).toNatClampNeg + i) .null = va_rf (f (sp + i)) := by
        show (arrV _ n0 (fun j => va_rf (f j))).slots.getD _ _ = _
        rw [es, Array.getD_eq_getD_getElem?, arrV_read _ _ (by omega)]
        rfl
      rw [e]
      cases hfx : f (sp + i) with
      | none => exact ⟨rfl, trivial⟩
      | some x =>
        obtain ⟨cv, kv, q1, q2, q3, q4⟩ := hels i x hi hfx s H V comp hK hW0 hR hV k3
        obtain ⟨kv', hkv', -⟩ := hal.2.2 _ _ q3
        obtain ⟨kc, hkc, -⟩ := Vm.findClass_spec k3
        obtain ⟨kc', hkc', -⟩ := hal.2.2 _ _ hkc
        refine ⟨rfl, cv, ?_, fun z hz => ?_, ⟨kv', hkv'⟩, ⟨kc', hkc'⟩, ?_⟩
        · show T.heap[x]? = some cv
          rw [hT]; exact q1
        · rw [q2] at hz; cases hz
        · show vm₁.assignable cv.cls comp = true
          rw [hal.assignable]; exact q4)
    (g := F0 m pc ls (.int (nI n9) :: .int (nI dp) :: .ref a :: .int (nI sp) :: .ref a0 :: st)) rfl (hl.1.trans hml.symm) (rest := st) rfl (by rw [hb]; exact hd) hf (by show 2 * 0 + _ + (nativeFrameWords "java/lang/System" "arraycopy" 5 + 11) ≤ _; omega)
  have e1 : copied (vp_cell (G.2.2.1 t) (n0, .inr (.inr (.inr (.inr f))))) (vp_cell (G.2.2.1 t) (n1, .inr (.inr (.inr (.inr g))))) (nI sp) (nI dp) (nI n9) = vp_cell (G.2.2.1 t) (n1, .inr (.inr (.inr (.inr (va_cpy f g sp dp n9))))) := by
    have := va_copied (fun z => va_rf z) (G.2.2.1 t) (G.2.2.1 t) (n1 := n1) (dp := dp) f g h4
    unfold copied
    rw [es, ed, en]
    exact this
  rw [e1] at X' step
  have hlt : a < H.size := (Array.getElem?_eq_some_iff.mp hc1).1
  have hheap : ((T.setVm vm').setCell a (vp_cell (G.2.2.1 t) (n1, .inr (.inr (.inr (.inr (va_cpy f g sp dp n9))))))).heap = H.setIfInBounds a (vp_cell (G.2.2.1 t) (n1, .inr (.inr (.inr (.inr (va_cpy f g sp dp n9)))))) := by rw [← hT]; rfl
  have oq : ∀ q : Nat, q ≠ a → (H.setIfInBounds a (vp_cell (G.2.2.1 t) (n1, .inr (.inr (.inr (.inr (va_cpy f g sp dp n9)))))))[q]? = H[q]? := fun q hq => by simp [Array.getElem?_setIfInBounds, Ne.symm hq]
  have hR1 : xRep G (xset V a (.inl (t, n1, .inr (.inr (.inr (.inr (va_cpy f g sp dp n9))))))) (H.setIfInBounds a (vp_cell (G.2.2.1 t) (n1, .inr (.inr (.inr (.inr (va_cpy f g sp dp n9))))))) := hR.set (hI1 V hV) (by simp) oq (show (H.setIfInBounds a _)[a]? = some _ by simp [Array.getElem?_setIfInBounds, hlt])
  obtain ⟨t9, a1, b1⟩ := kk _ _ _ ls (hJ V hV) hR1 (fun q hq => by
      rcases List.mem_append.mp hq with h | h
      · exact hL q h
      · obtain ⟨z, -, hz⟩ := List.mem_map.mp h
        rw [← hz]
        exact (hR.2.2.2 _ _ (hI1 V hV)).1) hl _ hheap X'
  exact ⟨t9, step t9 a1, b1⟩
end XC12
