/-! ===== class objects ===== -/
set_option maxRecDepth 100000
theorem mirO {G : xG} (hG : xGood G) : ∃ mi : Nat, va_Mi "[Ljava/lang/Object;" mi G.1 := by
  obtain ⟨b, hn⟩ := xNar hG
  exact va_Mi.of (hn _ (nr_at 869 rfl))
section XM13
variable {C : xC} {I : xV → Prop} {k n pc : Nat} {lv lv' : List (Nat × Value)} {st stk : List Value} {own : String} {cc : ByteArray} {nL0 : Nat} {ret : Option FieldType} {rm : Room}
theorem r_ldcM (hC : xCtx C own cc nL0 ret rm) {Cn : String} {ix mi : Nat} (hM : va_Mi Cn mi (xGG C).1) (hq : Cond.classLink own ix Cn ∈ lw_all) (hd : decode cc pc = .ok (.ldc ix, 2)) (pc1 : Nat) (hp : pc + 2 = pc1) (kk : rn C I k n pc1 lv (.ref mi :: st)) : rn C I k n pc lv st := by
  subst hp
  obtain ⟨p, l, e, R, s, m, args, below, meth, c, G, nL, Q, X⟩ := C
  obtain ⟨hx, hb, hml, hnL, hown, hts, hK, -, -, hW0, -⟩ := hC
  exact fun V H locs ls hV hR hL hl => va_ldcM hx hb hown (hts _ hq) (va_Mi.moved hW0.alike hM) hd (kk V H locs ls hV hR hL hl)
theorem r_getC (hC : xCtx C own cc nL0 ret rm) (hG : xGood (xGG C)) {ix mi a : Nat} {x : vp_A} (hM : va_Mi "[Ljava/lang/Object;" mi (xGG C).1) (hq : Cond.methodLink own ix ⟨"java/lang/Object", "getClass", "()Ljava/lang/Class;"⟩ ∈ lw_all) (hI : ∀ V, I V → V.2 a = some (.inl (3, x))) (h8 : (st.map fun v => v.category).sum ≤ 8) (hf : 1 ≤ rm.frames) (hlo : 30 ≤ rm.locals) (hd : decode cc pc = .ok (.invokevirtual ix, 3)) (pc1 : Nat) (hp : pc + 3 = pc1) (kk : rn C I k n pc1 lv (.ref mi :: st)) : rn C I k n pc lv (.ref a :: st) := by
  subst hp
  obtain ⟨p, l, e, R, s, m, args, below, meth, c, G, nL, Q, X⟩ := C
  obtain ⟨hx, hb, hml, hnL, hown, hts, hK, -, -, hW0, hRm, -⟩ := hC
  subst hRm
  obtain ⟨-, b9, ht9, -⟩ := id hG
  intro V H locs ls hV hR hL hl
  have hcell : H[a]? = some (vp_cell (G.2.2.1 3) x) := hR.at (hI V hV)
  refine va_getC hx hb (hml.trans hl.1.symm) hown (hts _ hq) (va_Dc.use (va_Dc.moved hW0.alike (va_Dc.of (ht9 _ q3426)))) (hts _ q3425) (hts _ q800) (hts _ q835) (va_Mi.moved hW0.alike hM) ⟨_, hcell, ?_, ?_⟩ hf (by omega) hd (kk V H locs ls hV hR hL hl)
  · obtain ⟨N2, x⟩ := x
    rcases x with x | x | x | x | x <;> rfl
  · have h1 := va_nmO (nm := "[Ljava/lang/Object;") (xtys_at (t := 3) hK rfl).2 (by decide +kernel)
    have h2 : (vp_cell (G.2.2.1 3) x).cls = G.2.2.1 3 := by
      obtain ⟨N2, x⟩ := x
      rcases x with x | x | x | x | x <;> rfl
    rw [h2]
    exact h1
end XM13
