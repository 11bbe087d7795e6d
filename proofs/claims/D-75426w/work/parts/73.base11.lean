/-! ===== stores of lambdas and of arrays ===== -/
set_option maxRecDepth 100000
theorem lamFit {G : xG} (hG : xGood G) {s : State} (hW0 : G.1.WarmedH s.vm) (i : Nat) {w : Cond} {q9 : MethodName × Nat × Nat × Lambda.Shape} (hw : xSites[i]? = some w) (hq9 : xSite w = some q9) :
    ∃ (kv : Class) (i2 : ClassId), s.vm.classes[G.2.2.1 (100 + i)]? = some kv ∧ s.vm.findClass q9.2.2.2.iface = some i2 ∧ s.vm.assignable (G.2.2.1 (100 + i)) i2 = true := by
  obtain ⟨-, b9, ht9, -, hlam⟩ := id hG
  obtain ⟨m9, kS, cfS, i0, p0, lk, hm9, hkS, hcfS, hshape, -, hfind, hmade, hcan, hlk⟩ := State.lambdaAt?_spec (hlam i w q9 hw hq9)
  obtain ⟨dk', k, ok, tk, file, cf, object, iface, toy, lay, methods, target, found, hd', hk, -⟩ := Lambda.isMade_spec hmade
  obtain ⟨i2, hi2, hasg, hway⟩ := State.lambdaCallable_spec hcan
  obtain ⟨k', hk', -⟩ := hW0.alike.2.2 _ _ hk
  exact ⟨k', i2, hk', by rw [hW0.alike.findClass]; exact hi2, by rw [hW0.alike.assignable]; exact hasg⟩
theorem lamOld {G : xG} (hG : xGood G) {V : xV} {H : Heap} (hR : xRep G V H) (i : Nat) {w : Cond} {q9 : MethodName × Nat × Nat × Lambda.Shape} (hw : xSites[i]? = some w) (hq9 : xSite w = some q9) (hcap : q9.2.2.2.captured = []) :
    ∃ cell : Cell, H[G.2.2.2 i]? = some cell ∧ cell.cls = G.2.2.1 (100 + i) ∧ cell.vm = .none := by
  obtain ⟨-, b9, ht9, -, hlam⟩ := id hG
  obtain ⟨m9, kS, cfS, i0, p0, lk, hm9, hkS, hcfS, hshape, -, hfind, hmade, hcan, hlk⟩ := State.lambdaAt?_spec (hlam i w q9 hw hq9)
  rw [if_pos hcap] at hlk
  rcases hlk with ⟨a9, cell, -, h2, -, h4, h5, h6, -⟩ | ⟨-, h2, -⟩
  · refine ⟨cell, ?_, h5, h6⟩
    rw [Option.some.inj h2]
    exact xOld hR h4
  · cases h2
section XA11
variable {C : xC} {I : xV → Prop} {k n pc : Nat} {lv lv' : List (Nat × Value)} {st stk : List Value} {own : String} {cc : ByteArray} {nL0 : Nat} {ret : Option FieldType} {rm : Room}
theorem r_aastL (hC : xCtx C own cc nL0 ret rm) (hG : xGood (xGG C)) {J : xV → Prop} {a t N v : Nat} {f : Nat → Option Nat} {z : Int32} (i : Nat) {w : Cond} {q9 : MethodName × Nat × Nat × Lambda.Shape} (hw : xSites[i]? = some w) (hq9 : xSite w = some q9) (hcap : q9.2.2.2.captured = []) (hv : v = (xGG C).2.2.2 i) (j : Nat) (hi : xix z N j) (ht : vwAr[t]? = some (.object q9.2.2.2.iface))
    (hI : ∀ V, I V → V.2 a = some (.inl (t, N, .inr (.inr (.inr (.inr f)))))) (hd : decode cc pc = .ok (.aastore, 1)) (hJ : ∀ V, I V → J (xset V a (.inl (t, N, .inr (.inr (.inr (.inr (va_up f j (some v))))))))) (pc1 : Nat) (hp : pc + 1 = pc1) (kk : rn C J k n pc1 lv st) : rn C I k n pc lv (.ref v :: .int z :: .ref a :: st) := by
  refine r_aastG hC j hi ht rfl ?_ hI hd hJ _ hp kk
  intro s H V hK hW hR hV
  obtain ⟨kA, comp, k1, k2, k3, -⟩ := (xtys_at hK ht).2
  obtain ⟨kv, i2, f1, f2, f3⟩ := lamFit hG hW i hw hq9
  obtain ⟨cell, q1, q2, q3⟩ := lamOld hG hR i hw hq9 hcap
  have e2 : i2 = comp := Option.some.inj (f2.symm.trans k3)
  subst e2
  obtain ⟨kt, hkt, -⟩ := Vm.findClass_spec f2
  exact ⟨kA, _, kt, cell, kv, k1, k2, hkt, by rw [hv]; exact q1, q3, by rw [q2]; exact f1, by rw [q2]; exact f3⟩
theorem r_aastM (hC : xCtx C own cc nL0 ret rm) (hG : xGood (xGG C)) {J : xV → Prop} {a t N v : Nat} {f : Nat → Option Nat} {z : Int32} (i : Nat) {w : Cond} {q9 : MethodName × Nat × Nat × Lambda.Shape} (hw : xSites[i]? = some w) (hq9 : xSite w = some q9) {caps : List Value} (hv : ∀ V, I V → V.2 v = some (.inr (100 + i, caps))) (j : Nat) (hi : xix z N j) (ht : vwAr[t]? = some (.object q9.2.2.2.iface))
    (hI : ∀ V, I V → V.2 a = some (.inl (t, N, .inr (.inr (.inr (.inr f)))))) (hd : decode cc pc = .ok (.aastore, 1)) (hJ : ∀ V, I V → J (xset V a (.inl (t, N, .inr (.inr (.inr (.inr (va_up f j (some v))))))))) (pc1 : Nat) (hp : pc + 1 = pc1) (kk : rn C J k n pc1 lv st) : rn C I k n pc lv (.ref v :: .int z :: .ref a :: st) := by
  refine r_aastG hC j hi ht rfl ?_ hI hd hJ _ hp kk
  intro s H V hK hW hR hV
  obtain ⟨kA, comp, k1, k2, k3, -⟩ := (xtys_at hK ht).2
  obtain ⟨kv, i2, f1, f2, f3⟩ := lamFit hG hW i hw hq9
  obtain ⟨cell, q1, q2, q3, q4⟩ : ∃ cell : Cell, H[v]? = some cell ∧ cell.cls = (xGG C).2.2.1 (100 + i) ∧ cell.vm = .none ∧ cell.slots.toList = caps := by
    have := (hR.2.2.2 v _ (hv V hV)).2
    simp only [xat] at this
    rw [if_neg (by omega)] at this
    exact this
  have e2 : i2 = comp := Option.some.inj (f2.symm.trans k3)
  subst e2
  obtain ⟨kt, hkt, -⟩ := Vm.findClass_spec f2
  exact ⟨kA, _, kt, cell, kv, k1, k2, hkt, q1, q3, by rw [q2]; exact f1, by rw [q2]; exact f3⟩
/-- an array of arrays: its elements are arrays -/
theorem r_aastA (hC : xCtx C own cc nL0 ret rm) (hG : xGood (xGG C)) {J : xV → Prop} {a t t2 N v : Nat} {f : Nat → Option Nat} {z : Int32} {u : FieldType} (hov : Cond.arrayOver (.array u) ∈ lw_tbl) (ht2 : vwAr[t2]? = some u) (x2 : vp_A) (hv : ∀ V, I V → V.2 v = some (.inl (t2, x2))) (j : Nat) (hi : xix z N j) (ht : vwAr[t]? = some (.array u))
    (hI : ∀ V, I V → V.2 a = some (.inl (t, N, .inr (.inr (.inr (.inr f)))))) (hd : decode cc pc = .ok (.aastore, 1)) (hJ : ∀ V, I V → J (xset V a (.inl (t, N, .inr (.inr (.inr (.inr (va_up f j (some v))))))))) (pc1 : Nat) (hp : pc + 1 = pc1) (kk : rn C J k n pc1 lv st) : rn C I k n pc lv (.ref v :: .int z :: .ref a :: st) := by
  refine r_aastG hC j hi ht rfl ?_ hI hd hJ _ hp kk
  intro s H V hK hW hR hV
  obtain ⟨-, b9, ht9, -⟩ := id hG
  obtain ⟨comp, cA, kA, hco, hidx, hkA, hkindA, hnameA⟩ := overS (N := (FieldType.array u).toString) rfl (ht9 _ hov)
  have hnm : ∀ (t9 : Nat) (ty9 : FieldType), vwAr[t9]? = some ty9 → s.vm.findClass ("[" ++ ty9.toString) = some ((xGG C).2.2.1 t9) := by
    intro t9 ty9 h9
    have h1 := (xtys_at hK h9).2
    cases ty9 with
    | object n9 => obtain ⟨_, _, _, _, _, h⟩ := h1; exact h
    | _ => exact h1
  have e1 : (xGG C).2.2.1 t = cA := by
    have h2 := hnm t _ ht
    rw [hW.alike.findClass, hnameA] at h2
    exact (Option.some.inj h2).symm
  have e2 : (xGG C).2.2.1 t2 = comp := by
    have h2 := hnm t2 _ ht2
    rw [hW.alike.findClass] at h2
    have h3 : (xGG C).1.vm.findClass ("[" ++ u.toString) = some comp := hco
    exact Option.some.inj (h2.symm.trans h3)
  obtain ⟨kA', hkA', heA⟩ := hW.alike.2.2 _ _ hkA
  obtain ⟨kc, hkc, -⟩ := Vm.findClass_spec hco
  obtain ⟨kc', hkc', -⟩ := hW.alike.2.2 _ _ hkc
  have hcv : H[v]? = some (vp_cell ((xGG C).2.2.1 t2) x2) := hR.at (hv V hV)
  refine ⟨kA', comp, kc', _, kc', by rw [e1]; exact hkA', by rw [heA]; exact hkindA, hkc', hcv, ?_, ?_, ?_⟩
  · obtain ⟨N2, x⟩ := x2
    rcases x with x | x | x | x | x <;> rfl
  · have : (vp_cell ((xGG C).2.2.1 t2) x2).cls = comp := by
      rw [← e2]
      obtain ⟨N2, x⟩ := x2
      rcases x with x | x | x | x | x <;> rfl
    rw [this]; exact hkc'
  · have : (vp_cell ((xGG C).2.2.1 t2) x2).cls = comp := by
      rw [← e2]
      obtain ⟨N2, x⟩ := x2
      rcases x with x | x | x | x | x <;> rfl
    rw [this]
    exact Vm.assignable_self _ _
end XA11
