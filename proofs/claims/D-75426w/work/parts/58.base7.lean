/-! ===== the class's base: nest mates, interfaces, arrays of references, casts ===== -/
set_option maxRecDepth 100000
theorem kE17 : xCls 30 RJ17 TJ17 0 tyJ17 := ⟨rfl, Nat.le_of_ble_eq_true rfl, fun _ h => absurd h (by simp [u_ws]), fun _ h => absurd h (by omega), fun _ h => absurd h (by omega)⟩
theorem kE10 : xCls 31 RJ10 TJ10 0 tyJ10 := ⟨rfl, Nat.le_of_ble_eq_true rfl, fun _ h => absurd h (by simp [u_ws]), fun _ h => absurd h (by omega), fun _ h => absurd h (by omega)⟩
theorem xT {G : xG} (hG : xGood G) {w : Cond} (hw : w.onTables = true) (h : w ∈ lw_tbl) : va_Nw w G.1 := by
  obtain ⟨-, b, ht, -⟩ := hG
  exact va_Nw.of hw (ht w h)
section XN
variable {C : xC} {I : xV → Prop} {k n pc : Nat} {lv lv' : List (Nat × Value)} {st stk : List Value} {own : String} {cc : ByteArray} {nL0 : Nat} {ret : Option FieldType} {rm : Room}
theorem r_objInit (hC : xCtx C own cc nL0 ret rm) {ix a : Nat} (hq : Cond.methodLink own ix Lib.objectInit ∈ lw_all) (h8 : (st.map fun v => v.category).sum ≤ 8) (hf : 1 ≤ rm.frames) (hlo : 20 ≤ rm.locals) (hd : decode cc pc = .ok (.invokespecial ix, 3)) (pc1 : Nat) (hp : pc + 3 = pc1) (kk : rn C I k n pc1 lv st) : rn C I k n pc lv (.ref a :: st) := by
  subst hp
  obtain ⟨p, l, e, R, s, m, args, below, meth, c, G, nL, Q, X⟩ := C
  obtain ⟨hx, hb, hml, hnL, hown, hts, hK, hr, hlocks, hW0, hRm, -⟩ := hC
  subst hRm
  intro V H locs ls hV hR hL hl
  have h9 := lv_room (m := m) (pc := pc) (ls := ls) (rest := .ref a :: st) h8
  exact W.objInit hx hb hown (hts _ hq) (hts _ q159) (hts _ q160) (g := F0 m pc ls (.ref a :: st)) rfl (hl.1.trans hml.symm) rfl hd hf (by omega) (kk V H locs ls hV hR hL hl)
theorem r_getN (hC : xCtx C own cc nL0 ret rm) (hG : xGood (xGG C)) {ci N ix : Nat} {cN host : String} {T : u_T} {ty : Nat → FieldType} {a : Nat} {fs : List Value} {v : Value} (hk : xCls ci cN T N ty) (j : Nat) (hj : Nat.blt j N = true) (hq : Cond.fieldLinkNest own ix (T j).1 (T j).2.1 (T j).2.2.1 host ∈ lw_tbl) (hI : ∀ V, I V → V.2 a = some (.inr (ci, fs))) (hv : fs[j]? = some v) (hd : decode cc pc = .ok (.getfield ix, 3)) (pc1 : Nat) (hp : pc + 3 = pc1) (kk : rn C I k n pc1 lv (v :: st)) : rn C I k n pc lv (.ref a :: st) := by
  subst hp
  obtain ⟨p, l, e, R, s, m, args, below, meth, c, G, nL, Q, X⟩ := C
  obtain ⟨hx, hb, hml, hnL, hown, hts, hK, -, -, hW0, -⟩ := hC
  intro V H locs ls hV hR hL hl
  have hj : j < N := Nat.le_of_ble_eq_true hj
  obtain ⟨cell, q1, q2, q3, q4⟩ := (hR.at (hI V hV)).obj hk
  obtain ⟨hS, hfc, kC, hkC, hkind⟩ := hK.1 ci _ hk.1
  obtain ⟨cf, kf, fi, f, hi, hsl⟩ := hS j hj
  refine va_Wgetf hx hb hown (va_Nw.use rfl (va_Nw.warmF hW0 (xT hG rfl hq))) hi (u_facts hfc hkC (u_lays hts hk.2.2.1 hj) hi).1 q1 (by rw [q3]; exact fun h => by cases h) (v := v) ?_ rfl rfl hd (kk V H locs ls hV hR hL hl)
  rw [hsl, q4 j hj]
  simp [vp_V, hv]
theorem r_putN (hC : xCtx C own cc nL0 ret rm) (hG : xGood (xGG C)) {J : xV → Prop} {ci N ix : Nat} {cN host : String} {T : u_T} {ty : Nat → FieldType} {a : Nat} {fs : List Value} {v : Value} (hk : xCls ci cN T N ty) (j : Nat) (hj : Nat.blt j N = true) (hq : Cond.fieldLinkNest own ix (T j).1 (T j).2.1 (T j).2.2.1 host ∈ lw_tbl) (hfin : (T j).2.2.2 = false) (hI : ∀ V, I V → V.2 a = some (.inr (ci, fs))) (hl9 : j < fs.length) (hn : narrow (ty j) v = v) (hfit : fits (ty j) v = true) (hd : decode cc pc = .ok (.putfield ix, 3)) (hJ : ∀ V, I V → J (xset V a (.inr (ci, fs.set j v)))) (pc1 : Nat) (hp : pc + 3 = pc1) (kk : rn C J k n pc1 lv st) : rn C I k n pc lv (v :: .ref a :: st) := by
  subst hp
  obtain ⟨p, l, e, R, s, m, args, below, meth, c, G, nL, Q, X⟩ := C
  obtain ⟨hx, hb, hml, hnL, hown, hts, hK, -, -, hW0, -⟩ := hC
  intro V H locs ls hV hR hL hl
  have hj : j < N := Nat.le_of_ble_eq_true hj
  have hap := va_apart (own := own) hts hk.2.2.1 ty hk.2.2.2.1 hk.2.2.2.2 hK hk.1
  obtain ⟨cell, q1, q2, q3, q4⟩ := (hR.at (hI V hV)).obj hk
  obtain ⟨hS, hfc, kC, hkC, hkind⟩ := hK.1 ci _ hk.1
  obtain ⟨cf, kf, fi, f, hi, hsl⟩ := hS j hj
  have hlay := hts _ (hk.2.2.1 _ (u_in_lay hj))
  unfold u_lay at hlay
  rw [if_neg (by rw [hfin]; decide)] at hlay
  have hst := (u_facts hfc hkC (u_lays hts hk.2.2.1 hj) hi).1
  have h6 := u_store hfc hkC hkind hlay hi (hk.2.2.2.1 j hj) hn hfit
  refine va_WputK hx hb (f := f) hown (va_Nw.use rfl (va_Nw.warmF hW0 (xT hG rfl hq))) hi hst (by rw [q2]; exact h6) q1 q3 (by rw [hsl]; exact k2_hasslot (q4 j hj)) rfl rfl hd fun H' e1 e2 e3 => ?_
  rw [hsl] at e1
  refine kk _ H' _ ls (hJ V hV) (hR.set (hI V hV) e2 e3 (xat.ofObj hk (t_OB.to (V := updV (vp_V fs) j v) ⟨_, e1, q2, q3, t_set q4 hap hj v⟩ (fun i _ => vp_updV_set hl9 v i)))) (fun q hq => ?_) hl
  rcases List.mem_append.mp hq with h1 | h1
  · exact hL q h1
  · rw [List.mem_singleton.mp h1]; exact (hR.2.2.2 _ _ (hI V hV)).1
/-! arrays of references -/
theorem r_aald (hC : xCtx C own cc nL0 ret rm) {a t N : Nat} {ty : FieldType} {f : Nat → Option Nat} {i : Int32} (j : Nat) (hi : xix i N j) (ht : vwAr[t]? = some ty) (hty : ty.isReference = true) (hI : ∀ V, I V → V.2 a = some (.inl (t, N, .inr (.inr (.inr (.inr f)))))) (o : Option Nat) (hv : f j = o) (hd : decode cc pc = .ok (.aaload, 1)) (pc1 : Nat) (hp : pc + 1 = pc1) (kk : rn C I k n pc1 lv (va_rf o :: st)) : rn C I k n pc lv (.int i :: .ref a :: st) := by
  subst hp
  obtain ⟨p, l, e, R, s, m, args, below, meth, c, G, nL, Q, X⟩ := C
  obtain ⟨hx, hb, hml, hnL, hown, hts, hK, -⟩ := hC
  intro V H locs ls hV hR hL hl
  have hc : H[a]? = some (vp_cell (G.2.2.1 t) (N, .inr (.inr (.inr (.inr f))))) := hR.at (hI V hV)
  obtain ⟨hin, hj⟩ := hi
  have hlt : i.toNatClampNeg < N := Nat.not_le.mp fun q => hin (Or.inr q)
  exact W.aald (v := va_rf o) (ty := ty) hx hb hc ((xtys_at hK ht).1 N (fun j => va_rf (f j))) hty (fun q => by cases q) (by show ¬ (i < 0 ∨ (arrV _ _ _).slots.size ≤ _); rw [arrV_size]; exact hin) (by show (arrV _ _ _).slots[_]? = _; rw [arrV_read _ _ hlt, hj, hv]) rfl rfl hd (kk V H locs ls hV hR hL hl)
theorem r_aastN (hC : xCtx C own cc nL0 ret rm) {J : xV → Prop} {a t N : Nat} {Cn : String} {f : Nat → Option Nat} {i : Int32} (j : Nat) (hi : xix i N j) (ht : vwAr[t]? = some (.object Cn)) (hI : ∀ V, I V → V.2 a = some (.inl (t, N, .inr (.inr (.inr (.inr f)))))) (hd : decode cc pc = .ok (.aastore, 1)) (hJ : ∀ V, I V → J (xset V a (.inl (t, N, .inr (.inr (.inr (.inr (va_up f j none)))))))) (pc1 : Nat) (hp : pc + 1 = pc1) (kk : rn C J k n pc1 lv st) : rn C I k n pc lv (.null :: .int i :: .ref a :: st) := by
  subst hp
  obtain ⟨p, l, e, R, s, m, args, below, meth, c, G, nL, Q, X⟩ := C
  obtain ⟨hx, hb, hml, hnL, hown, hts, hK, -⟩ := hC
  intro V H locs ls hV hR hL hl
  have hc : H[a]? = some (vp_cell (G.2.2.1 t) (N, .inr (.inr (.inr (.inr f))))) := hR.at (hI V hV)
  obtain ⟨hin, hj⟩ := hi
  refine va_WaastN (C := Cn) hx hb hc ((xtys_at hK ht).1 N (fun j => va_rf (f j))) (fun h => by cases h) (by show ¬ (i < 0 ∨ (arrV _ _ _).slots.size ≤ _); rw [arrV_size]; exact hin) rfl rfl hd fun H1 e1 z oq => ?_
  refine kk _ H1 _ ls (hJ V hV) (hR.set (hI V hV) z oq ?_) (fun q hq => ?_) hl
  · show H1[a]? = some (vp_cell (G.2.2.1 t) (N, _))
    rw [e1, hj]
    rw [vp_cell_q, vp_cell_q, arrV_store]
    congr 2
    funext q
    by_cases hq : q = j
    · subst hq; simp [updV, va_up, va_rf]
    · simp [updV, va_up, hq]
  · rcases List.mem_append.mp hq with h1 | h1
    · exact hL q h1
    · rw [List.mem_singleton.mp h1]; exact (hR.2.2.2 _ _ (hI V hV)).1
/-- a reference is stored: its class goes into the array's -/
theorem r_aastG (hC : xCtx C own cc nL0 ret rm) {J : xV → Prop} {a t N v : Nat} {ty : FieldType} {f : Nat → Option Nat} {i : Int32} (j : Nat) (hi : xix i N j) (ht : vwAr[t]? = some ty) (href : ty.isReference = true)
    (hfit : ∀ (s : State) (H : Heap) (V : xV), va_K (xGG C).2.1 vwCl (xtys (xGG C)) s → (xGG C).1.WarmedH s.vm → xRep (xGG C) V H → I V → ∃ (kA : Class) (comp : ClassId) (kcomp : Class) (cv : Cell) (kv : Class), s.vm.classes[(xGG C).2.2.1 t]? = some kA ∧ kA.kind = .array comp ty ∧ s.vm.classes[comp]? = some kcomp ∧ H[v]? = some cv ∧ cv.vm = .none ∧ s.vm.classes[cv.cls]? = some kv ∧ s.vm.assignable cv.cls comp = true)
    (hI : ∀ V, I V → V.2 a = some (.inl (t, N, .inr (.inr (.inr (.inr f)))))) (hd : decode cc pc = .ok (.aastore, 1)) (hJ : ∀ V, I V → J (xset V a (.inl (t, N, .inr (.inr (.inr (.inr (va_up f j (some v))))))))) (pc1 : Nat) (hp : pc + 1 = pc1) (kk : rn C J k n pc1 lv st) : rn C I k n pc lv (.ref v :: .int i :: .ref a :: st) := by
  subst hp
  obtain ⟨p, l, e, R, s, m, args, below, meth, c, G, nL, Q, X⟩ := C
  obtain ⟨hx, hb, hml, hnL, hown, hts, hK, -, -, hW0, -⟩ := hC
  intro V H locs ls hV hR hL hl
  have hc : H[a]? = some (vp_cell (G.2.2.1 t) (N, .inr (.inr (.inr (.inr f))))) := hR.at (hI V hV)
  obtain ⟨hin, hj⟩ := hi
  have hlt : i.toNatClampNeg < N := Nat.not_le.mp fun q => hin (Or.inr q)
  have h0 : ¬ i < 0 := fun q => hin (Or.inl q)
  obtain ⟨kA, comp, kcomp, cv, kv, f1, f2, f3, f4, f5, f6, f7⟩ := hfit s H V hK hW0 hR hV
  refine W.aast hx hb hc (fun q h => by cases h) (fun h => by cases h) f1 f2 href f3 ⟨h0, by show _ < (arrV _ _ _).slots.size; rw [arrV_size]; exact hlt⟩ f4 (fun q h => by rw [f5] at h; cases h) f6 f7 rfl rfl hd fun H1 e1 z oq => ?_
  refine kk _ H1 _ ls (hJ V hV) (hR.set (hI V hV) z oq ?_) (fun q hq => ?_) hl
  · show H1[a]? = some (vp_cell (G.2.2.1 t) (N, _))
    rw [e1, hj]
    rw [vp_cell_q, vp_cell_q, arrV_store]
    congr 2
    funext q
    by_cases hq : q = j
    · subst hq; simp [updV, va_up, va_rf]
    · simp [updV, va_up, hq]
  · rcases List.mem_append.mp hq with h1 | h1
    · exact hL q h1
    · rw [List.mem_singleton.mp h1]; exact (hR.2.2.2 _ _ (hI V hV)).1
/-- an object of a class that may be cast to the array's -/
theorem r_aastO (hC : xCtx C own cc nL0 ret rm) (hG : xGood (xGG C)) {J : xV → Prop} {a t N v ci N9 : Nat} {cN Cn : String} {T : u_T} {ty9 : Nat → FieldType} {f : Nat → Option Nat} {i : Int32} (hk : xCls ci cN T N9 ty9) (hcast : Cond.castable cN Cn ∈ lw_tbl) (j : Nat) (hi : xix i N j) (ht : vwAr[t]? = some (.object Cn)) (hv : ∀ V, I V → ∃ fs, V.2 v = some (.inr (ci, fs)))
    (hI : ∀ V, I V → V.2 a = some (.inl (t, N, .inr (.inr (.inr (.inr f)))))) (hd : decode cc pc = .ok (.aastore, 1)) (hJ : ∀ V, I V → J (xset V a (.inl (t, N, .inr (.inr (.inr (.inr (va_up f j (some v))))))))) (pc1 : Nat) (hp : pc + 1 = pc1) (kk : rn C J k n pc1 lv st) : rn C I k n pc lv (.ref v :: .int i :: .ref a :: st) := by
  subst hp
  refine r_aastG hC j hi ht rfl ?_ hI hd hJ _ rfl kk
  intro s H V hK hW hR hV
  obtain ⟨fs, hfs⟩ := hv V hV
  obtain ⟨cell, q1, q2, q3, -⟩ := (hR.at hfs).obj hk
  obtain ⟨kA, comp, k1, k2, k3, -⟩ := (xtys_at hK ht).2
  obtain ⟨hcl, kC, hkC, -⟩ := (hK.1 ci _ hk.1).2
  obtain ⟨c0, t0, f1, f2, f3⟩ := Cond.castable_spec (va_Nw.use (A := #[]) rfl (va_Nw.warmC hW (xT hG rfl hcast)))
  have e1 : c0 = (xGG C).2.1.1 ci := Option.some.inj (f1.symm.trans hcl)
  have e2 : t0 = comp := Option.some.inj (f2.symm.trans k3)
  subst e1 e2
  obtain ⟨kt, hkt, -⟩ := Vm.findClass_spec f2
  exact ⟨kA, _, kt, cell, kC, k1, k2, hkt, q1, q3, by rw [q2]; exact hkC, by rw [q2]; exact f3⟩
/-! casts -/
theorem r_castN (hC : xCtx C own cc nL0 ret rm) {ix : Nat} (hd : decode cc pc = .ok (.checkcast ix, 3)) (pc1 : Nat) (hp : pc + 3 = pc1) (kk : rn C I k n pc1 lv (.null :: st)) : rn C I k n pc lv (.null :: st) := by
  subst hp
  obtain ⟨p, l, e, R, s, m, args, below, meth, c, G, nL, Q, X⟩ := C
  obtain ⟨hx, hb, hml, hnL, hown, hts, -⟩ := hC
  intro V H locs ls hI hR hL hl
  exact lv_castN hx hb hd (kk V H locs ls hI hR hL hl)
theorem r_instN (hC : xCtx C own cc nL0 ret rm) {ix : Nat} (hd : decode cc pc = .ok (.instanceof ix, 3)) (pc1 : Nat) (hp : pc + 3 = pc1) (kk : rn C I k n pc1 lv (.int 0 :: st)) : rn C I k n pc lv (.null :: st) := by
  subst hp
  obtain ⟨p, l, e, R, s, m, args, below, meth, c, G, nL, Q, X⟩ := C
  obtain ⟨hx, hb, hml, hnL, hown, hts, -⟩ := hC
  intro V H locs ls hI hR hL hl
  exact lv_instN hx hb hd (kk V H locs ls hI hR hL hl)
theorem xRecv {G : xG} {s : State} {V : xV} {H : Heap} {ci N a : Nat} {cN : String} {T : u_T} {ty : Nat → FieldType} {fs : List Value} (hK : va_K G.2.1 vwCl (xtys G) s) (hk : xCls ci cN T N ty) (hR : xRep G V H) (ha : V.2 a = some (.inr (ci, fs))) : ∃ cell : Cell, H[a]? = some cell ∧ cell.vm.isStatics = false ∧ s.vm.findClass cN = some cell.cls := by
  obtain ⟨cell, q1, q2, q3, -⟩ := (hR.at ha).obj hk
  exact ⟨cell, q1, by rw [q3]; rfl, by rw [q2]; exact (hK.1 ci _ hk.1).2.1⟩
theorem r_castY (hC : xCtx C own cc nL0 ret rm) (hG : xGood (xGG C)) {ix a ci N : Nat} {cN nm : String} {T : u_T} {ty : Nat → FieldType} (hk : xCls ci cN T N ty) (hlink : Cond.classLink own ix nm ∈ lw_all) (hcast : Cond.castable cN nm ∈ lw_tbl) (hI : ∀ V, I V → ∃ fs, V.2 a = some (.inr (ci, fs))) (hd : decode cc pc = .ok (.checkcast ix, 3)) (pc1 : Nat) (hp : pc + 3 = pc1) (kk : rn C I k n pc1 lv (.ref a :: st)) : rn C I k n pc lv (.ref a :: st) := by
  subst hp
  obtain ⟨p, l, e, R, s, m, args, below, meth, c, G, nL, Q, X⟩ := C
  obtain ⟨hx, hb, hml, hnL, hown, hts, hK, -, -, hW0, -⟩ := hC
  intro V H locs ls hV hR hL hl
  obtain ⟨fs, hfs⟩ := hI V hV
  exact va_castY hx hb hown (hts _ hlink) (va_Nw.warmC hW0 (xT hG rfl hcast)) (xRecv hK hk hR hfs) hd (kk V H locs ls hV hR hL hl)
theorem r_castS (hC : xCtx C own cc nL0 ret rm) {ix a ci N : Nat} {cN : String} {T : u_T} {ty : Nat → FieldType} (hk : xCls ci cN T N ty) (hlink : Cond.classLink own ix cN ∈ lw_all) (hI : ∀ V, I V → ∃ fs, V.2 a = some (.inr (ci, fs))) (hd : decode cc pc = .ok (.checkcast ix, 3)) (pc1 : Nat) (hp : pc + 3 = pc1) (kk : rn C I k n pc1 lv (.ref a :: st)) : rn C I k n pc lv (.ref a :: st) := by
  subst hp
  obtain ⟨p, l, e, R, s, m, args, below, meth, c, G, nL, Q, X⟩ := C
  obtain ⟨hx, hb, hml, hnL, hown, hts, hK, -⟩ := hC
  intro V H locs ls hV hR hL hl
  obtain ⟨fs, hfs⟩ := hI V hV
  exact va_castS hx hb hown (hts _ hlink) (hK.1 ci _ hk.1).2 (xRecv hK hk hR hfs) hd (kk V H locs ls hV hR hL hl)
theorem r_instY (hC : xCtx C own cc nL0 ret rm) (hG : xGood (xGG C)) {ix a ci N : Nat} {cN nm : String} {T : u_T} {ty : Nat → FieldType} (hk : xCls ci cN T N ty) (hlink : Cond.classLink own ix nm ∈ lw_all) (hcast : Cond.castable cN nm ∈ lw_tbl) (hI : ∀ V, I V → ∃ fs, V.2 a = some (.inr (ci, fs))) (hd : decode cc pc = .ok (.instanceof ix, 3)) (pc1 : Nat) (hp : pc + 3 = pc1) (kk : rn C I k n pc1 lv (.int 1 :: st)) : rn C I k n pc lv (.ref a :: st) := by
  subst hp
  obtain ⟨p, l, e, R, s, m, args, below, meth, c, G, nL, Q, X⟩ := C
  obtain ⟨hx, hb, hml, hnL, hown, hts, hK, -, -, hW0, -⟩ := hC
  intro V H locs ls hV hR hL hl
  obtain ⟨fs, hfs⟩ := hI V hV
  exact va_instY hx hb hown (hts _ hlink) (va_Nw.warmC hW0 (xT hG rfl hcast)) (xRecv hK hk hR hfs) hd (kk V H locs ls hV hR hL hl)
theorem r_instS (hC : xCtx C own cc nL0 ret rm) {ix a ci N : Nat} {cN : String} {T : u_T} {ty : Nat → FieldType} (hk : xCls ci cN T N ty) (hlink : Cond.classLink own ix cN ∈ lw_all) (hI : ∀ V, I V → ∃ fs, V.2 a = some (.inr (ci, fs))) (hd : decode cc pc = .ok (.instanceof ix, 3)) (pc1 : Nat) (hp : pc + 3 = pc1) (kk : rn C I k n pc1 lv (.int 1 :: st)) : rn C I k n pc lv (.ref a :: st) := by
  subst hp
  obtain ⟨p, l, e, R, s, m, args, below, meth, c, G, nL, Q, X⟩ := C
  obtain ⟨hx, hb, hml, hnL, hown, hts, hK, -⟩ := hC
  intro V H locs ls hV hR hL hl
  obtain ⟨fs, hfs⟩ := hI V hV
  exact va_instS hx hb hown (hts _ hlink) (hK.1 ci _ hk.1).2 (xRecv hK hk hR hfs) hd (kk V H locs ls hV hR hL hl)
end XN
