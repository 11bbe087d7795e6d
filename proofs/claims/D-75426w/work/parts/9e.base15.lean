/-! ===== exceptions made by a constructor without arguments ===== -/
set_option maxRecDepth 100000
theorem zx_U {G : xG} (hG : xGood G) : vx_Zq Bundle.tN "UNASSIGNED_STACK" Bundle.steD (xA G) G.1 G.1.heap := by
  obtain ⟨-, b, ht, hn, -⟩ := hG
  replace hn := flat_of_before _ hn
  exact vx_Zqof (ht _ q367) (ht _ (lw_sub q104)) (hn _ (nr_at 16 rfl)) (fun a h => Nat.not_le.mpr h)
theorem zx_S {G : xG} (hG : xGood G) : vx_Zq Bundle.tN "SUPPRESSED_SENTINEL" Bundle.listD (xA G) G.1 G.1.heap := by
  obtain ⟨-, b, ht, hn, -⟩ := hG
  replace hn := flat_of_before _ hn
  exact vx_Zqof (ht _ q369) (ht _ (lw_sub q104)) (hn _ (nr_at 17 rfl)) (fun a h => Nat.not_le.mpr h)
def exW (s : State) (args : Array Value) : List Cond → Prop
  | [] => True
  | w :: r => (vx_no w = true → w.before args s = true) ∧ exW s args r
theorem exW_at {s : State} {args : Array Value} : ∀ {L : List Cond}, exW s args L → ∀ w ∈ L, vx_no w = true → w.before args s = true := by
  intro L
  induction L with
  | nil => intro _ w h; cases h
  | cons a L ih =>
    intro h w hw hn
    rcases List.mem_cons.mp hw with rfl | hw
    · exact h.1 hn
    · exact ih h.2 w hw hn
/-- all that making an exception asks of the tables -/
def exA (G : xG) (own : String) (ic : Nat) (X : String) (names : List String) : Prop := ∀ (s : State) (args : Array Value), G.1.WarmedH s.vm → exW s args (Bundle.ownAtoms0 own ic X names)
section XE
variable {C : xC} {I : xV → Prop} {k n pc : Nat} {lv lv' : List (Nat × Value)} {st stk : List Value} {own : String} {cc : ByteArray} {nL0 : Nat} {ret : Option FieldType} {rm : Room}
theorem r_make0 (hC : xCtx C own cc nL0 ret rm) (hG : xGood (xGG C)) (hst9 : (xL C).stackTraces = false) {J : Nat → xV → Prop} {ci ik ic : Nat} {cls : String} {names : List String} {T0 : u_T} {ty0 : Nat → FieldType} (hcls : xCls ci cls T0 0 ty0) (hfit : Bundle.fit cls = true) (hfits : ∀ n ∈ names, Bundle.fit n = true) (hcl : Cond.classLink own ik cls ∈ lw_all) (hini : Cond.initialized cls ∈ lw_all) (hat : exA (xGG C) own ic cls names)
    (hf : names.length + 3 < rm.frames) (hlo : 8 + (13 * (names.length + 1) + 42) ≤ rm.locals) (h8 : (st.map fun v => v.category).sum ≤ 8) (hk1 : k + 1 ≤ rm.cells) (hn1 : n + 6 ≤ rm.slots) (d0 : decode cc pc = .ok (.new ik, 3)) (d3 : decode cc (pc + 3) = .ok (.dup, 1)) (d4 : decode cc (pc + 4) = .ok (.invokespecial ic, 3))
    (hJ : ∀ V, I V → J V.1 (xpush V (.inr (ci, [])))) (kk : ∀ q, rn C (J q) (k + 1) (n + 6) (pc + 7) lv (.ref q :: st)) : rn C I k n pc lv st := by
  have hZU := zx_U hG
  have hZS := zx_S hG
  obtain ⟨p, l, e, R, s, m, args, below, meth, c, G, nL, Q, X⟩ := C
  obtain ⟨hx, hb, hml, hnL, hown, hts, hK, hr, hlocks, hW0, hRm, hsz⟩ := hC
  intro V0 H locs ls hV hR hL hl T hT X
  subst hT
  have hl9 : l.stackTraces = false := hst9
  have htr : e.platform.stackTraces = false := (show e.platform.stackTraces = l.stackTraces by rw [X.admits.platform]).trans hl9
  have Y := vx_rebase X (R' := { frames := R.frames, locals := R.locals, cells := 1, slots := 6 }) (Nat.le_refl _) (Nat.le_refl _) (by rw [hRm]; exact hk1) (by rw [hRm]; exact hn1)
  obtain ⟨s', hA'⟩ : ∃ z, z = (T.setVm s.vm).setFrames (.invoking m args :: below) := ⟨_, rfl⟩
  rw [← hA'] at Y
  have hvm : s'.vm = s.vm := by rw [hA']; rfl
  have hhp : s'.heap = T.heap := by rw [hA']; rfl
  have hWs : G.1.WarmedH s'.vm := by rw [hvm]; exact hW0
  have hU' : vx_Zq Bundle.tN "UNASSIGNED_STACK" Bundle.steD (xA G) s' s'.heap := by rw [hhp]; exact vx_Zq.moved hWs.alike (hZU.kept (fun a h _ => hR.2.2.1 a h))
  have hN' : vx_Zq Bundle.tN "SUPPRESSED_SENTINEL" Bundle.listD (xA G) s' s'.heap := by rw [hhp]; exact vx_Zq.moved hWs.alike (hZS.kept (fun a h _ => hR.2.2.1 a h))
  have h : ∀ w ∈ Bundle.ownAtoms0 own ic cls names, w.before args s' = true := vx_own (fun w hw => exW_at (hat s' args hWs) w (List.mem_filter.mp hw).1 (List.mem_filter.mp hw).2) (vx_isRefq hU'.1) (vx_isRefq hN'.1) hU'.2.word hN'.2.word
  have hown' : s'.vm.findClass own = some m.cls := by rw [hvm]; exact hown
  have hins : (Cond.instantiable cls 6).before args s' = true := h _ (by simp [Bundle.ownAtoms0])
  have hts' : ∀ w ∈ lw_all, w.before args s' = true := xWords (G := G) hG hWs
  obtain ⟨vm₁, cX, kX, hfX, hkX, -, -, X₁, st1⟩ := Y.newCold hx (own := own) (C := cls) (index := ik) (n := 6) hown' (hts' _ hcl) hins (hts' _ hini)
    (g := F0 m pc ls st) rfl (by rw [hb]; exact d0) (Nat.le_refl _) (Nat.le_refl _)
  generalize hT1 : (T.setVm vm₁).pushCell { cls := cX, slots := kX.instanceTypes.map defaultValue, vm := .none } = T1 at X₁ st1
  have hcat : (Value.ref T.heap.size).category = 1 := rfl
  have hcellA : T1.heap[T.heap.size]? = some (freshCell cX kX) := by rw [← hT1]; exact State.heap_pushCell_size _ _
  have d3' : decode c.code (pc + 3) = .ok (.dup, 1) := by rw [hb]; exact d3
  obtain ⟨V, ce, L, Z, hLL, hlt, hcl9, hvm9, stp⟩ := vx_ctorMade0 X₁ hx htr (own := own) (cls := cls) (names := names) (ic := ic) hown' hfit hfits h (fun x hx => nomatch hx) hfX hkX hcellA (by rw [hhp]; exact Nat.le_refl _)
    (g := { method := m, pc := pc + 4, locals := ls, stack := .ref T.heap.size :: .ref T.heap.size :: st, locked := none }) rfl (hl.1.trans hml.symm) (rest := st) rfl
    (by rw [hb]; exact d4) (by show _ < R.frames; rw [hRm]; exact hf) (by simp only [List.map_cons, List.sum_cons, hcat]; show _ ≤ R.locals; rw [hRm]; omega)
  have Z0 := Stand.forget (locs := []) Z (fun y hy => by rw [hLL y hy, hhp]; exact Nat.le_refl _)
  obtain ⟨f1, f2⟩ := vx_frame Z0.same
  rw [hhp] at f1 f2
  have hcid : ce.cls = G.2.1.1 ci := by
    rw [hcl9]
    have h1 := (hK.1 ci _ hcls.1).2.1
    rw [hvm] at hfX
    exact Option.some.inj (hfX.symm.trans h1)
  have hh : (V.setCell T.heap.size ce).heap[T.heap.size]? = some ce := heapAt_setCell_self (s := V) ce hlt
  have hlt2 : T.heap.size < (V.setCell T.heap.size ce).heap.size := (Array.getElem?_eq_some_iff.mp hh).1
  have hub : (V.setCell T.heap.size ce).heap.size ≤ T.heap.size + 1 := by
    have h9 := Z0.same
    obtain ⟨-, q2, q3, q4, q5, q6⟩ := h9
    rw [hhp] at q3 q4 q5 q6
    first | exact q3 | exact q4 | exact q5 | exact q6
  subst hA'
  have X5 := vx_back9 X Y Z0
  have X6 : Stand p l e R s m args below meth c (V.setCell T.heap.size ce) locs (k + 1) (n + 6) := { X5 with same := X5.same.mono (by omega) (by omega) }
  have hz : (V.setCell T.heap.size ce).heap.size = V0.1 + 1 := by rw [← hR.1]; omega
  obtain ⟨t, a1, b1⟩ := kk V0.1 (xpush V0 (.inr (ci, []))) (V.setCell T.heap.size ce).heap locs ls (hJ V0 hV) (hR.push hz (fun q hq => f2 q (by rw [hR.1]; exact hq) (fun z hz => nomatch hz)) (xat.ofObj hcls ⟨ce, by rw [← hR.1]; exact hh, hcid, hvm9, fun k hk => absurd hk (Nat.not_lt_zero k)⟩)) hL hl _ rfl X6
  rw [← hR.1] at a1
  refine ⟨t, st1 _ ?_, b1⟩
  show Steps p.tables e below (T1.setTop { method := m, pc := pc + 3, locals := ls, stack := .ref T.heap.size :: st, locked := none }) _
  jvm_step X₁.here [X₁.here.top, hx, d3', Value.category]
  exact stp _ a1
end XE
theorem ex_17 {G : xG} (hG : xGood G) : exA G "ThreeBodies" 3 "java/util/NoSuchElementException" ["java/lang/RuntimeException", "java/lang/Exception"] := by
  intro s args hW
  refine And.intro (fun _ => xWords hG hW _ q104) ?_
  refine And.intro (fun _ => xWords hG hW _ q362) ?_
  refine And.intro (fun _ => xWords hG hW _ q371) ?_
  refine And.intro (fun _ => xWords hG hW _ q380) ?_
  refine And.intro (fun _ => xWords hG hW _ q383) ?_
  refine And.intro (fun _ => xWords hG hW _ q385) ?_
  refine And.intro (fun _ => xWords hG hW _ q363) ?_
  refine And.intro (fun _ => xWords hG hW _ q364) ?_
  refine And.intro (fun _ => xWords hG hW _ q159) ?_
  refine And.intro (fun _ => xWords hG hW _ q160) ?_
  refine And.intro (fun _ => xWords hG hW _ q365) ?_
  refine And.intro (fun _ => xWords hG hW _ q370) ?_
  refine And.intro (fun _ => xWords hG hW _ q381) ?_
  refine And.intro (fun _ => xWords hG hW _ q397) ?_
  refine And.intro (fun _ => xWords hG hW _ q352) ?_
  refine And.intro (fun _ => xWords hG hW _ q398) ?_
  refine And.intro (fun _ => xWords hG hW _ q354) ?_
  refine And.intro (fun _ => xWords hG hW _ q399) ?_
  refine And.intro (fun _ => xWords hG hW _ q356) ?_
  refine And.intro (fun _ => xWords hG hW _ q366) ?_
  refine And.intro (fun h => absurd h (by decide)) ?_
  refine And.intro (fun _ => xWords hG hW _ q368) ?_
  refine And.intro (fun h => absurd h (by decide)) ?_
  refine And.intro (fun _ => xWords hG hW _ q358) ?_
  refine And.intro (fun _ => xWords hG hW _ q649) ?_
  refine And.intro (fun _ => xWords hG hW _ q650) ?_
  refine And.intro (fun _ => xWords hG hW _ q651) ?_
  refine And.intro (fun _ => xWords hG hW _ q652) ?_
  refine And.intro (fun _ => va_Nw.use rfl (va_Nw.warmD hW (xT hG rfl q640))) ?_
  refine And.intro (fun _ => xWords hG hW _ q652) ?_
  refine And.intro (fun _ => xWords hG hW _ q653) ?_
  refine And.intro (fun _ => xWords hG hW _ q654) ?_
  refine And.intro (fun _ => xWords hG hW _ q655) ?_
  refine And.intro (fun _ => va_Nw.use rfl (va_Nw.warmD hW (xT hG rfl q345))) ?_
  refine And.intro (fun _ => xWords hG hW _ q655) ?_
  refine And.intro (fun _ => xWords hG hW _ q656) ?_
  refine And.intro (fun _ => xWords hG hW _ q657) ?_
  refine And.intro (fun _ => xWords hG hW _ q363) ?_
  refine And.intro (fun _ => va_Nw.use rfl (va_Nw.warmD hW (xT hG rfl q347))) ?_
  refine And.intro (fun _ => xWords hG hW _ q1501) ?_
  refine And.intro (fun _ => xWords hG hW _ q638) ?_
  refine And.intro (fun _ => va_Nw.use rfl (va_Nw.warmC hW (xT hG rfl q639))) ?_
  refine And.intro (fun _ => xWords hG hW _ q642) ?_
  refine And.intro (fun _ => xWords hG hW _ q379) ?_
  refine And.intro (fun _ => xWords hG hW _ q643) ?_
  refine And.intro (fun _ => xWords hG hW _ q644) ?_
  refine And.intro (fun _ => xWords hG hW _ q645) ?_
  refine And.intro (fun _ => xWords hG hW _ q646) ?_
  refine And.intro (fun h => absurd h (by decide)) ?_
  refine And.intro (fun h => absurd h (by decide)) ?_
  refine And.intro (fun _ => xWords hG hW _ q395) ?_
  refine And.intro (fun _ => xWords hG hW _ q360) ?_
  refine And.intro (fun _ => xWords hG hW _ q647) ?_
  exact trivial
theorem ex_10 {G : xG} (hG : xGood G) : exA G "ThreeBodies" 9 "java/lang/IllegalArgumentException" ["java/lang/RuntimeException", "java/lang/Exception"] := by
  intro s args hW
  refine And.intro (fun _ => xWords hG hW _ q104) ?_
  refine And.intro (fun _ => xWords hG hW _ q362) ?_
  refine And.intro (fun _ => xWords hG hW _ q371) ?_
  refine And.intro (fun _ => xWords hG hW _ q380) ?_
  refine And.intro (fun _ => xWords hG hW _ q383) ?_
  refine And.intro (fun _ => xWords hG hW _ q385) ?_
  refine And.intro (fun _ => xWords hG hW _ q363) ?_
  refine And.intro (fun _ => xWords hG hW _ q364) ?_
  refine And.intro (fun _ => xWords hG hW _ q159) ?_
  refine And.intro (fun _ => xWords hG hW _ q160) ?_
  refine And.intro (fun _ => xWords hG hW _ q365) ?_
  refine And.intro (fun _ => xWords hG hW _ q370) ?_
  refine And.intro (fun _ => xWords hG hW _ q381) ?_
  refine And.intro (fun _ => xWords hG hW _ q397) ?_
  refine And.intro (fun _ => xWords hG hW _ q352) ?_
  refine And.intro (fun _ => xWords hG hW _ q398) ?_
  refine And.intro (fun _ => xWords hG hW _ q354) ?_
  refine And.intro (fun _ => xWords hG hW _ q399) ?_
  refine And.intro (fun _ => xWords hG hW _ q356) ?_
  refine And.intro (fun _ => xWords hG hW _ q366) ?_
  refine And.intro (fun h => absurd h (by decide)) ?_
  refine And.intro (fun _ => xWords hG hW _ q368) ?_
  refine And.intro (fun h => absurd h (by decide)) ?_
  refine And.intro (fun _ => xWords hG hW _ q358) ?_
  refine And.intro (fun _ => xWords hG hW _ q961) ?_
  refine And.intro (fun _ => xWords hG hW _ q962) ?_
  refine And.intro (fun _ => xWords hG hW _ q963) ?_
  refine And.intro (fun _ => xWords hG hW _ q652) ?_
  refine And.intro (fun _ => va_Nw.use rfl (va_Nw.warmD hW (xT hG rfl q640))) ?_
  refine And.intro (fun _ => xWords hG hW _ q652) ?_
  refine And.intro (fun _ => xWords hG hW _ q653) ?_
  refine And.intro (fun _ => xWords hG hW _ q654) ?_
  refine And.intro (fun _ => xWords hG hW _ q655) ?_
  refine And.intro (fun _ => va_Nw.use rfl (va_Nw.warmD hW (xT hG rfl q345))) ?_
  refine And.intro (fun _ => xWords hG hW _ q655) ?_
  refine And.intro (fun _ => xWords hG hW _ q656) ?_
  refine And.intro (fun _ => xWords hG hW _ q657) ?_
  refine And.intro (fun _ => xWords hG hW _ q363) ?_
  refine And.intro (fun _ => va_Nw.use rfl (va_Nw.warmD hW (xT hG rfl q347))) ?_
  refine And.intro (fun _ => xWords hG hW _ q960) ?_
  refine And.intro (fun _ => xWords hG hW _ q952) ?_
  refine And.intro (fun _ => va_Nw.use rfl (va_Nw.warmC hW (xT hG rfl q953))) ?_
  refine And.intro (fun _ => xWords hG hW _ q954) ?_
  refine And.intro (fun _ => xWords hG hW _ q378) ?_
  refine And.intro (fun _ => xWords hG hW _ q955) ?_
  refine And.intro (fun _ => xWords hG hW _ q956) ?_
  refine And.intro (fun _ => xWords hG hW _ q957) ?_
  refine And.intro (fun _ => xWords hG hW _ q958) ?_
  refine And.intro (fun h => absurd h (by decide)) ?_
  refine And.intro (fun h => absurd h (by decide)) ?_
  refine And.intro (fun _ => xWords hG hW _ q395) ?_
  refine And.intro (fun _ => xWords hG hW _ q360) ?_
  refine And.intro (fun _ => xWords hG hW _ q959) ?_
  exact trivial
