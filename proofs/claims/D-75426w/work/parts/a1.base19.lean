/-! ===== a store of nodes at the world's end ===== -/
set_option maxRecDepth 100000
def stW (L : List Nat) (c : Nat → xE) : xW := L.map (fun a => (a, c a))
/-- a node of a map: class 27 a tree's, 26 a list's -/
def ndX (kd : Nat → Bool) (hs : Nat → Int32) (ky vl : Nat → Nat) (nx bf af pa lf rt pv : Nat → Option Nat) (rd : Nat → Int32) (a : Nat) : xE := if kd a = true then .inr (27, [.int (hs a), .ref (ky a), .ref (vl a), va_rf (nx a), va_rf (bf a), va_rf (af a), va_rf (pa a), va_rf (lf a), va_rf (rt a), va_rf (pv a), .int (rd a)]) else .inr (26, [.int (hs a), .ref (ky a), .ref (vl a), va_rf (nx a), va_rf (bf a), va_rf (af a)])
theorem xSt.mem {F : Nat → Prop} {V0 V : xV} {ws : xW} (h : xSt F V0 ws V) {a : Nat} {e : xE} (hm : (a, e) ∈ ws) : V.2 a = some e := by
  obtain ⟨i, hi⟩ := List.mem_iff_getElem?.mp hm
  exact (h.1 i _ hi).1
theorem xIn.mem {V : xV} {ws : xW} (h : xIn ws V) {a : Nat} {e : xE} (hm : (a, e) ∈ ws) : V.2 a = some e := by
  obtain ⟨i, hi⟩ := List.mem_iff_getElem?.mp hm
  exact (h.1 i _ hi).1
theorem xSt.lt_mem {F : Nat → Prop} {V0 V : xV} {ws : xW} (h : xSt F V0 ws V) {a : Nat} {e : xE} (hm : (a, e) ∈ ws) : a < V.1 := by
  obtain ⟨i, hi⟩ := List.mem_iff_getElem?.mp hm
  exact (h.1 i _ hi).2.1
theorem stW_mem {L : List Nat} {c : Nat → xE} {a : Nat} (ha : a ∈ L) : (a, c a) ∈ stW L c := List.mem_map.mpr ⟨a, ha, rfl⟩
theorem stW_get {F : Nat → Prop} {V0 V : xV} {ws : xW} {L : List Nat} {c : Nat → xE} (h : xSt F V0 (ws ++ stW L c) V) {a : Nat} (ha : a ∈ L) {e : xE} (he : c a = e) : V.2 a = some e := by
  rw [← he]
  exact h.mem (List.mem_append_right _ (stW_mem ha))
theorem stW_at {L : List Nat} {c : Nat → xE} {i : Nat} : (stW L c)[i]? = (L[i]?).map (fun a => (a, c a)) := List.getElem?_map
theorem stW_set {F : Nat → Prop} {V0 V : xV} {ws : xW} {L : List Nat} {c c' : Nat → xE} (h : xSt F V0 (ws ++ stW L c) V) {a : Nat} (ha : a ∈ L) {e' : xE} (hc : c' = va_up c a e') : xSt F V0 (ws ++ stW L c') (xset V a e') := by
  subst hc
  obtain ⟨i, hi⟩ := List.mem_iff_getElem?.mp ha
  have hw : (ws ++ stW L c)[ws.length + i]? = some (a, c a) := by
    rw [List.getElem?_append_right (by omega), Nat.add_sub_cancel_left, stW_at, hi]; rfl
  have h9 := h.set (ws.length + i) e' hw
  have he : (ws ++ stW L c).set (ws.length + i) (a, e') = ws ++ stW L (va_up c a e') := by
    apply List.ext_getElem?
    intro j
    by_cases hj : j < ws.length
    · rw [List.getElem?_set_ne (by omega), List.getElem?_append_left hj, List.getElem?_append_left hj]
    · by_cases hji : ws.length + i = j
      · subst hji
        rw [List.getElem?_set_self (List.getElem?_eq_some_iff.mp hw).1, List.getElem?_append_right (by omega), Nat.add_sub_cancel_left, stW_at, hi]
        show _ = some (a, va_up c a e' a)
        rw [show va_up c a e' a = e' from if_pos rfl]
      · rw [List.getElem?_set_ne hji, List.getElem?_append_right (by omega), List.getElem?_append_right (by omega), stW_at, stW_at]
        cases hb : L[j - ws.length]? with
        | none => rfl
        | some b =>
          have hw2 : (ws ++ stW L c)[j]? = some (b, c b) := by rw [List.getElem?_append_right (by omega), stW_at, hb]; rfl
          have hne : b ≠ a := fun q => hji (h.2.1 _ _ _ _ hw hw2 q.symm)
          show some (b, c b) = some (b, va_up c a e' b)
          rw [show va_up c a e' b = c b from if_neg hne]
  rw [he] at h9
  exact h9
theorem stW_congr {L : List Nat} {c c' : Nat → xE} (h : ∀ a, a ∈ L → c' a = c a) : stW L c' = stW L c := List.map_congr_left (fun a ha => by rw [h a ha])
/-- a cell is taken into the store -/
theorem stW_abs {F : Nat → Prop} {V0 V : xV} {ws : xW} {L : List Nat} {c c' : Nat → xE} {q : Nat} {e : xE} (h : xSt F V0 ((ws ++ [(q, e)]) ++ stW L c) V) (hq : c' q = e) (hc : ∀ a, a ∈ L → c' a = c a) : xSt F V0 (ws ++ stW (L ++ [q]) c') V := by
  refine h.perm ?_
  have h1 : stW (L ++ [q]) c' = stW L c ++ [(q, e)] := by
    unfold stW
    rw [List.map_append]
    congr 1
    · exact List.map_congr_left (fun a ha => by rw [hc a ha])
    · show [(q, c' q)] = _; rw [hq]
  rw [h1, List.append_assoc]
  exact List.Perm.append_left ws List.perm_append_comm
theorem stW_nin {F : Nat → Prop} {V0 V : xV} {ws : xW} {L : List Nat} {c : Nat → xE} {q : Nat} {e : xE} (h : xSt F V0 (ws ++ stW L c) V) (hm : (q, e) ∈ ws) : q ∉ L := by
  intro hq
  obtain ⟨i, hi⟩ := List.mem_iff_getElem?.mp hm
  obtain ⟨j, hj⟩ := List.mem_iff_getElem?.mp hq
  have hl := (List.getElem?_eq_some_iff.mp hi).1
  have h1 : (ws ++ stW L c)[i]? = some (q, e) := by rw [List.getElem?_append_left hl]; exact hi
  have h2 : (ws ++ stW L c)[ws.length + j]? = some (q, c q) := by rw [List.getElem?_append_right (by omega), Nat.add_sub_cancel_left, stW_at, hj]; rfl
  have := h.2.1 _ _ _ _ h1 h2 rfl
  omega
theorem stW_nd {F : Nat → Prop} {V0 V : xV} {ws : xW} {L : List Nat} {c : Nat → xE} (h : xSt F V0 (ws ++ stW L c) V) : L.Nodup := by
  rw [List.nodup_iff_pairwise_ne, List.pairwise_iff_getElem]
  intro i j hi hj hij e
  have h1 : (ws ++ stW L c)[ws.length + i]? = some (L[i], c L[i]) := by rw [List.getElem?_append_right (by omega), Nat.add_sub_cancel_left, stW_at, List.getElem?_eq_getElem hi]; rfl
  have h2 : (ws ++ stW L c)[ws.length + j]? = some (L[j], c L[j]) := by rw [List.getElem?_append_right (by omega), Nat.add_sub_cancel_left, stW_at, List.getElem?_eq_getElem hj]; rfl
  have := h.2.1 _ _ _ _ h1 h2 e
  omega
/-- the store's order doesn't matter -/
theorem stW_perm {F : Nat → Prop} {V0 V : xV} {ws : xW} {L L' : List Nat} {c : Nat → xE} (h : xSt F V0 (ws ++ stW L c) V) (hp : L.Perm L') : xSt F V0 (ws ++ stW L' c) V := h.perm (List.Perm.append_left ws (hp.map _))
/-- nodes are dropped -/
theorem stW_drop {F : Nat → Prop} {V0 V : xV} {ws : xW} {L L' R : List Nat} {c : Nat → xE} (h : xSt F V0 (ws ++ stW L c) V) (hp : L.Perm (R ++ L')) : xSt F V0 (ws ++ stW L' c) V := by
  refine xSt.nilT (wc := stW R c) (h.perm ?_)
  have h1 : stW (R ++ L') c = stW R c ++ stW L' c := List.map_append
  refine (List.Perm.append_left ws (hp.map _)).trans ?_
  show (ws ++ stW (R ++ L') c).Perm _
  rw [h1, ← List.append_assoc, ← List.append_assoc]
  exact List.Perm.append_right _ List.perm_append_comm
theorem xIn.cut {V : xV} {ws wcx wr tl : xW} (h : xIn (ws ++ tl) V) (isC isR : List Nat) (n9 : Nat) (hl : ws.length = n9) (hC : isC.map (fun i => ws[i]?) = wcx.map some) (hR : isR.map (fun i => ws[i]?) = wr.map some) (hp : (isC ++ isR).isPerm (List.range n9) = true) : xIn (wcx ++ tl) V := by
  refine (h.perm (ws' := (wcx ++ tl) ++ wr) ?_).left
  refine (List.Perm.append_right tl (perm_ix isC isR n9 hl hC hR hp)).trans ?_
  rw [List.append_assoc, List.append_assoc]
  exact List.Perm.append_left wcx List.perm_append_comm
theorem xSt.ordT {F : Nat → Prop} {V0 V : xV} {ws wc tl : xW} (h : xSt F V0 (ws ++ tl) V) (is : List Nat) (n9 : Nat) (hl : ws.length = n9) (hC : is.map (fun i => ws[i]?) = wc.map some) (hp : (is ++ []).isPerm (List.range n9) = true) : xSt F V0 (wc ++ tl) V := by
  have h9 := perm_ix (wr := []) is [] n9 hl hC rfl hp
  rw [List.append_nil] at h9
  exact h.perm (List.Perm.append_right tl h9)
section XCT
variable {C : xC} {I : xV → Prop} {k n pc len : Nat} {lv : List (Nat × Value)} {st stk : List Value} {own : String} {cc : ByteArray} {nL0 : Nat} {ret : Option FieldType} {rm rm2 : Room}
/-- a call that takes some of the cells and the tail -/
theorem xCall.ct {F : Nat → Prop} {V0 : xV} {ws wcx wr tl : xW} {Q : Option Value → xW → Prop} {X9 : Nat → xW → Prop} (h : xCall C (xSt F V0 (ws ++ tl)) k n pc len lv stk st rm2 (fun V v V' => ∃ w', Q v w' ∧ xSt (xF (wcx ++ tl)) V w' V') (fun V q V' => ∃ w', X9 q w' ∧ xSt (xF (wcx ++ tl)) V w' V')) (isC isR : List Nat) (n9 : Nat) (hl : ws.length = n9) (hCp : isC.map (fun i => ws[i]?) = wcx.map some) (hRp : isR.map (fun i => ws[i]?) = wr.map some) (hpm : (isC ++ isR).isPerm (List.range n9) = true) (k1 n1 pc1 : Nat) (hk1 : k + rm2.cells = k1) (hn1 : n + rm2.slots = n1) (hp : pc + len = pc1)
    (kk : ∀ v w', Q v w' → rn C (xSt F V0 (wr ++ w')) k1 n1 pc1 lv (v.toList ++ st)) (kx : ∀ q w', X9 q w' → rx C (xSt F V0 (wr ++ w')) k1 n1 pc lv st q) : rn C (xSt F V0 (ws ++ tl)) k n pc lv stk := by
  refine xCall.p h ?_ k1 n1 pc1 hk1 hn1 hp kk kx
  refine (List.Perm.append_right tl (perm_ix isC isR n9 hl hCp hRp hpm)).trans ?_
  rw [List.append_assoc, List.append_assoc]
  exact List.Perm.append_left wcx List.perm_append_comm
theorem r_eqo {x y : Value} (h : x = y) (kk : rn C I k n pc lv (y :: st)) : rn C I k n pc lv (x :: st) := by rw [h]; exact kk
theorem r_getI (hC : xCtx C own cc nL0 ret rm) {ci N ix : Nat} {cN : String} {T : u_T} {ty : Nat → FieldType} {a : Nat} {fs : List Value} {v : Value} (hk : xCls ci cN T N ty) (j : Nat) (hj : Nat.blt j N = true) {ref : String} (hq : Cond.fieldLink own ix ref (T j).2.1 (T j).2.2.1 ∈ lw_all) (hsm : ref = (T j).1 ∨ Cond.sameField ref (T j).1 (T j).2.1 (T j).2.2.1 ∈ lw_all) (hI : ∀ V, I V → V.2 a = some (.inr (ci, fs))) (hv : fs[j]? = some v) (hd : decode cc pc = .ok (.getfield ix, 3)) (pc1 : Nat) (hp : pc + 3 = pc1) (kk : rn C I k n pc1 lv (v :: st)) : rn C I k n pc lv (.ref a :: st) := by
  subst hp
  obtain ⟨p, l, e, R, s, m, args, below, meth, c, G, nL, Q, X⟩ := C
  obtain ⟨hx, hb, hml, hnL, hown, hts, hK, -⟩ := hC
  intro V H locs ls hV hR hL hl
  have hj : j < N := Nat.le_of_ble_eq_true hj
  obtain ⟨cell, q1, q2, q3, q4⟩ := (hR.at (hI V hV)).obj hk
  obtain ⟨hS, hfc, kC, hkC, hkind⟩ := hK.1 ci _ hk.1
  obtain ⟨cf, kf, fi, f, hi, hsl⟩ := hS j hj
  have hi2 : s.fieldFound? ref (T j).2.1 (T j).2.2.1 = some (cf, kf, fi, f) := by
    rcases hsm with e9 | e9
    · rw [e9]; exact hi
    · exact u_same (hts _ e9) _ hi
  refine W.getf hx hb hown (hts _ hq) hi2 (u_facts hfc hkC (u_lays hts hk.2.2.1 hj) hi).1 q1 (by rw [q3]; exact fun h => by cases h) (v := v) ?_ rfl rfl hd (kk V H locs ls hV hR hL hl)
  rw [hsl, q4 j hj]
  simp [vp_V, hv]
theorem r_putI (hC : xCtx C own cc nL0 ret rm) {J : xV → Prop} {ci N ix : Nat} {cN : String} {T : u_T} {ty : Nat → FieldType} {a : Nat} {fs : List Value} {v : Value} (hk : xCls ci cN T N ty) (j : Nat) (hj : Nat.blt j N = true) {ref : String} (hq : Cond.fieldLink own ix ref (T j).2.1 (T j).2.2.1 ∈ lw_all) (hsm : ref = (T j).1 ∨ Cond.sameField ref (T j).1 (T j).2.1 (T j).2.2.1 ∈ lw_all) (hfin : (T j).2.2.2 = false) (hI : ∀ V, I V → V.2 a = some (.inr (ci, fs))) (hl9 : j < fs.length) (hn : narrow (ty j) v = v) (hfit : fits (ty j) v = true) (hd : decode cc pc = .ok (.putfield ix, 3)) (hJ : ∀ V, I V → J (xset V a (.inr (ci, fs.set j v)))) (pc1 : Nat) (hp : pc + 3 = pc1) (kk : rn C J k n pc1 lv st) : rn C I k n pc lv (v :: .ref a :: st) := by
  subst hp
  obtain ⟨p, l, e, R, s, m, args, below, meth, c, G, nL, Q, X⟩ := C
  obtain ⟨hx, hb, hml, hnL, hown, hts, hK, -⟩ := hC
  intro V H locs ls hV hR hL hl
  have hj : j < N := Nat.le_of_ble_eq_true hj
  have hap := va_apart (own := own) hts hk.2.2.1 ty hk.2.2.2.1 hk.2.2.2.2 hK hk.1
  obtain ⟨cell, q1, q2, q3, q4⟩ := (hR.at (hI V hV)).obj hk
  obtain ⟨hS, hfc, kC, hkC, hkind⟩ := hK.1 ci _ hk.1
  obtain ⟨cf, kf, fi, f, hi, hsl⟩ := hS j hj
  have hlay := hts _ (hk.2.2.1 _ (u_in_lay hj))
  unfold u_lay at hlay
  rw [if_neg (by rw [hfin]; decide)] at hlay
  have hst := (u_facts hfc hkC (u_lays hts hk.2.2.1 hj) hi).1
  have h6 := u_store hfc hkC hkind hlay hi (hk.2.2.2.1 j hj) hn hfit
  have hi2 : s.fieldFound? ref (T j).2.1 (T j).2.2.1 = some (cf, kf, fi, f) := by
    rcases hsm with e9 | e9
    · rw [e9]; exact hi
    · exact u_same (hts _ e9) _ hi
  refine W.putK hx hb (f := f) ⟨hown, hts _ hq, ⟨_, _, _, hi2⟩, hst⟩ (by rw [q2]; exact h6) q1 q3 (by rw [hsl]; exact k2_hasslot (q4 j hj)) rfl rfl hd fun H' e1 e2 e3 => ?_
  rw [hsl] at e1
  refine kk _ H' _ ls (hJ V hV) (hR.set (hI V hV) e2 e3 (xat.ofObj hk (t_OB.to (V := updV (vp_V fs) j v) ⟨_, e1, q2, q3, t_set q4 hap hj v⟩ (fun i _ => vp_updV_set hl9 v i)))) (fun q hq => ?_) hl
  rcases List.mem_append.mp hq with h1 | h1
  · exact hL q h1
  · rw [List.mem_singleton.mp h1]; exact (hR.2.2.2 _ _ (hI V hV)).1
theorem r_putX (hC : xCtx C own cc nL0 ret rm) {J : xV → Prop} {ix a : Nat} {kd : Nat → Bool} {hs : Nat → Int32} {ky vl : Nat → Nat} {nx bf af pa lf rt pv : Nat → Option Nat} {rd : Nat → Int32} {v : Value} (j : Nat) (hj6 : Nat.blt j 11 = true) (hj : Nat.blt j 6 = true) {ref : String} (hq5 : Cond.fieldLink own ix ref (TJ25 j).2.1 (TJ25 j).2.2.1 ∈ lw_all) (hq6 : Cond.fieldLink own ix ref (TJ26 j).2.1 (TJ26 j).2.2.1 ∈ lw_all) (hs5 : ref = (TJ25 j).1 ∨ Cond.sameField ref (TJ25 j).1 (TJ25 j).2.1 (TJ25 j).2.2.1 ∈ lw_all) (hs6 : ref = (TJ26 j).1 ∨ Cond.sameField ref (TJ26 j).1 (TJ26 j).2.1 (TJ26 j).2.2.1 ∈ lw_all) (hf5 : (TJ25 j).2.2.2 = false) (hf6 : (TJ26 j).2.2.2 = false)
    (hI : ∀ V, I V → V.2 a = some (ndX kd hs ky vl nx bf af pa lf rt pv rd a)) (hn5 : narrow (tyJ25 j) v = v) (hn6 : narrow (tyJ26 j) v = v) (hfit5 : fits (tyJ25 j) v = true) (hfit6 : fits (tyJ26 j) v = true) (hd : decode cc pc = .ok (.putfield ix, 3)) (hJ5 : kd a = false → ∀ V, I V → J (xset V a (.inr (26, ([.int (hs a), .ref (ky a), .ref (vl a), va_rf (nx a), va_rf (bf a), va_rf (af a)] : List Value).set j v)))) (hJ6 : kd a = true → ∀ V, I V → J (xset V a (.inr (27, ([.int (hs a), .ref (ky a), .ref (vl a), va_rf (nx a), va_rf (bf a), va_rf (af a), va_rf (pa a), va_rf (lf a), va_rf (rt a), va_rf (pv a), .int (rd a)] : List Value).set j v)))) (pc1 : Nat) (hp : pc + 3 = pc1) (kk : rn C J k n pc1 lv st) : rn C I k n pc lv (v :: .ref a :: st) := by
  have hjj : j < 6 := Nat.le_of_ble_eq_true hj
  cases hk : kd a with
  | true => exact r_putI (fs := [.int (hs a), .ref (ky a), .ref (vl a), va_rf (nx a), va_rf (bf a), va_rf (af a), va_rf (pa a), va_rf (lf a), va_rf (rt a), va_rf (pv a), .int (rd a)]) hC kJ26 j hj6 hq6 hs6 hf6 (fun V hV => (hI V hV).trans (congrArg some (if_pos hk))) (by show j < 11; omega) hn6 hfit6 hd (hJ6 hk) pc1 hp kk
  | false => exact r_putI (fs := [.int (hs a), .ref (ky a), .ref (vl a), va_rf (nx a), va_rf (bf a), va_rf (af a)]) hC kJ25 j hj hq5 hs5 hf5 (fun V hV => (hI V hV).trans (congrArg some (if_neg (by rw [hk]; decide)))) (by show j < 6; omega) hn5 hfit5 hd (hJ5 hk) pc1 hp kk
theorem r_getX (hC : xCtx C own cc nL0 ret rm) {ix a : Nat} {kd : Nat → Bool} {hs : Nat → Int32} {ky vl : Nat → Nat} {nx bf af pa lf rt pv : Nat → Option Nat} {rd : Nat → Int32} {v : Value} (j : Nat) (hj6 : Nat.blt j 11 = true) (hj : Nat.blt j 6 = true) {ref : String} (hq5 : Cond.fieldLink own ix ref (TJ25 j).2.1 (TJ25 j).2.2.1 ∈ lw_all) (hq6 : Cond.fieldLink own ix ref (TJ26 j).2.1 (TJ26 j).2.2.1 ∈ lw_all) (hs5 : ref = (TJ25 j).1 ∨ Cond.sameField ref (TJ25 j).1 (TJ25 j).2.1 (TJ25 j).2.2.1 ∈ lw_all) (hs6 : ref = (TJ26 j).1 ∨ Cond.sameField ref (TJ26 j).1 (TJ26 j).2.1 (TJ26 j).2.2.1 ∈ lw_all)
    (hI : ∀ V, I V → V.2 a = some (ndX kd hs ky vl nx bf af pa lf rt pv rd a)) (hv5 : ([.int (hs a), .ref (ky a), .ref (vl a), va_rf (nx a), va_rf (bf a), va_rf (af a)] : List Value)[j]? = some v) (hv6 : ([.int (hs a), .ref (ky a), .ref (vl a), va_rf (nx a), va_rf (bf a), va_rf (af a), va_rf (pa a), va_rf (lf a), va_rf (rt a), va_rf (pv a), .int (rd a)] : List Value)[j]? = some v) (hd : decode cc pc = .ok (.getfield ix, 3)) (pc1 : Nat) (hp : pc + 3 = pc1) (kk : rn C I k n pc1 lv (v :: st)) : rn C I k n pc lv (.ref a :: st) := by
  cases hk : kd a with
  | true => exact r_getI (fs := [.int (hs a), .ref (ky a), .ref (vl a), va_rf (nx a), va_rf (bf a), va_rf (af a), va_rf (pa a), va_rf (lf a), va_rf (rt a), va_rf (pv a), .int (rd a)]) hC kJ26 j hj6 hq6 hs6 (fun V hV => (hI V hV).trans (congrArg some (if_pos hk))) hv6 hd pc1 hp kk
  | false => exact r_getI (fs := [.int (hs a), .ref (ky a), .ref (vl a), va_rf (nx a), va_rf (bf a), va_rf (af a)]) hC kJ25 j hj hq5 hs5 (fun V hV => (hI V hV).trans (congrArg some (if_neg (by rw [hk]; decide)))) hv5 hd pc1 hp kk
end XCT
theorem ndX_t {kd : Nat → Bool} {hs : Nat → Int32} {ky vl : Nat → Nat} {nx bf af pa lf rt pv : Nat → Option Nat} {rd : Nat → Int32} {a : Nat} (hk : kd a = true) : ndX kd hs ky vl nx bf af pa lf rt pv rd a = .inr (27, [.int (hs a), .ref (ky a), .ref (vl a), va_rf (nx a), va_rf (bf a), va_rf (af a), va_rf (pa a), va_rf (lf a), va_rf (rt a), va_rf (pv a), .int (rd a)]) := if_pos hk
theorem ndX_p {kd : Nat → Bool} {hs : Nat → Int32} {ky vl : Nat → Nat} {nx bf af pa lf rt pv : Nat → Option Nat} {rd : Nat → Int32} {a : Nat} (hk : kd a = false) : ndX kd hs ky vl nx bf af pa lf rt pv rd a = .inr (26, [.int (hs a), .ref (ky a), .ref (vl a), va_rf (nx a), va_rf (bf a), va_rf (af a)]) := if_neg (by rw [hk]; decide)
theorem ndX_same {kd : Nat → Bool} {hs : Nat → Int32} {ky vl : Nat → Nat} {nx bf af pa lf rt pv : Nat → Option Nat} {rd : Nat → Int32} {kd' : Nat → Bool} {hs' : Nat → Int32} {ky' vl' : Nat → Nat} {nx' bf' af' pa' lf' rt' pv' : Nat → Option Nat} {rd' : Nat → Int32} {a : Nat} (h1 : kd' a = kd a) (h2 : hs' a = hs a) (h3 : ky' a = ky a) (h4 : vl' a = vl a) (h5 : nx' a = nx a) (h6 : bf' a = bf a) (h7 : af' a = af a) (h8 : pa' a = pa a) (h9 : lf' a = lf a) (h10 : rt' a = rt a) (h11 : pv' a = pv a) (h12 : rd' a = rd a) : ndX kd' hs' ky' vl' nx' bf' af' pa' lf' rt' pv' rd' a = ndX kd hs ky vl nx bf af pa lf rt pv rd a := by
  unfold ndX
  rw [h1, h2, h3, h4, h5, h6, h7, h8, h9, h10, h11, h12]
theorem ndX_nx {kd : Nat → Bool} {hs : Nat → Int32} {ky vl : Nat → Nat} {nx bf af pa lf rt pv : Nat → Option Nat} {rd : Nat → Int32} {a : Nat} {v : Option Nat} (hk : kd a = true) : ndX kd hs ky vl (va_up nx a v) bf af pa lf rt pv rd = va_up (ndX kd hs ky vl nx bf af pa lf rt pv rd) a (.inr (27, [.int (hs a), .ref (ky a), .ref (vl a), va_rf v, va_rf (bf a), va_rf (af a), va_rf (pa a), va_rf (lf a), va_rf (rt a), va_rf (pv a), .int (rd a)])) := by
  funext b
  by_cases h : b = a
  · subst h
    show _ = va_up _ b _ b
    rw [up_same, ndX_t hk, up_same]
  · rw [up_ne h]
    unfold ndX
    rw [up_ne h]
theorem ndP_nx {kd : Nat → Bool} {hs : Nat → Int32} {ky vl : Nat → Nat} {nx bf af pa lf rt pv : Nat → Option Nat} {rd : Nat → Int32} {a : Nat} {v : Option Nat} (hk : kd a = false) : ndX kd hs ky vl (va_up nx a v) bf af pa lf rt pv rd = va_up (ndX kd hs ky vl nx bf af pa lf rt pv rd) a (.inr (26, [.int (hs a), .ref (ky a), .ref (vl a), va_rf v, va_rf (bf a), va_rf (af a)])) := by
  funext b
  by_cases h : b = a
  · subst h
    show _ = va_up _ b _ b
    rw [up_same, ndX_p hk, up_same]
  · rw [up_ne h]
    unfold ndX
    rw [up_ne h]
theorem ndX_bf {kd : Nat → Bool} {hs : Nat → Int32} {ky vl : Nat → Nat} {nx bf af pa lf rt pv : Nat → Option Nat} {rd : Nat → Int32} {a : Nat} {v : Option Nat} (hk : kd a = true) : ndX kd hs ky vl nx (va_up bf a v) af pa lf rt pv rd = va_up (ndX kd hs ky vl nx bf af pa lf rt pv rd) a (.inr (27, [.int (hs a), .ref (ky a), .ref (vl a), va_rf (nx a), va_rf v, va_rf (af a), va_rf (pa a), va_rf (lf a), va_rf (rt a), va_rf (pv a), .int (rd a)])) := by
  funext b
  by_cases h : b = a
  · subst h
    show _ = va_up _ b _ b
    rw [up_same, ndX_t hk, up_same]
  · rw [up_ne h]
    unfold ndX
    rw [up_ne h]
theorem ndP_bf {kd : Nat → Bool} {hs : Nat → Int32} {ky vl : Nat → Nat} {nx bf af pa lf rt pv : Nat → Option Nat} {rd : Nat → Int32} {a : Nat} {v : Option Nat} (hk : kd a = false) : ndX kd hs ky vl nx (va_up bf a v) af pa lf rt pv rd = va_up (ndX kd hs ky vl nx bf af pa lf rt pv rd) a (.inr (26, [.int (hs a), .ref (ky a), .ref (vl a), va_rf (nx a), va_rf v, va_rf (af a)])) := by
  funext b
  by_cases h : b = a
  · subst h
    show _ = va_up _ b _ b
    rw [up_same, ndX_p hk, up_same]
  · rw [up_ne h]
    unfold ndX
    rw [up_ne h]
theorem ndX_af {kd : Nat → Bool} {hs : Nat → Int32} {ky vl : Nat → Nat} {nx bf af pa lf rt pv : Nat → Option Nat} {rd : Nat → Int32} {a : Nat} {v : Option Nat} (hk : kd a = true) : ndX kd hs ky vl nx bf (va_up af a v) pa lf rt pv rd = va_up (ndX kd hs ky vl nx bf af pa lf rt pv rd) a (.inr (27, [.int (hs a), .ref (ky a), .ref (vl a), va_rf (nx a), va_rf (bf a), va_rf v, va_rf (pa a), va_rf (lf a), va_rf (rt a), va_rf (pv a), .int (rd a)])) := by
  funext b
  by_cases h : b = a
  · subst h
    show _ = va_up _ b _ b
    rw [up_same, ndX_t hk, up_same]
  · rw [up_ne h]
    unfold ndX
    rw [up_ne h]
theorem ndP_af {kd : Nat → Bool} {hs : Nat → Int32} {ky vl : Nat → Nat} {nx bf af pa lf rt pv : Nat → Option Nat} {rd : Nat → Int32} {a : Nat} {v : Option Nat} (hk : kd a = false) : ndX kd hs ky vl nx bf (va_up af a v) pa lf rt pv rd = va_up (ndX kd hs ky vl nx bf af pa lf rt pv rd) a (.inr (26, [.int (hs a), .ref (ky a), .ref (vl a), va_rf (nx a), va_rf (bf a), va_rf v])) := by
  funext b
  by_cases h : b = a
  · subst h
    show _ = va_up _ b _ b
    rw [up_same, ndX_p hk, up_same]
  · rw [up_ne h]
    unfold ndX
    rw [up_ne h]
theorem ndX_pa {kd : Nat → Bool} {hs : Nat → Int32} {ky vl : Nat → Nat} {nx bf af pa lf rt pv : Nat → Option Nat} {rd : Nat → Int32} {a : Nat} {v : Option Nat} (hk : kd a = true) : ndX kd hs ky vl nx bf af (va_up pa a v) lf rt pv rd = va_up (ndX kd hs ky vl nx bf af pa lf rt pv rd) a (.inr (27, [.int (hs a), .ref (ky a), .ref (vl a), va_rf (nx a), va_rf (bf a), va_rf (af a), va_rf v, va_rf (lf a), va_rf (rt a), va_rf (pv a), .int (rd a)])) := by
  funext b
  by_cases h : b = a
  · subst h
    show _ = va_up _ b _ b
    rw [up_same, ndX_t hk, up_same]
  · rw [up_ne h]
    unfold ndX
    rw [up_ne h]
theorem ndX_lf {kd : Nat → Bool} {hs : Nat → Int32} {ky vl : Nat → Nat} {nx bf af pa lf rt pv : Nat → Option Nat} {rd : Nat → Int32} {a : Nat} {v : Option Nat} (hk : kd a = true) : ndX kd hs ky vl nx bf af pa (va_up lf a v) rt pv rd = va_up (ndX kd hs ky vl nx bf af pa lf rt pv rd) a (.inr (27, [.int (hs a), .ref (ky a), .ref (vl a), va_rf (nx a), va_rf (bf a), va_rf (af a), va_rf (pa a), va_rf v, va_rf (rt a), va_rf (pv a), .int (rd a)])) := by
  funext b
  by_cases h : b = a
  · subst h
    show _ = va_up _ b _ b
    rw [up_same, ndX_t hk, up_same]
  · rw [up_ne h]
    unfold ndX
    rw [up_ne h]
theorem ndX_rt {kd : Nat → Bool} {hs : Nat → Int32} {ky vl : Nat → Nat} {nx bf af pa lf rt pv : Nat → Option Nat} {rd : Nat → Int32} {a : Nat} {v : Option Nat} (hk : kd a = true) : ndX kd hs ky vl nx bf af pa lf (va_up rt a v) pv rd = va_up (ndX kd hs ky vl nx bf af pa lf rt pv rd) a (.inr (27, [.int (hs a), .ref (ky a), .ref (vl a), va_rf (nx a), va_rf (bf a), va_rf (af a), va_rf (pa a), va_rf (lf a), va_rf v, va_rf (pv a), .int (rd a)])) := by
  funext b
  by_cases h : b = a
  · subst h
    show _ = va_up _ b _ b
    rw [up_same, ndX_t hk, up_same]
  · rw [up_ne h]
    unfold ndX
    rw [up_ne h]
theorem ndX_pv {kd : Nat → Bool} {hs : Nat → Int32} {ky vl : Nat → Nat} {nx bf af pa lf rt pv : Nat → Option Nat} {rd : Nat → Int32} {a : Nat} {v : Option Nat} (hk : kd a = true) : ndX kd hs ky vl nx bf af pa lf rt (va_up pv a v) rd = va_up (ndX kd hs ky vl nx bf af pa lf rt pv rd) a (.inr (27, [.int (hs a), .ref (ky a), .ref (vl a), va_rf (nx a), va_rf (bf a), va_rf (af a), va_rf (pa a), va_rf (lf a), va_rf (rt a), va_rf v, .int (rd a)])) := by
  funext b
  by_cases h : b = a
  · subst h
    show _ = va_up _ b _ b
    rw [up_same, ndX_t hk, up_same]
  · rw [up_ne h]
    unfold ndX
    rw [up_ne h]
theorem ndX_rd {kd : Nat → Bool} {hs : Nat → Int32} {ky vl : Nat → Nat} {nx bf af pa lf rt pv : Nat → Option Nat} {rd : Nat → Int32} {a : Nat} {v : Int32} (hk : kd a = true) : ndX kd hs ky vl nx bf af pa lf rt pv (va_up rd a v) = va_up (ndX kd hs ky vl nx bf af pa lf rt pv rd) a (.inr (27, [.int (hs a), .ref (ky a), .ref (vl a), va_rf (nx a), va_rf (bf a), va_rf (af a), va_rf (pa a), va_rf (lf a), va_rf (rt a), va_rf (pv a), .int v])) := by
  funext b
  by_cases h : b = a
  · subst h
    show _ = va_up _ b _ b
    rw [up_same, ndX_t hk, up_same]
  · rw [up_ne h]
    unfold ndX
    rw [up_ne h]
theorem opt_c (o : Option Nat) : o = none ∨ ∃ y, o = some y := by
  cases o with
  | none => exact Or.inl rfl
  | some y => exact Or.inr ⟨y, rfl⟩
theorem rn.fact {C : xC} {I : xV → Prop} {k n pc : Nat} {lv : List (Nat × Value)} {st : List Value} {P : Prop} (h : ∀ V, I V → P) (kk : P → rn C I k n pc lv st) : rn C I k n pc lv st := by
  obtain ⟨p, l, e, R, s, m, args, below, meth, c, G, nL, Q, X⟩ := C
  exact fun V H locs ls hI => kk (h V hI) V H locs ls hI
/-- a new node is taken into the store -/
theorem stW_addP {F : Nat → Prop} {V0 V : xV} {ws : xW} {L : List Nat} {kd : Nat → Bool} {hs : Nat → Int32} {ky vl : Nat → Nat} {nx bf af pa lf rt pv : Nat → Option Nat} {rd : Nat → Int32} {q : Nat} {h9 : Int32} {k9 v9 : Nat} {n9 b9 a9 : Option Nat} (h : xSt F V0 ((ws ++ [(q, .inr (26, [.int h9, .ref k9, .ref v9, va_rf n9, va_rf b9, va_rf a9]))]) ++ stW L (ndX kd hs ky vl nx bf af pa lf rt pv rd)) V) : xSt F V0 (ws ++ stW (L ++ [q]) (ndX (va_up kd q false) (va_up hs q h9) (va_up ky q k9) (va_up vl q v9) (va_up nx q n9) (va_up bf q b9) (va_up af q a9) pa lf rt pv rd)) V := by
  have hn := stW_nin h (List.mem_append_right _ List.mem_cons_self)
  refine stW_abs h ?_ (fun a ha => ?_)
  · rw [ndX_p (up_same _ _ _)]
    simp only [up_same]
  · have e : a ≠ q := fun e => hn (by rw [← e]; exact ha)
    exact ndX_same (up_ne e) (up_ne e) (up_ne e) (up_ne e) (up_ne e) (up_ne e) (up_ne e) rfl rfl rfl rfl rfl
theorem stW_addT {F : Nat → Prop} {V0 V : xV} {ws : xW} {L : List Nat} {kd : Nat → Bool} {hs : Nat → Int32} {ky vl : Nat → Nat} {nx bf af pa lf rt pv : Nat → Option Nat} {rd : Nat → Int32} {q : Nat} {h9 : Int32} {k9 v9 : Nat} {n9 b9 a9 : Option Nat} (h : xSt F V0 ((ws ++ [(q, .inr (27, [.int h9, .ref k9, .ref v9, va_rf n9, va_rf b9, va_rf a9, .null, .null, .null, .null, .int 0]))]) ++ stW L (ndX kd hs ky vl nx bf af pa lf rt pv rd)) V) : xSt F V0 (ws ++ stW (L ++ [q]) (ndX (va_up kd q true) (va_up hs q h9) (va_up ky q k9) (va_up vl q v9) (va_up nx q n9) (va_up bf q b9) (va_up af q a9) (va_up pa q none) (va_up lf q none) (va_up rt q none) (va_up pv q none) (va_up rd q 0))) V := by
  have hn := stW_nin h (List.mem_append_right _ List.mem_cons_self)
  refine stW_abs h ?_ (fun a ha => ?_)
  · rw [ndX_t (up_same _ _ _)]
    simp only [up_same]
    rfl
  · have e : a ≠ q := fun e => hn (by rw [← e]; exact ha)
    exact ndX_same (up_ne e) (up_ne e) (up_ne e) (up_ne e) (up_ne e) (up_ne e) (up_ne e) (up_ne e) (up_ne e) (up_ne e) (up_ne e) (up_ne e)
theorem up_up {α : Type} {f : Nat → α} {k : Nat} {v w : α} : va_up (va_up f k v) k w = va_up f k w := by
  funext j
  by_cases e : j = k
  · subst e; rw [up_same, up_same]
  · rw [up_ne e, up_ne e, up_ne e]
theorem nar_rf {nm : String} (o : Option Nat) : narrow (.object nm) (va_rf o) = va_rf o := by cases o <;> rfl
theorem fit_rf {nm : String} (o : Option Nat) : fits (.object nm) (va_rf o) = true := by cases o <;> rfl
section XIN
variable {C : xC} {I : xV → Prop} {k n pc : Nat} {lv : List (Nat × Value)} {st : List Value} {own : String} {cc : ByteArray} {nL0 : Nat} {ret : Option FieldType} {rm : Room}
/-- it is no instance of a class -/
theorem r_instNo (hC : xCtx C own cc nL0 ret rm) {ix a ci N : Nat} {cN nm : String} {T : u_T} {ty : Nat → FieldType} (hk : xCls ci cN T N ty) (hlink : Cond.classLink own ix nm ∈ lw_all) (hnc : va_Nc cN nm (xGG C).1) (hI : ∀ V, I V → ∃ fs, V.2 a = some (.inr (ci, fs))) (hd : decode cc pc = .ok (.instanceof ix, 3)) (pc1 : Nat) (hp : pc + 3 = pc1) (kk : rn C I k n pc1 lv (.int 0 :: st)) : rn C I k n pc lv (.ref a :: st) := by
  subst hp
  obtain ⟨p, l, e, R, s, m, args, below, meth, c, G, nL, Q, X⟩ := C
  obtain ⟨hx, hb, hml, hnL, hown, hts, hK, -, -, hW0, -⟩ := hC
  intro V H locs ls hV hR hL hl
  obtain ⟨fs, hfs⟩ := hI V hV
  exact va_instNo hx hb hown (hts _ hlink) (va_Nc.moved hW0.alike hnc) (xRecv hK hk hR hfs) hd (kk V H locs ls hV hR hL hl)
end XIN
theorem nt_25 {G : xG} (hG : xGood G) : va_Nc RJ25 "java/util/HashMap$TreeNode" G.1 := by
  obtain ⟨-, b, ht, hn, -⟩ := hG
  replace hn := flat_of_before _ hn
  exact va_Nc.of (hn _ (nr_at 583 rfl))
/-! nothing is asserted -/
theorem za_AD {G : xG} (hG : xGood G) : xZ G "java/util/HashMap$TreeNode" "$assertionsDisabled" "Z" (.int 1) := by
  obtain ⟨-, b, ht, hn, -⟩ := hG
  replace hn := flat_of_before _ hn
  exact va_Zof (ht _ q2287) (ht _ (lw_sub q145)) (va_eqt (hn _ (nr_at 238 rfl))) (fun a h => Nat.not_le.mpr h)
