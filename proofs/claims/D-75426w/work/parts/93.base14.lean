/-! ===== tails; the pool of approaches ===== -/
set_option maxRecDepth 100000
theorem ix_some {ws : xW} : (List.range ws.length).map (fun i => ws[i]?) = ws.map some := by
  apply List.ext_getElem?
  intro i
  rw [List.getElem?_map, List.getElem?_map]
  by_cases h : i < ws.length
  · rw [List.getElem?_range h, List.getElem?_eq_getElem h]; simp [h]
  · rw [List.getElem?_eq_none (by simpa using h), List.getElem?_eq_none (by omega)]; rfl
theorem perm_ix {ws wc wr : xW} (isC isR : List Nat) (n9 : Nat) (hl : ws.length = n9) (hC : isC.map (fun i => ws[i]?) = wc.map some) (hR : isR.map (fun i => ws[i]?) = wr.map some) (hp : (isC ++ isR).isPerm (List.range n9) = true) : ws.Perm (wc ++ wr) := by
  subst hl
  have h1 := (List.isPerm_iff.mp hp).map (fun i => ws[i]?)
  rw [List.map_append, hC, hR, ix_some, ← List.map_append] at h1
  have h2 := (h1.filterMap id).symm
  simp only [List.filterMap_map, Function.comp_def, id, List.filterMap_some] at h2
  exact h2
theorem xSt.pushT {F : Nat → Prop} {V0 V : xV} {ws tl : xW} (h : xSt F V0 (ws ++ tl) V) (e : xE) : xSt F V0 ((ws ++ [(V.1, e)]) ++ tl) (xpush V e) := by
  refine (h.push e).perm ?_
  rw [List.append_assoc, List.append_assoc]
  exact List.Perm.append_left ws List.perm_append_comm
theorem xSt.tr {F : Nat → Prop} {V0 V V2 : xV} {ws w2 : xW} (h : xSt F V0 ws V) (h2 : xSt (xF ws) V w2 V2) : xSt F V0 w2 V2 := by
  have := xSt.joinA (wc := ws) (wr := []) (by rw [List.append_nil]; exact h) h2
  exact this
theorem xSt.nilT {F : Nat → Prop} {V0 V : xV} {wc wr tl : xW} (h : xSt F V0 (wc ++ (wr ++ tl)) V) : xSt F V0 (wr ++ tl) V := by
  have := xSt.joinA (w1 := []) (V' := V) h ⟨fun i q hq => by simp at hq, fun i j p q hp => by simp at hp, Nat.le_refl _, fun _ _ _ => rfl⟩
  rw [List.append_nil] at this
  exact this
theorem xSt.subT {F : Nat → Prop} {V0 V : xV} {ws wc wr tl : xW} (h : xSt F V0 (ws ++ tl) V) (isC isR : List Nat) (n9 : Nat) (hl : ws.length = n9) (hC : isC.map (fun i => ws[i]?) = wc.map some) (hR : isR.map (fun i => ws[i]?) = wr.map some) (hp : (isC ++ isR).isPerm (List.range n9) = true) : xSt F V0 (wr ++ tl) V :=
  (h.perm ((List.Perm.append_right tl (perm_ix isC isR n9 hl hC hR hp)).trans (List.Perm.of_eq (List.append_assoc _ _ _)))).nilT
section XCALLT
variable {C : xC} {I : xV → Prop} {k n pc len : Nat} {lv lv' : List (Nat × Value)} {st stk : List Value} {rm2 : Room}
theorem xCall.t {F : Nat → Prop} {V0 : xV} {ws wc wr tl : xW} {Q : Option Value → xW → Prop} {X9 : Nat → xW → Prop} (h : xCall C (xSt F V0 (ws ++ tl)) k n pc len lv stk st rm2 (fun V v V' => ∃ w', Q v w' ∧ xSt (xF wc) V w' V') (fun V q V' => ∃ w', X9 q w' ∧ xSt (xF wc) V w' V')) (isC isR : List Nat) (n9 : Nat) (hl : ws.length = n9) (hCp : isC.map (fun i => ws[i]?) = wc.map some) (hRp : isR.map (fun i => ws[i]?) = wr.map some) (hpm : (isC ++ isR).isPerm (List.range n9) = true) (k1 n1 pc1 : Nat) (hk1 : k + rm2.cells = k1) (hn1 : n + rm2.slots = n1) (hp : pc + len = pc1)
    (kk : ∀ v w', Q v w' → rn C (xSt F V0 ((wr ++ w') ++ tl)) k1 n1 pc1 lv (v.toList ++ st)) (kx : ∀ q w', X9 q w' → rx C (xSt F V0 ((wr ++ w') ++ tl)) k1 n1 pc lv st q) : rn C (xSt F V0 (ws ++ tl)) k n pc lv stk := by
  have hP : (ws ++ tl).Perm (wc ++ (wr ++ tl)) := (List.Perm.append_right tl (perm_ix isC isR n9 hl hCp hRp hpm)).trans (List.Perm.of_eq (List.append_assoc _ _ _))
  have hq : ∀ w' : xW, ((wr ++ tl) ++ w').Perm ((wr ++ w') ++ tl) := by
    intro w'
    rw [List.append_assoc, List.append_assoc]
    exact List.Perm.append_left wr List.perm_append_comm
  exact xCall.p h hP k1 n1 pc1 hk1 hn1 hp (fun v w' q => rn.mono (fun _ h => h.perm (hq w')) (kk v w' q)) (fun v w' q => rx.mono (fun _ h => h.perm (hq w')) (kx v w' q))
end XCALLT
/-! the pool -/
def plC (q : Nat × (Int32 × Int32 × Int32)) : Nat × xE := (q.1, .inr (12, [.int q.2.1, .int q.2.2.1, .int q.2.2.2]))
/-- the approaches PL are there, none at an address of ws -/
def plIn (ws : xW) (PL : List (Nat × (Int32 × Int32 × Int32))) (V : xV) : Prop := ∀ q, q ∈ PL → q.1 < V.1 ∧ ¬ xF ws q.1 ∧ V.2 q.1 = some (plC q).2
theorem plIn.st {F : Nat → Prop} {V0 V : xV} {ws0 ws : xW} {PL : List (Nat × (Int32 × Int32 × Int32))} (hP : plIn ws0 PL V0) (hF : F = xF ws0) (h : xSt F V0 ws V) : plIn ws PL V := by
  intro q hq
  obtain ⟨h1, h2, h3⟩ := hP q hq
  subst hF
  refine ⟨Nat.lt_of_lt_of_le h1 h.2.2.1, ?_, h.old h3 h1 h2⟩
  rintro ⟨i, e, hi⟩
  rcases (h.1 i _ hi).2.2 with h4 | h4
  · exact h2 h4
  · exact absurd h1 (Nat.not_lt.mpr h4)
theorem plIn.sub {V : xV} {ws wc : xW} {PL : List (Nat × (Int32 × Int32 × Int32))} (h : plIn ws PL V) (isC : List Nat) (hC : isC.map (fun i => ws[i]?) = wc.map some) : plIn wc PL V := by
  intro q hq
  obtain ⟨h1, h2, h3⟩ := h q hq
  refine ⟨h1, ?_, h3⟩
  rintro ⟨k, e, hk⟩
  have h4 : (isC.map (fun i => ws[i]?))[k]? = some (some (q.1, e)) := by rw [hC, List.getElem?_map, hk]; rfl
  rw [List.getElem?_map] at h4
  cases hi : isC[k]? with
  | none => rw [hi] at h4; cases h4
  | some i => rw [hi] at h4; exact h2 ⟨i, e, Option.some.inj h4⟩
theorem plIn.tail {F : Nat → Prop} {V0 V : xV} {ws : xW} {nw : List (Nat × (Int32 × Int32 × Int32))} (h : xSt F V0 (ws ++ nw.map plC) V) : plIn ws nw V := by
  intro q hq
  obtain ⟨i, hi⟩ := List.mem_iff_getElem?.mp hq
  have hj : (ws ++ nw.map plC)[ws.length + i]? = some (plC q) := by
    rw [List.getElem?_append_right (by omega), Nat.add_sub_cancel_left, List.getElem?_map, hi]; rfl
  obtain ⟨h1, h2, h3⟩ := h.1 _ _ hj
  refine ⟨h2, ?_, h1⟩
  rintro ⟨k, e, hk⟩
  have hk2 : k < ws.length := (List.getElem?_eq_some_iff.mp hk).1
  have := h.2.1 k (ws.length + i) (q.1, e) (plC q) (by rw [List.getElem?_append_left hk2]; exact hk) hj rfl
  omega
theorem plIn.app {V : xV} {ws : xW} {A B : List (Nat × (Int32 × Int32 × Int32))} (h : plIn ws A V) (h2 : plIn ws B V) : plIn ws (A ++ B) V := by
  intro q hq
  rcases List.mem_append.mp hq with h3 | h3
  · exact h q h3
  · exact h2 q h3
theorem plIn.left {V : xV} {ws tl : xW} {A : List (Nat × (Int32 × Int32 × Int32))} (h : plIn (ws ++ tl) A V) : plIn ws A V := by
  intro q hq
  obtain ⟨h1, h2, h3⟩ := h q hq
  refine ⟨h1, ?_, h3⟩
  rintro ⟨k, e, hk⟩
  exact h2 ⟨k, e, by rw [List.getElem?_append_left (List.getElem?_eq_some_iff.mp hk).1]; exact hk⟩
theorem plIn.cell {V : xV} {ws : xW} {PL : List (Nat × (Int32 × Int32 × Int32))} (h : plIn ws PL V) {x : Nat} {c p d : Int32} (hm : (x, c, p, d) ∈ PL) : xIn [(x, .inr (12, [.int c, .int p, .int d]))] V := by
  obtain ⟨h1, -, h3⟩ := h _ hm
  refine ⟨fun i q hi => ?_, fun i j p q hp hq _ => ?_⟩
  · cases i with
    | zero => obtain rfl := Option.some.inj hi; exact ⟨h3, h1⟩
    | succ i => simp at hi
  · cases i with
    | zero => cases j with
      | zero => rfl
      | succ j => simp at hq
    | succ i => simp at hp
/-! the deque of approaches -/
def dqS (m z n : Nat) : Prop := (m = 17 ∧ z = 0 ∧ n ≤ 16) ∨ (m = 36 ∧ z < 36 ∧ n ≤ 30)
theorem dqS.m {m z n : Nat} (h : dqS m z n) : m < 65536 := by unfold dqS at h; omega
theorem dqS.z {m z n : Nat} (h : dqS m z n) : z < m := by unfold dqS at h; omega
theorem dqS.n {m z n : Nat} (h : dqS m z n) : n < m := by unfold dqS at h; omega
theorem dqS.n30 {m z n : Nat} (h : dqS m z n) : n ≤ 30 := by unfold dqS at h; omega
/-- the approach of number i in a row -/
def apQ (r : Nat → Int64) (i : Nat) : Int32 × Int32 × Int32 := ((r (21 + 3 * i)).toInt32, (r (21 + 3 * i + 1)).toInt32, (r (21 + 3 * i + 2)).toInt32)
/-- the deque holds the row's approaches -/
def dqA (PL : List (Nat × (Int32 × Int32 × Int32))) (r : Nat → Int64) (m z n : Nat) (f : Nat → Option Nat) : Prop := ∀ i, i < n → ∃ x, f (dqT m z i) = some x ∧ (x, apQ r i) ∈ PL
theorem dqA.mono {PL PL' : List (Nat × (Int32 × Int32 × Int32))} {r : Nat → Int64} {m z n : Nat} {f : Nat → Option Nat} (h : dqA PL r m z n f) (hs : ∀ q, q ∈ PL → q ∈ PL') : dqA PL' r m z n f := fun i hi => by
  obtain ⟨x, h1, h2⟩ := h i hi
  exact ⟨x, h1, hs _ h2⟩
theorem dqA.row {PL : List (Nat × (Int32 × Int32 × Int32))} {r r' : Nat → Int64} {m z n : Nat} {f : Nat → Option Nat} (h : dqA PL r m z n f) (hr : ∀ j, 21 ≤ j → r' j = r j) : dqA PL r' m z n f := fun i hi => by
  obtain ⟨x, h1, h2⟩ := h i hi
  refine ⟨x, h1, ?_⟩
  have : apQ r' i = apQ r i := by unfold apQ; rw [hr _ (by omega), hr _ (by omega), hr _ (by omega)]
  rw [this]; exact h2
