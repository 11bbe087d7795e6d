/-! ===== the reference: cells ===== -/
set_option maxRecDepth 100000
/-- cells in the order of their first visits, with their visits -/
abbrev clT : Type := List (Int64 × Int64 × Nat)
def clI : clT → Int64 → Int64 → Nat
  | [], _, _ => 0
  | q :: L, x, y => if q.1 = x ∧ q.2.1 = y then 0 else clI L x y + 1
def clA : clT → Int64 → Int64 → clT
  | [], x, y => [(x, y, 1)]
  | q :: L, x, y => if q.1 = x ∧ q.2.1 = y then (q.1, q.2.1, q.2.2 + 1) :: L else q :: clA L x y
theorem clI_le {x y : Int64} : ∀ L : clT, clI L x y ≤ L.length := by
  intro L
  induction L with
  | nil => exact Nat.le_refl 0
  | cons q L ih =>
    rw [clI]
    split
    · exact Nat.zero_le _
    · exact Nat.succ_le_succ ih
theorem clI_at {x y : Int64} : ∀ (L : clT) (c : Nat) (q : Int64 × Int64 × Nat), L[c]? = some q → c ≤ clI L x y → (clI L x y = c ↔ (q.1 = x ∧ q.2.1 = y)) := by
  intro L
  induction L with
  | nil => intro c q h; simp at h
  | cons p L ih =>
    intro c q h hc
    cases c with
    | zero =>
      have : p = q := by simpa using h
      subst this
      rw [clI]
      constructor
      · intro h1
        split at h1
        · assumption
        · omega
      · intro h1
        rw [if_pos h1]
    | succ c =>
      have h' : L[c]? = some q := by simpa using h
      rw [clI] at hc ⊢
      split at hc
      · omega
      · rename_i hn
        rw [if_neg hn]
        have := ih c q h' (by omega)
        rw [← this]
        omega
theorem clA_new {x y : Int64} : ∀ L : clT, clI L x y = L.length → clA L x y = L ++ [(x, y, 1)] := by
  intro L
  induction L with
  | nil => intro _; rfl
  | cons q L ih =>
    intro h
    rw [clI] at h
    rw [clA]
    split at h
    · simp at h
    · rename_i hn
      rw [if_neg hn, ih (by simpa using h)]
      rfl
theorem clA_old {x y : Int64} : ∀ L : clT, clI L x y < L.length → ∃ q, L[clI L x y]? = some q ∧ clA L x y = L.set (clI L x y) (q.1, q.2.1, q.2.2 + 1) := by
  intro L
  induction L with
  | nil => intro h; simp [clI] at h
  | cons q L ih =>
    intro h
    rw [clI] at h ⊢
    rw [clA]
    split at h
    · rename_i hn
      rw [if_pos hn, if_pos hn]
      exact ⟨q, rfl, rfl⟩
    · rename_i hn
      rw [if_neg hn, if_neg hn]
      obtain ⟨q1, h1, h2⟩ := ih (by simpa using h)
      exact ⟨q1, by simpa using h1, by rw [h2]; rfl⟩
/-- arrays hold the cells -/
def clR (cx cy : Nat → Int64) (sy : Nat → Int32) (L : clT) : Prop := ∀ (k : Nat) (q : Int64 × Int64 × Nat), L[k]? = some q → cx k = q.1 ∧ cy k = q.2.1 ∧ sy k = nI q.2.2
theorem clR_nil {cx cy : Nat → Int64} {sy : Nat → Int32} : clR cx cy sy [] := fun k q h => by simp at h
theorem clR_at {cx cy : Nat → Int64} {sy : Nat → Int32} {L : clT} (h : clR cx cy sy L) {c : Nat} {x y : Int64} (hc : c < L.length) (hi : c ≤ clI L x y) : clI L x y = c ↔ (cx c = x ∧ cy c = y) := by
  obtain ⟨q, hq⟩ : ∃ q, L[c]? = some q := ⟨_, List.getElem?_eq_getElem hc⟩
  rw [clI_at L c q hq hi, (h c q hq).1, (h c q hq).2.1]
theorem clR_new {cx cy : Nat → Int64} {sy : Nat → Int32} {L : clT} (h : clR cx cy sy L) {x y : Int64} (hn : clI L x y = L.length) : clR (va_up cx (clI L x y) x) (va_up cy (clI L x y) y) (va_up (va_up sy (clI L x y) 0) (clI L x y) ((va_up sy (clI L x y) 0) (clI L x y) + 1)) (clA L x y) ∧ (clA L x y).length = L.length + 1 := by
  rw [clA_new L hn, hn]
  refine ⟨fun k q hq => ?_, by simp⟩
  by_cases hk : k = L.length
  · subst hk
    have : q = (x, y, 1) := by simpa using hq.symm
    subst this
    exact ⟨up_same _ _ _, up_same _ _ _, by rw [up_same, up_same]; rfl⟩
  · have hq' : L[k]? = some q := by
      by_cases hk2 : k < L.length
      · rwa [List.getElem?_append_left hk2] at hq
      · rw [List.getElem?_append_right (by omega)] at hq
        have := (List.getElem?_eq_some_iff.mp hq).1
        simp at this; omega
    rw [up_ne hk, up_ne hk, up_ne hk, up_ne hk]
    exact h k q hq'
theorem clR_old {cx cy : Nat → Int64} {sy : Nat → Int32} {L : clT} (h : clR cx cy sy L) {x y : Int64} (hn : ¬ clI L x y = L.length) : clR cx cy (va_up sy (clI L x y) (sy (clI L x y) + 1)) (clA L x y) ∧ (clA L x y).length = L.length := by
  have hle := clI_le (x := x) (y := y) L
  obtain ⟨p, h1, h2⟩ := clA_old (x := x) (y := y) L (by omega)
  rw [h2]
  refine ⟨fun k q hq => ?_, by simp⟩
  by_cases hk : k = clI L x y
  · rw [← hk] at h1 hq ⊢
    rw [List.getElem?_set_self (by have := (List.getElem?_eq_some_iff.mp h1).1; exact this)] at hq
    cases Option.some.inj hq
    obtain ⟨a1, a2, a3⟩ := h k p h1
    exact ⟨a1, a2, by rw [up_same, a3]; exact nI_add _ 1⟩
  · rw [List.getElem?_set_ne (fun e => hk e.symm)] at hq
    rw [up_ne hk]
    exact h k q hq
theorem clA_len {x y : Int64} (L : clT) : (clA L x y).length ≤ L.length + 1 := by
  induction L with
  | nil => exact Nat.le_refl 1
  | cons q L ih =>
    rw [clA]
    split
    · simp
    · simpa using ih
/-- rounds c, c + 1, .. -/
def clL (pa : Nat → Int64) (p : Nat) (w : Int64) : Nat → Nat → clT → clT
  | 0, _, L => L
  | f + 1, c, L => clL pa p w f (c + 1) (clA L (m_floored (pa (6 * c + 2 * p)) w) (m_floored (pa (6 * c + 2 * p + 1)) w))
set_option maxHeartbeats 4000000 in
set_option maxRecDepth 100000 in
theorem lpX6_clI {C : xC} {F : Nat → Prop} {V0 : xV} {k n : Nat} {rm : Room} (hC : xCtx C RX6 cX6_laysCells 10 (some .boolean) rm) (b : Nat → Nat) (i : Nat → Int32) (j : Nat → Int64) (t r th g h0 pa cx cy : Nat → Int64) (sy : Nat → Int32) (x y : Int64) (kk p N w d : Nat) (L : clT) (h30 : i 30 = nI L.length) (hR : clR cx cy sy L) (hL : L.length ≤ 301) (hd : clI L x y = d) (kx : rn C (xSt F V0 [(b 0, .inr (5, mF b i j)), (b 7, .inl (1, 5, .inr (.inl t))), (b 1, .inl (1, 111, .inr (.inl r))), (b 2, .inl (1, 111, .inr (.inl th))), (b 23, .inl (1, 6, .inr (.inl g))), (b 24, .inl (1, 21, .inr (.inl h0))), (b 25, .inl (1, 1806, .inr (.inl pa))), (b 27, .inl (1, 301, .inr (.inl cx))), (b 28, .inl (1, 301, .inr (.inl cy))), (b 29, .inl (0, 301, .inl sy))]) k n 101 [(9, .int (nI d)), (7, .long y), (5, .long x), (4, .int (nI kk)), (0, .ref (b 0)), (1, .int (nI p)), (2, .int (nI N)), (3, .int (nI w))] []) : ∀ f c : Nat, c + f = L.length → c ≤ d → rn C (xSt F V0 [(b 0, .inr (5, mF b i j)), (b 7, .inl (1, 5, .inr (.inl t))), (b 1, .inl (1, 111, .inr (.inl r))), (b 2, .inl (1, 111, .inr (.inl th))), (b 23, .inl (1, 6, .inr (.inl g))), (b 24, .inl (1, 21, .inr (.inl h0))), (b 25, .inl (1, 1806, .inr (.inl pa))), (b 27, .inl (1, 301, .inr (.inl cx))), (b 28, .inl (1, 301, .inr (.inl cy))), (b 29, .inl (0, 301, .inl sy))]) k n 60 [(9, .int (nI c)), (7, .long y), (5, .long x), (4, .int (nI kk)), (0, .ref (b 0)), (1, .int (nI p)), (2, .int (nI N)), (3, .int (nI w))] [] := by
  have hdl : d ≤ L.length := by rw [← hd]; exact clI_le L
  intro f
  induction f with
  | zero =>
    intro c hc hcd
    refine r_iload hC 0 dX6_laysCells_60 rfl 62 rfl ?_
    refine r_aload_n hC 4 dX6_laysCells_62 rfl 63 rfl ?_
    refine r_get (v := .int (i 30)) hC kX6 30 rfl q2783 (fun _ h => h.get 0 rfl) rfl dX6_laysCells_63 66 rfl ?_
    refine r_eqi (y := nI L.length) (h30) ?_
    refine r_icge hC 101 dX6_laysCells_66 (by decide) 69 rfl (fun _ => ?_) (fun h => absurd (nI_le (by omega) (by omega)) h)
    refine rn.sub (lv' := [(9, .int (nI c)), (7, .long y), (5, .long x), (4, .int (nI kk)), (0, .ref (b 0)), (1, .int (nI p)), (2, .int (nI N)), (3, .int (nI w))]) [0, 1, 2, 3, 4, 5, 6, 7] rfl ?_
    have hcd : c = d := by omega
    subst hcd
    exact kx
  | succ f ih =>
    intro c hc hcd
    refine r_iload hC 0 dX6_laysCells_60 rfl 62 rfl ?_
    refine r_aload_n hC 4 dX6_laysCells_62 rfl 63 rfl ?_
    refine r_get (v := .int (i 30)) hC kX6 30 rfl q2783 (fun _ h => h.get 0 rfl) rfl dX6_laysCells_63 66 rfl ?_
    refine r_eqi (y := nI L.length) (h30) ?_
    refine r_icge hC 101 dX6_laysCells_66 (by decide) 69 rfl (fun h => absurd h (nI_ge (by omega) (by omega))) (fun _ => ?_)
    refine r_aload_n hC 4 dX6_laysCells_69 rfl 70 rfl ?_
    refine r_get (v := .ref (b 27)) hC kX6 27 rfl q2780 (fun _ h => h.get 0 rfl) rfl dX6_laysCells_70 73 rfl ?_
    refine r_iload hC 0 dX6_laysCells_73 rfl 75 rfl ?_
    refine r_lald hC c (xix_n c (by omega) (Nat.le_of_ble_eq_true rfl)) (fun _ h => h.get 7 rfl) (cx c) (rfl) dX6_laysCells_75 76 rfl ?_
    refine r_lload hC 2 dX6_laysCells_76 rfl 78 rfl ?_
    refine r_lcne hC 95 dX6_laysCells_78 dX6_laysCells_79 (by decide) 82 rfl (fun c1 => ?_) (fun c1 => ?_)
    · skip
      refine r_iinc hC (nI (c + 1)) 9 0 [(9, .int (nI (c + 1))), (7, .long y), (5, .long x), (4, .int (nI kk)), (0, .ref (b 0)), (1, .int (nI p)), (2, .int (nI N)), (3, .int (nI w))] dX6_laysCells_95 rfl (nI_add c 1) (Nat.le_of_ble_eq_true rfl) rfl 98 rfl ?_
      refine r_goto hC 60 dX6_laysCells_98 (by decide) ?_
      have hcd : ¬ clI L x y = c := fun h => c1 ((clR_at hR (by omega) (by omega)).mp h).1
      refine rn.sub (lv' := [(9, .int (nI (c + 1))), (7, .long y), (5, .long x), (4, .int (nI kk)), (0, .ref (b 0)), (1, .int (nI p)), (2, .int (nI N)), (3, .int (nI w))]) [0, 1, 2, 3, 4, 5, 6, 7] rfl ?_
      exact ih (c + 1) (by omega) (by omega)
    · skip
      refine r_aload_n hC 4 dX6_laysCells_82 rfl 83 rfl ?_
      refine r_get (v := .ref (b 28)) hC kX6 28 rfl q2781 (fun _ h => h.get 0 rfl) rfl dX6_laysCells_83 86 rfl ?_
      refine r_iload hC 0 dX6_laysCells_86 rfl 88 rfl ?_
      refine r_lald hC c (xix_n c (by omega) (Nat.le_of_ble_eq_true rfl)) (fun _ h => h.get 8 rfl) (cy c) (rfl) dX6_laysCells_88 89 rfl ?_
      refine r_lload hC 1 dX6_laysCells_89 rfl 91 rfl ?_
      refine r_lceq hC 101 dX6_laysCells_91 dX6_laysCells_92 (by decide) 95 rfl (fun c2 => ?_) (fun c2 => ?_)
      · skip
        have hcd : d = c := hd.symm.trans ((clR_at hR (by omega) (by omega)).mpr ⟨c1, c2⟩)
        refine rn.sub (lv' := [(9, .int (nI c)), (7, .long y), (5, .long x), (4, .int (nI kk)), (0, .ref (b 0)), (1, .int (nI p)), (2, .int (nI N)), (3, .int (nI w))]) [0, 1, 2, 3, 4, 5, 6, 7] rfl ?_
        subst hcd
        exact kx
      · skip
        refine r_iinc hC (nI (c + 1)) 9 0 [(9, .int (nI (c + 1))), (7, .long y), (5, .long x), (4, .int (nI kk)), (0, .ref (b 0)), (1, .int (nI p)), (2, .int (nI N)), (3, .int (nI w))] dX6_laysCells_95 rfl (nI_add c 1) (Nat.le_of_ble_eq_true rfl) rfl 98 rfl ?_
        refine r_goto hC 60 dX6_laysCells_98 (by decide) ?_
        have hcd : ¬ clI L x y = c := fun h => c2 ((clR_at hR (by omega) (by omega)).mp h).2
        refine rn.sub (lv' := [(9, .int (nI (c + 1))), (7, .long y), (5, .long x), (4, .int (nI kk)), (0, .ref (b 0)), (1, .int (nI p)), (2, .int (nI N)), (3, .int (nI w))]) [0, 1, 2, 3, 4, 5, 6, 7] rfl ?_
        exact ih (c + 1) (by omega) (by omega)
def cellsQ (t r pa : Nat → Int64) (p N w : Nat) : clT := clL (pathQ t r pa N).2.2 p (nI w).toInt64 (N + 1) 0 []
def cellsOK (t r pa : Nat → Int64) (N : Nat) : Prop := (pathQ t r pa N).1 = N
set_option maxHeartbeats 4000000 in
set_option maxRecDepth 100000 in
theorem lpX6_cells {C : xC} {F : Nat → Prop} {V0 : xV} (hG : xGood (xGG C)) (hC : xCtx C RX6 cX6_laysCells 10 (some .boolean) { frames := 8, locals := 201, cells := 0, slots := 0 }) (b : Nat → Nat) (i0 : Nat → Int32) (j : Nat → Int64) (t r th g h0 pa : Nat → Int64) (p N w : Nat) (hp : p < 3) (hN : N ≤ 300) (hw : ¬ (nI w).toInt64 = 0) (Z : clT) (kx : ∀ (i' : Nat → Int32) (cx' cy' : Nat → Int64) (sy' : Nat → Int32), clR cx' cy' sy' Z → i' 30 = nI Z.length → (∀ q, q ≠ 30 → i' q = i0 q) → rn C (xSt F V0 [(b 0, .inr (5, mF b i' j)), (b 7, .inl (1, 5, .inr (.inl t))), (b 1, .inl (1, 111, .inr (.inl r))), (b 2, .inl (1, 111, .inr (.inl th))), (b 23, .inl (1, 6, .inr (.inl g))), (b 24, .inl (1, 21, .inr (.inl h0))), (b 25, .inl (1, 1806, .inr (.inl pa))), (b 27, .inl (1, 301, .inr (.inl cx'))), (b 28, .inl (1, 301, .inr (.inl cy'))), (b 29, .inl (0, 301, .inl sy'))]) 0 0 163 [] []) : ∀ (f c : Nat) (L : clT) (i : Nat → Int32) (cx cy : Nat → Int64) (sy : Nat → Int32), c + f = N + 1 → L.length ≤ c → i 30 = nI L.length → clR cx cy sy L → (∀ q, q ≠ 30 → i q = i0 q) → Z = clL pa p (nI w).toInt64 f c L → rn C (xSt F V0 [(b 0, .inr (5, mF b i j)), (b 7, .inl (1, 5, .inr (.inl t))), (b 1, .inl (1, 111, .inr (.inl r))), (b 2, .inl (1, 111, .inr (.inl th))), (b 23, .inl (1, 6, .inr (.inl g))), (b 24, .inl (1, 21, .inr (.inl h0))), (b 25, .inl (1, 1806, .inr (.inl pa))), (b 27, .inl (1, 301, .inr (.inl cx))), (b 28, .inl (1, 301, .inr (.inl cy))), (b 29, .inl (0, 301, .inl sy))]) 0 0 23 [(4, .int (nI c)), (0, .ref (b 0)), (1, .int (nI p)), (2, .int (nI N)), (3, .int (nI w))] [] := by
  intro f
  induction f with
  | zero =>
    intro c L i cx cy sy hc hL h30 hR hi hZ
    refine r_iload hC 0 dX6_laysCells_23 rfl 25 rfl ?_
    refine r_iload_n hC 3 dX6_laysCells_25 rfl 26 rfl ?_
    refine r_icgt hC 163 dX6_laysCells_26 (by decide) 29 rfl (fun _ => ?_) (fun h => absurd (nI_lt (by omega) (by omega)) h)
    refine rn.sub (lv' := []) [] rfl ?_
    exact kx i cx cy sy (by rw [hZ, clL]; exact hR) (by rw [hZ, clL]; exact h30) hi
  | succ f ih =>
    intro c L i cx cy sy hc hL h30 hR hi hZ
    refine r_iload hC 0 dX6_laysCells_23 rfl 25 rfl ?_
    refine r_iload_n hC 3 dX6_laysCells_25 rfl 26 rfl ?_
    refine r_icgt hC 163 dX6_laysCells_26 (by decide) 29 rfl (fun h => absurd h (nI_nlt (by omega) (by omega))) (fun _ => ?_)
    refine r_aload_n hC 1 dX6_laysCells_29 rfl 30 rfl ?_
    refine r_iload hC 0 dX6_laysCells_30 rfl 32 rfl ?_
    refine r_iload_n hC 2 dX6_laysCells_32 rfl 33 rfl ?_
    refine r_invVr hC kX6 (b 0) [.int (nI c), .int (nI p)] (.long (pa (6 * c + 2 * p))) mVX6_px q3198 (fun _ h => h.get 0 rfl) (metX6_px _ _ hG b _ _ _ c p (by omega) (by omega)) (fun _ h => h.in.sub [0, 6] rfl rfl) ⟨rfl, rfl⟩ 0 0 rfl rfl (Nat.le_of_ble_eq_true rfl) (Nat.le_of_ble_eq_true rfl) rfl (Nat.le_of_ble_eq_true rfl) dX6_laysCells_33 36 rfl ?_
    refine r_iload_n hC 4 dX6_laysCells_36 rfl 37 rfl ?_
    refine r_i2l hC ((nI w).toInt64) dX6_laysCells_37 (rfl) 38 rfl ?_
    refine r_invSr hC [.long (pa (6 * c + 2 * p)), .long ((nI w).toInt64)] (.long (m_floored (pa (6 * c + 2 * p)) ((nI w).toInt64))) mSX6_floored q3042 (metX6_floored _ _ hG (pa (6 * c + 2 * p)) ((nI w).toInt64) (by assumption)) (fun _ _ => xIn.nil) ⟨rfl, rfl⟩ 0 0 rfl rfl (Nat.le_of_ble_eq_true rfl) (Nat.le_of_ble_eq_true rfl) rfl (Nat.le_of_ble_eq_true rfl) dX6_laysCells_38 41 rfl ?_
    refine r_lstore hC 5 [(5, .long (m_floored (pa (6 * c + 2 * p)) ((nI w).toInt64))), (4, .int (nI c)), (0, .ref (b 0)), (1, .int (nI p)), (2, .int (nI N)), (3, .int (nI w))] dX6_laysCells_41 (Nat.le_of_ble_eq_true rfl) rfl 43 rfl ?_
    refine r_aload_n hC 2 dX6_laysCells_43 rfl 44 rfl ?_
    refine r_iload hC 1 dX6_laysCells_44 rfl 46 rfl ?_
    refine r_iload_n hC 3 dX6_laysCells_46 rfl 47 rfl ?_
    refine r_invVr hC kX6 (b 0) [.int (nI c), .int (nI p)] (.long (pa (6 * c + 2 * p + 1))) mVX6_py q3202 (fun _ h => h.get 0 rfl) (metX6_py _ _ hG b _ _ _ c p (by omega) (by omega)) (fun _ h => h.in.sub [0, 6] rfl rfl) ⟨rfl, rfl⟩ 0 0 rfl rfl (Nat.le_of_ble_eq_true rfl) (Nat.le_of_ble_eq_true rfl) rfl (Nat.le_of_ble_eq_true rfl) dX6_laysCells_47 50 rfl ?_
    refine r_iload_n hC 5 dX6_laysCells_50 rfl 51 rfl ?_
    refine r_i2l hC ((nI w).toInt64) dX6_laysCells_51 (rfl) 52 rfl ?_
    refine r_invSr hC [.long (pa (6 * c + 2 * p + 1)), .long ((nI w).toInt64)] (.long (m_floored (pa (6 * c + 2 * p + 1)) ((nI w).toInt64))) mSX6_floored q3042 (metX6_floored _ _ hG (pa (6 * c + 2 * p + 1)) ((nI w).toInt64) (by assumption)) (fun _ _ => xIn.nil) ⟨rfl, rfl⟩ 0 0 rfl rfl (Nat.le_of_ble_eq_true rfl) (Nat.le_of_ble_eq_true rfl) rfl (Nat.le_of_ble_eq_true rfl) dX6_laysCells_52 55 rfl ?_
    refine r_lstore hC 7 [(7, .long (m_floored (pa (6 * c + 2 * p + 1)) ((nI w).toInt64))), (5, .long (m_floored (pa (6 * c + 2 * p)) ((nI w).toInt64))), (4, .int (nI c)), (0, .ref (b 0)), (1, .int (nI p)), (2, .int (nI N)), (3, .int (nI w))] dX6_laysCells_55 (Nat.le_of_ble_eq_true rfl) rfl 57 rfl ?_
    refine r_iconst hC 0 dX6_laysCells_57 ic_0 58 rfl ?_
    refine r_istore hC 9 [(9, .int 0), (7, .long (m_floored (pa (6 * c + 2 * p + 1)) ((nI w).toInt64))), (5, .long (m_floored (pa (6 * c + 2 * p)) ((nI w).toInt64))), (4, .int (nI c)), (0, .ref (b 0)), (1, .int (nI p)), (2, .int (nI N)), (3, .int (nI w))] dX6_laysCells_58 (Nat.le_of_ble_eq_true rfl) rfl 60 rfl ?_
    refine rn.sub (lv' := [(9, .int 0), (7, .long (m_floored (pa (6 * c + 2 * p + 1)) ((nI w).toInt64))), (5, .long (m_floored (pa (6 * c + 2 * p)) ((nI w).toInt64))), (4, .int (nI c)), (0, .ref (b 0)), (1, .int (nI p)), (2, .int (nI N)), (3, .int (nI w))]) [0, 1, 2, 3, 4, 5, 6, 7] rfl ?_
    obtain ⟨d, hd⟩ : ∃ d, clI L (m_floored (pa (6 * c + 2 * p)) (nI w).toInt64) (m_floored (pa (6 * c + 2 * p + 1)) (nI w).toInt64) = d := ⟨_, rfl⟩
    have hdl : d ≤ L.length := by rw [← hd]; exact clI_le L
    refine lpX6_clI hC b i j t r th g h0 pa cx cy sy (m_floored (pa (6 * c + 2 * p)) (nI w).toInt64) (m_floored (pa (6 * c + 2 * p + 1)) (nI w).toInt64) c p N w d L h30 hR (by omega) hd ?_ L.length 0 (by omega) (Nat.zero_le _)
    refine r_iload hC 0 dX6_laysCells_101 rfl 103 rfl ?_
    refine r_aload_n hC 4 dX6_laysCells_103 rfl 104 rfl ?_
    refine r_get (v := .int (i 30)) hC kX6 30 rfl q2783 (fun _ h => h.get 0 rfl) rfl dX6_laysCells_104 107 rfl ?_
    refine r_eqi (y := nI L.length) (h30) ?_
    refine r_icne hC 146 dX6_laysCells_107 (by decide) 110 rfl (fun c1 => ?_) (fun c1 => ?_)
    · skip
      refine r_aload_n hC 4 dX6_laysCells_146 rfl 147 rfl ?_
      refine r_get (v := .ref (b 29)) hC kX6 29 rfl q2782 (fun _ h => h.get 0 rfl) rfl dX6_laysCells_147 150 rfl ?_
      refine r_iload hC 0 dX6_laysCells_150 rfl 152 rfl ?_
      refine r_dup2 hC dX6_laysCells_152 rfl rfl 153 rfl ?_
      refine r_iald hC d (xix_n d (by omega) (Nat.le_of_ble_eq_true rfl)) (fun _ h => h.get 9 rfl) (sy d) (rfl) dX6_laysCells_153 154 rfl ?_
      refine r_iconst hC 1 dX6_laysCells_154 ic_1 155 rfl ?_
      refine r_iadd hC ((sy d) + 1) dX6_laysCells_155  (rfl) 156 rfl ?_
      refine r_iast (J := xSt F V0 [(b 0, .inr (5, mF b i j)), (b 7, .inl (1, 5, .inr (.inl t))), (b 1, .inl (1, 111, .inr (.inl r))), (b 2, .inl (1, 111, .inr (.inl th))), (b 23, .inl (1, 6, .inr (.inl g))), (b 24, .inl (1, 21, .inr (.inl h0))), (b 25, .inl (1, 1806, .inr (.inl pa))), (b 27, .inl (1, 301, .inr (.inl cx))), (b 28, .inl (1, 301, .inr (.inl cy))), (b 29, .inl (0, 301, .inl (va_up sy d ((sy d) + 1))))]) hC d (xix_n d (by omega) (Nat.le_of_ble_eq_true rfl)) (fun _ h => h.get 9 rfl) dX6_laysCells_156 (fun _ h => h.set 9 _ rfl) 157 rfl ?_
      generalize hu2 : va_up sy d ((sy d) + 1) = u2
      refine r_iinc hC (nI (c + 1)) 4 3 [(4, .int (nI (c + 1))), (9, .int (nI d)), (7, .long (m_floored (pa (6 * c + 2 * p + 1)) ((nI w).toInt64))), (5, .long (m_floored (pa (6 * c + 2 * p)) ((nI w).toInt64))), (0, .ref (b 0)), (1, .int (nI p)), (2, .int (nI N)), (3, .int (nI w))] dX6_laysCells_157 rfl (nI_add c 1) (Nat.le_of_ble_eq_true rfl) rfl 160 rfl ?_
      refine r_goto hC 23 dX6_laysCells_160 (by decide) ?_
      subst hu2
      refine rn.sub (lv' := [(4, .int (nI (c + 1))), (0, .ref (b 0)), (1, .int (nI p)), (2, .int (nI N)), (3, .int (nI w))]) [0, 4, 5, 6, 7] rfl ?_
      have hdn : ¬ d = L.length := fun e => c1 (by rw [e])
      have hN := clR_old hR (x := (m_floored (pa (6 * c + 2 * p)) (nI w).toInt64)) (y := (m_floored (pa (6 * c + 2 * p + 1)) (nI w).toInt64)) (fun e => hdn (hd.symm.trans e))
      rw [hd] at hN
      exact ih (c + 1) (clA L (m_floored (pa (6 * c + 2 * p)) (nI w).toInt64) (m_floored (pa (6 * c + 2 * p + 1)) (nI w).toInt64)) i cx cy (va_up sy d ((sy d) + 1)) (by omega) (by rw [hN.2]; omega) (by rw [hN.2]; exact h30) hN.1 hi (by rw [hZ, clL])
    · skip
      refine r_aload_n hC 4 dX6_laysCells_110 rfl 111 rfl ?_
      refine r_get (v := .ref (b 27)) hC kX6 27 rfl q2780 (fun _ h => h.get 0 rfl) rfl dX6_laysCells_111 114 rfl ?_
      refine r_iload hC 0 dX6_laysCells_114 rfl 116 rfl ?_
      refine r_lload hC 2 dX6_laysCells_116 rfl 118 rfl ?_
      refine r_last (J := xSt F V0 [(b 0, .inr (5, mF b i j)), (b 7, .inl (1, 5, .inr (.inl t))), (b 1, .inl (1, 111, .inr (.inl r))), (b 2, .inl (1, 111, .inr (.inl th))), (b 23, .inl (1, 6, .inr (.inl g))), (b 24, .inl (1, 21, .inr (.inl h0))), (b 25, .inl (1, 1806, .inr (.inl pa))), (b 27, .inl (1, 301, .inr (.inl (va_up cx d (m_floored (pa (6 * c + 2 * p)) ((nI w).toInt64)))))), (b 28, .inl (1, 301, .inr (.inl cy))), (b 29, .inl (0, 301, .inl sy))]) hC d (xix_n d (by omega) (Nat.le_of_ble_eq_true rfl)) (fun _ h => h.get 7 rfl) dX6_laysCells_118 (fun _ h => h.set 7 _ rfl) 119 rfl ?_
      generalize hu3 : va_up cx d (m_floored (pa (6 * c + 2 * p)) ((nI w).toInt64)) = u3
      refine r_aload_n hC 4 dX6_laysCells_119 rfl 120 rfl ?_
      refine r_get (v := .ref (b 28)) hC kX6 28 rfl q2781 (fun _ h => h.get 0 rfl) rfl dX6_laysCells_120 123 rfl ?_
      refine r_iload hC 0 dX6_laysCells_123 rfl 125 rfl ?_
      refine r_lload hC 1 dX6_laysCells_125 rfl 127 rfl ?_
      refine r_last (J := xSt F V0 [(b 0, .inr (5, mF b i j)), (b 7, .inl (1, 5, .inr (.inl t))), (b 1, .inl (1, 111, .inr (.inl r))), (b 2, .inl (1, 111, .inr (.inl th))), (b 23, .inl (1, 6, .inr (.inl g))), (b 24, .inl (1, 21, .inr (.inl h0))), (b 25, .inl (1, 1806, .inr (.inl pa))), (b 27, .inl (1, 301, .inr (.inl u3))), (b 28, .inl (1, 301, .inr (.inl (va_up cy d (m_floored (pa (6 * c + 2 * p + 1)) ((nI w).toInt64)))))), (b 29, .inl (0, 301, .inl sy))]) hC d (xix_n d (by omega) (Nat.le_of_ble_eq_true rfl)) (fun _ h => h.get 8 rfl) dX6_laysCells_127 (fun _ h => h.set 8 _ rfl) 128 rfl ?_
      generalize hu4 : va_up cy d (m_floored (pa (6 * c + 2 * p + 1)) ((nI w).toInt64)) = u4
      refine r_aload_n hC 4 dX6_laysCells_128 rfl 129 rfl ?_
      refine r_get (v := .ref (b 29)) hC kX6 29 rfl q2782 (fun _ h => h.get 0 rfl) rfl dX6_laysCells_129 132 rfl ?_
      refine r_iload hC 0 dX6_laysCells_132 rfl 134 rfl ?_
      refine r_iconst hC 0 dX6_laysCells_134 ic_0 135 rfl ?_
      refine r_iast (J := xSt F V0 [(b 0, .inr (5, mF b i j)), (b 7, .inl (1, 5, .inr (.inl t))), (b 1, .inl (1, 111, .inr (.inl r))), (b 2, .inl (1, 111, .inr (.inl th))), (b 23, .inl (1, 6, .inr (.inl g))), (b 24, .inl (1, 21, .inr (.inl h0))), (b 25, .inl (1, 1806, .inr (.inl pa))), (b 27, .inl (1, 301, .inr (.inl u3))), (b 28, .inl (1, 301, .inr (.inl u4))), (b 29, .inl (0, 301, .inl (va_up sy d 0)))]) hC d (xix_n d (by omega) (Nat.le_of_ble_eq_true rfl)) (fun _ h => h.get 9 rfl) dX6_laysCells_135 (fun _ h => h.set 9 _ rfl) 136 rfl ?_
      generalize hu5 : va_up sy d 0 = u5
      refine r_aload_n hC 4 dX6_laysCells_136 rfl 137 rfl ?_
      refine r_dup hC dX6_laysCells_137 rfl 138 rfl ?_
      refine r_get (v := .int (i 30)) hC kX6 30 rfl q2783 (fun _ h => h.get 0 rfl) rfl dX6_laysCells_138 141 rfl ?_
      refine r_eqi (y := nI L.length) (h30) ?_
      refine r_iconst hC 1 dX6_laysCells_141 ic_1 142 rfl ?_
      refine r_iadd hC (nI (L.length + 1)) dX6_laysCells_142  (nI_add L.length 1) 143 rfl ?_
      refine r_put (J := xSt F V0 [(b 0, .inr (5, mF b (va_up i 30 (nI (L.length + 1))) j)), (b 7, .inl (1, 5, .inr (.inl t))), (b 1, .inl (1, 111, .inr (.inl r))), (b 2, .inl (1, 111, .inr (.inl th))), (b 23, .inl (1, 6, .inr (.inl g))), (b 24, .inl (1, 21, .inr (.inl h0))), (b 25, .inl (1, 1806, .inr (.inl pa))), (b 27, .inl (1, 301, .inr (.inl u3))), (b 28, .inl (1, 301, .inr (.inl u4))), (b 29, .inl (0, 301, .inl u5))]) hC kX6 30 rfl q2783 rfl (fun _ h => h.get 0 rfl) (Nat.le_of_ble_eq_true rfl) rfl rfl dX6_laysCells_143 (fun _ h => h.set 0 _ rfl) 146 rfl ?_
      refine r_aload_n hC 4 dX6_laysCells_146 rfl 147 rfl ?_
      refine r_get (v := .ref (b 29)) hC kX6 29 rfl q2782 (fun _ h => h.get 0 rfl) rfl dX6_laysCells_147 150 rfl ?_
      refine r_iload hC 0 dX6_laysCells_150 rfl 152 rfl ?_
      refine r_dup2 hC dX6_laysCells_152 rfl rfl 153 rfl ?_
      refine r_iald hC d (xix_n d (by omega) (Nat.le_of_ble_eq_true rfl)) (fun _ h => h.get 9 rfl) (u5 d) (rfl) dX6_laysCells_153 154 rfl ?_
      refine r_iconst hC 1 dX6_laysCells_154 ic_1 155 rfl ?_
      refine r_iadd hC ((u5 d) + 1) dX6_laysCells_155  (rfl) 156 rfl ?_
      refine r_iast (J := xSt F V0 [(b 0, .inr (5, mF b (va_up i 30 (nI (L.length + 1))) j)), (b 7, .inl (1, 5, .inr (.inl t))), (b 1, .inl (1, 111, .inr (.inl r))), (b 2, .inl (1, 111, .inr (.inl th))), (b 23, .inl (1, 6, .inr (.inl g))), (b 24, .inl (1, 21, .inr (.inl h0))), (b 25, .inl (1, 1806, .inr (.inl pa))), (b 27, .inl (1, 301, .inr (.inl u3))), (b 28, .inl (1, 301, .inr (.inl u4))), (b 29, .inl (0, 301, .inl (va_up u5 d ((u5 d) + 1))))]) hC d (xix_n d (by omega) (Nat.le_of_ble_eq_true rfl)) (fun _ h => h.get 9 rfl) dX6_laysCells_156 (fun _ h => h.set 9 _ rfl) 157 rfl ?_
      generalize hu6 : va_up u5 d ((u5 d) + 1) = u6
      refine r_iinc hC (nI (c + 1)) 4 3 [(4, .int (nI (c + 1))), (9, .int (nI d)), (7, .long (m_floored (pa (6 * c + 2 * p + 1)) ((nI w).toInt64))), (5, .long (m_floored (pa (6 * c + 2 * p)) ((nI w).toInt64))), (0, .ref (b 0)), (1, .int (nI p)), (2, .int (nI N)), (3, .int (nI w))] dX6_laysCells_157 rfl (nI_add c 1) (Nat.le_of_ble_eq_true rfl) rfl 160 rfl ?_
      refine r_goto hC 23 dX6_laysCells_160 (by decide) ?_
      subst hu6
      subst hu5
      subst hu4
      subst hu3
      refine rn.sub (lv' := [(4, .int (nI (c + 1))), (0, .ref (b 0)), (1, .int (nI p)), (2, .int (nI N)), (3, .int (nI w))]) [0, 4, 5, 6, 7] rfl ?_
      have hdn : d = L.length := (nI_eq (by omega) (by omega)).mp c1
      have hN := clR_new hR (x := (m_floored (pa (6 * c + 2 * p)) (nI w).toInt64)) (y := (m_floored (pa (6 * c + 2 * p + 1)) (nI w).toInt64)) (hd.trans hdn)
      rw [hd] at hN
      exact ih (c + 1) (clA L (m_floored (pa (6 * c + 2 * p)) (nI w).toInt64) (m_floored (pa (6 * c + 2 * p + 1)) (nI w).toInt64)) (va_up i 30 (nI (L.length + 1))) (va_up cx d (m_floored (pa (6 * c + 2 * p)) ((nI w).toInt64))) (va_up cy d (m_floored (pa (6 * c + 2 * p + 1)) ((nI w).toInt64))) (va_up (va_up sy d 0) d (((va_up sy d 0) d) + 1)) (by omega) (by rw [hN.2]; omega) (by rw [hN.2]; exact up_same _ _ _) hN.1 (fun q hq => by rw [up_ne hq]; exact hi q hq) (by rw [hZ, clL])
set_option maxHeartbeats 4000000 in
set_option maxRecDepth 100000 in
theorem metX6_laysCellsG (l : Launch) (G : xG) (hG : xGood G) (b : Nat → Nat) (i : Nat → Int32) (j : Nat → Int64) (t r th g h0 pa cx cy : Nat → Int64) (sy : Nat → Int32) (p N w : Nat) (ht : tOK t) (hm : mOK r) (hp : p < 3) (hN : N ≤ 300) (hw : ¬ (nI w).toInt64 = 0) (hk : cellsOK t r pa N) : xWm l G yX6_laysCells (Cond.code yX6_laysCells cX6_laysCells 10 (some .boolean)) { frames := 8, locals := 201, cells := 0, slots := 0 } [.ref (b 0), .int (nI p), .int (nI N), .int (nI w)] [(b 0, .inr (5, mF b i j)), (b 7, .inl (1, 5, .inr (.inl t))), (b 1, .inl (1, 111, .inr (.inl r))), (b 2, .inl (1, 111, .inr (.inl th))), (b 23, .inl (1, 6, .inr (.inl g))), (b 24, .inl (1, 21, .inr (.inl h0))), (b 25, .inl (1, 1806, .inr (.inl pa))), (b 27, .inl (1, 301, .inr (.inl cx))), (b 28, .inl (1, 301, .inr (.inl cy))), (b 29, .inl (0, 301, .inl sy))] (fun v w' => ∃ (i' : Nat → Int32) (th' g' h' pa' cx' cy' : Nat → Int64) (sy' : Nat → Int32), v = some (.int 1) ∧ w' = [(b 0, .inr (5, mF b i' j)), (b 7, .inl (1, 5, .inr (.inl t))), (b 1, .inl (1, 111, .inr (.inl r))), (b 2, .inl (1, 111, .inr (.inl th'))), (b 23, .inl (1, 6, .inr (.inl g'))), (b 24, .inl (1, 21, .inr (.inl h'))), (b 25, .inl (1, 1806, .inr (.inl pa'))), (b 27, .inl (1, 301, .inr (.inl cx'))), (b 28, .inl (1, 301, .inr (.inl cy'))), (b 29, .inl (0, 301, .inl sy'))] ∧ (∀ q, q ≠ 30 → i' q = i q) ∧ i' 30 = nI (cellsQ t r pa p N w).length ∧ clR cx' cy' sy' (cellsQ t r pa p N w)) (fun _ _ => False) := by
  intro V hV
  refine xMet_of RX6 hG rfl (by decide) (Nat.le_of_ble_eq_true rfl) fun C hC hQ hX hl hg _ => ?_
  subst hl hg
  obtain ⟨V0, hV0⟩ : ∃ V0, V0 = V := ⟨_, rfl⟩
  obtain ⟨F, hF⟩ : ∃ F, F = xF [(b 0, .inr (5, mF b i j)), (b 7, .inl (1, 5, .inr (.inl t))), (b 1, .inl (1, 111, .inr (.inl r))), (b 2, .inl (1, 111, .inr (.inl th))), (b 23, .inl (1, 6, .inr (.inl g))), (b 24, .inl (1, 21, .inr (.inl h0))), (b 25, .inl (1, 1806, .inr (.inl pa))), (b 27, .inl (1, 301, .inr (.inl cx))), (b 28, .inl (1, 301, .inr (.inl cy))), (b 29, .inl (0, 301, .inl sy))] := ⟨_, rfl⟩
  refine rn.mono (J := xSt F V0 [(b 0, .inr (5, mF b i j)), (b 7, .inl (1, 5, .inr (.inl t))), (b 1, .inl (1, 111, .inr (.inl r))), (b 2, .inl (1, 111, .inr (.inl th))), (b 23, .inl (1, 6, .inr (.inl g))), (b 24, .inl (1, 21, .inr (.inl h0))), (b 25, .inl (1, 1806, .inr (.inl pa))), (b 27, .inl (1, 301, .inr (.inl cx))), (b 28, .inl (1, 301, .inr (.inl cy))), (b 29, .inl (0, 301, .inl sy))]) (fun V9 h => by rw [h, hV0, hF]; exact hV.st) ?_
  show rn C (xSt F V0 [(b 0, .inr (5, mF b i j)), (b 7, .inl (1, 5, .inr (.inl t))), (b 1, .inl (1, 111, .inr (.inl r))), (b 2, .inl (1, 111, .inr (.inl th))), (b 23, .inl (1, 6, .inr (.inl g))), (b 24, .inl (1, 21, .inr (.inl h0))), (b 25, .inl (1, 1806, .inr (.inl pa))), (b 27, .inl (1, 301, .inr (.inl cx))), (b 28, .inl (1, 301, .inr (.inl cy))), (b 29, .inl (0, 301, .inl sy))]) 0 0 0 [(0, .ref (b 0)), (1, .int (nI p)), (2, .int (nI N)), (3, .int (nI w))] []
  refine r_aload_n hC 0 dX6_laysCells_0 rfl 1 rfl ?_
  refine r_iconst hC 0 dX6_laysCells_1 ic_0 2 rfl ?_
  refine r_put (J := xSt F V0 [(b 0, .inr (5, mF b (va_up i 30 0) j)), (b 7, .inl (1, 5, .inr (.inl t))), (b 1, .inl (1, 111, .inr (.inl r))), (b 2, .inl (1, 111, .inr (.inl th))), (b 23, .inl (1, 6, .inr (.inl g))), (b 24, .inl (1, 21, .inr (.inl h0))), (b 25, .inl (1, 1806, .inr (.inl pa))), (b 27, .inl (1, 301, .inr (.inl cx))), (b 28, .inl (1, 301, .inr (.inl cy))), (b 29, .inl (0, 301, .inl sy))]) hC kX6 30 rfl q2783 rfl (fun _ h => h.get 0 rfl) (Nat.le_of_ble_eq_true rfl) rfl rfl dX6_laysCells_2 (fun _ h => h.set 0 _ rfl) 5 rfl ?_
  refine r_aload_n hC 0 dX6_laysCells_5 rfl 6 rfl ?_
  refine r_aload_n hC 0 dX6_laysCells_6 rfl 7 rfl ?_
  refine r_get (v := .ref (b 1)) hC kX6 1 rfl q2754 (fun _ h => h.get 0 rfl) rfl dX6_laysCells_7 10 rfl ?_
  refine r_iload_n hC 2 dX6_laysCells_10 rfl 11 rfl ?_
  refine r_invVw hC kX6 (b 0) [.ref (b 1), .int (nI N)] [(b 27, .inl (1, 301, .inr (.inl cx))), (b 28, .inl (1, 301, .inr (.inl cy))), (b 29, .inl (0, 301, .inl sy))] mVX6_laysPath q3182 0 rfl (metX6_laysPath _ _ hG b _ _ (b 1) _ _ _ _ _ _ N ht hm (by omega)) [0, 1, 3, 4, 5, 6, 2] [7, 8, 9] rfl rfl rfl rfl (by decide) ⟨rfl, rfl⟩ 0 0 rfl rfl (Nat.le_of_ble_eq_true rfl) (Nat.le_of_ble_eq_true rfl) rfl (Nat.le_of_ble_eq_true rfl) dX6_laysCells_11 14 rfl (fun v4 w5 h6 => ?_) (fun _ _ h => h.elim)
  obtain ⟨th1, g2, h3, rfl, rfl⟩ := h6
  show rn C (xSt F V0 [(b 27, .inl (1, 301, .inr (.inl cx))), (b 28, .inl (1, 301, .inr (.inl cy))), (b 29, .inl (0, 301, .inl sy)), (b 0, .inr (5, mF b (va_up i 30 0) j)), (b 7, .inl (1, 5, .inr (.inl t))), (b 2, .inl (1, 111, .inr (.inl th1))), (b 23, .inl (1, 6, .inr (.inl g2))), (b 24, .inl (1, 21, .inr (.inl h3))), (b 25, .inl (1, 1806, .inr (.inl ((pathQ t r pa N).2.2)))), (b 1, .inl (1, 111, .inr (.inl r)))]) 0 0 14 [(0, .ref (b 0)), (1, .int (nI p)), (2, .int (nI N)), (3, .int (nI w))] [.int (nI ((pathQ t r pa N).1))]
  refine r_iload_n hC 2 dX6_laysCells_14 rfl 15 rfl ?_
  refine r_icge hC 20 dX6_laysCells_15 (by decide) 18 rfl (fun _ => ?_) (fun h => absurd (by rw [show (pathQ t r pa N).1 = N from hk]; exact Int32.le_refl _) h)
  refine r_iconst hC 0 dX6_laysCells_20 ic_0 21 rfl ?_
  refine r_istore hC 4 [(4, .int 0), (0, .ref (b 0)), (1, .int (nI p)), (2, .int (nI N)), (3, .int (nI w))] dX6_laysCells_21 (Nat.le_of_ble_eq_true rfl) rfl 23 rfl ?_
  refine rn.mono (J := xSt F V0 [(b 0, .inr (5, mF b (va_up i 30 0) j)), (b 7, .inl (1, 5, .inr (.inl t))), (b 1, .inl (1, 111, .inr (.inl r))), (b 2, .inl (1, 111, .inr (.inl th1))), (b 23, .inl (1, 6, .inr (.inl g2))), (b 24, .inl (1, 21, .inr (.inl h3))), (b 25, .inl (1, 1806, .inr (.inl ((pathQ t r pa N).2.2)))), (b 27, .inl (1, 301, .inr (.inl cx))), (b 28, .inl (1, 301, .inr (.inl cy))), (b 29, .inl (0, 301, .inl sy))]) (fun _ h => h.sub [3, 4, 9, 5, 6, 7, 8, 0, 1, 2] rfl rfl) ?_
  refine rn.sub (lv' := [(4, .int 0), (0, .ref (b 0)), (1, .int (nI p)), (2, .int (nI N)), (3, .int (nI w))]) [0, 1, 2, 3, 4] rfl ?_
  refine lpX6_cells hG hC b (va_up i 30 0) j t r th1 g2 h3 ((pathQ t r pa N).2.2) p N w hp hN hw (cellsQ t r pa p N w) (fun i9 cx9 cy9 sy9 r9 e9 f9 => ?_) (N + 1) 0 [] (va_up i 30 0) cx cy sy (by omega) (Nat.le_refl 0) (up_same _ _ _) clR_nil (fun _ _ => rfl) rfl
  refine r_iconst hC 1 dX6_laysCells_163 ic_1 164 rfl ?_
  exact r_zret hC (by decide) (Nat.le_of_ble_eq_true rfl) (Nat.le_of_ble_eq_true rfl) (fun V9 h => hQ _ _ ⟨[(b 0, .inr (5, mF b i9 j)), (b 7, .inl (1, 5, .inr (.inl t))), (b 1, .inl (1, 111, .inr (.inl r))), (b 2, .inl (1, 111, .inr (.inl th1))), (b 23, .inl (1, 6, .inr (.inl g2))), (b 24, .inl (1, 21, .inr (.inl h3))), (b 25, .inl (1, 1806, .inr (.inl ((pathQ t r pa N).2.2)))), (b 27, .inl (1, 301, .inr (.inl cx9))), (b 28, .inl (1, 301, .inr (.inl cy9))), (b 29, .inl (0, 301, .inl sy9))], ⟨_, _, _, _, _, _, _, _, rfl, rfl, (fun q hq => by rw [f9 q hq, up_ne hq]), e9, r9⟩, by rw [← hV0, ← hF]; exact h⟩) dX6_laysCells_164
set_option maxHeartbeats 4000000 in
set_option maxRecDepth 100000 in
theorem metX6_laysCellsN (l : Launch) (G : xG) (hG : xGood G) (b : Nat → Nat) (i : Nat → Int32) (j : Nat → Int64) (t r th g h0 pa cx cy : Nat → Int64) (sy : Nat → Int32) (p N w : Nat) (ht : tOK t) (hm : mOK r) (hp : p < 3) (hN : N ≤ 300) (hw : ¬ (nI w).toInt64 = 0) (hk : ¬ cellsOK t r pa N) : xWm l G yX6_laysCells (Cond.code yX6_laysCells cX6_laysCells 10 (some .boolean)) { frames := 8, locals := 201, cells := 0, slots := 0 } [.ref (b 0), .int (nI p), .int (nI N), .int (nI w)] [(b 0, .inr (5, mF b i j)), (b 7, .inl (1, 5, .inr (.inl t))), (b 1, .inl (1, 111, .inr (.inl r))), (b 2, .inl (1, 111, .inr (.inl th))), (b 23, .inl (1, 6, .inr (.inl g))), (b 24, .inl (1, 21, .inr (.inl h0))), (b 25, .inl (1, 1806, .inr (.inl pa))), (b 27, .inl (1, 301, .inr (.inl cx))), (b 28, .inl (1, 301, .inr (.inl cy))), (b 29, .inl (0, 301, .inl sy))] (fun v w' => ∃ (i' : Nat → Int32) (th' g' h' pa' cx' cy' : Nat → Int64) (sy' : Nat → Int32), v = some (.int 0) ∧ w' = [(b 0, .inr (5, mF b i' j)), (b 7, .inl (1, 5, .inr (.inl t))), (b 1, .inl (1, 111, .inr (.inl r))), (b 2, .inl (1, 111, .inr (.inl th'))), (b 23, .inl (1, 6, .inr (.inl g'))), (b 24, .inl (1, 21, .inr (.inl h'))), (b 25, .inl (1, 1806, .inr (.inl pa'))), (b 27, .inl (1, 301, .inr (.inl cx'))), (b 28, .inl (1, 301, .inr (.inl cy'))), (b 29, .inl (0, 301, .inl sy'))] ∧ (∀ q, q ≠ 30 → i' q = i q)) (fun _ _ => False) := by
  intro V hV
  refine xMet_of RX6 hG rfl (by decide) (Nat.le_of_ble_eq_true rfl) fun C hC hQ hX hl hg _ => ?_
  subst hl hg
  have hlt : (pathQ t r pa N).1 < N := Nat.lt_of_le_of_ne pathL_le hk
  obtain ⟨V0, hV0⟩ : ∃ V0, V0 = V := ⟨_, rfl⟩
  obtain ⟨F, hF⟩ : ∃ F, F = xF [(b 0, .inr (5, mF b i j)), (b 7, .inl (1, 5, .inr (.inl t))), (b 1, .inl (1, 111, .inr (.inl r))), (b 2, .inl (1, 111, .inr (.inl th))), (b 23, .inl (1, 6, .inr (.inl g))), (b 24, .inl (1, 21, .inr (.inl h0))), (b 25, .inl (1, 1806, .inr (.inl pa))), (b 27, .inl (1, 301, .inr (.inl cx))), (b 28, .inl (1, 301, .inr (.inl cy))), (b 29, .inl (0, 301, .inl sy))] := ⟨_, rfl⟩
  refine rn.mono (J := xSt F V0 [(b 0, .inr (5, mF b i j)), (b 7, .inl (1, 5, .inr (.inl t))), (b 1, .inl (1, 111, .inr (.inl r))), (b 2, .inl (1, 111, .inr (.inl th))), (b 23, .inl (1, 6, .inr (.inl g))), (b 24, .inl (1, 21, .inr (.inl h0))), (b 25, .inl (1, 1806, .inr (.inl pa))), (b 27, .inl (1, 301, .inr (.inl cx))), (b 28, .inl (1, 301, .inr (.inl cy))), (b 29, .inl (0, 301, .inl sy))]) (fun V9 h => by rw [h, hV0, hF]; exact hV.st) ?_
  show rn C (xSt F V0 [(b 0, .inr (5, mF b i j)), (b 7, .inl (1, 5, .inr (.inl t))), (b 1, .inl (1, 111, .inr (.inl r))), (b 2, .inl (1, 111, .inr (.inl th))), (b 23, .inl (1, 6, .inr (.inl g))), (b 24, .inl (1, 21, .inr (.inl h0))), (b 25, .inl (1, 1806, .inr (.inl pa))), (b 27, .inl (1, 301, .inr (.inl cx))), (b 28, .inl (1, 301, .inr (.inl cy))), (b 29, .inl (0, 301, .inl sy))]) 0 0 0 [(0, .ref (b 0)), (1, .int (nI p)), (2, .int (nI N)), (3, .int (nI w))] []
  refine r_aload_n hC 0 dX6_laysCells_0 rfl 1 rfl ?_
  refine r_iconst hC 0 dX6_laysCells_1 ic_0 2 rfl ?_
  refine r_put (J := xSt F V0 [(b 0, .inr (5, mF b (va_up i 30 0) j)), (b 7, .inl (1, 5, .inr (.inl t))), (b 1, .inl (1, 111, .inr (.inl r))), (b 2, .inl (1, 111, .inr (.inl th))), (b 23, .inl (1, 6, .inr (.inl g))), (b 24, .inl (1, 21, .inr (.inl h0))), (b 25, .inl (1, 1806, .inr (.inl pa))), (b 27, .inl (1, 301, .inr (.inl cx))), (b 28, .inl (1, 301, .inr (.inl cy))), (b 29, .inl (0, 301, .inl sy))]) hC kX6 30 rfl q2783 rfl (fun _ h => h.get 0 rfl) (Nat.le_of_ble_eq_true rfl) rfl rfl dX6_laysCells_2 (fun _ h => h.set 0 _ rfl) 5 rfl ?_
  refine r_aload_n hC 0 dX6_laysCells_5 rfl 6 rfl ?_
  refine r_aload_n hC 0 dX6_laysCells_6 rfl 7 rfl ?_
  refine r_get (v := .ref (b 1)) hC kX6 1 rfl q2754 (fun _ h => h.get 0 rfl) rfl dX6_laysCells_7 10 rfl ?_
  refine r_iload_n hC 2 dX6_laysCells_10 rfl 11 rfl ?_
  refine r_invVw hC kX6 (b 0) [.ref (b 1), .int (nI N)] [(b 27, .inl (1, 301, .inr (.inl cx))), (b 28, .inl (1, 301, .inr (.inl cy))), (b 29, .inl (0, 301, .inl sy))] mVX6_laysPath q3182 0 rfl (metX6_laysPath _ _ hG b _ _ (b 1) _ _ _ _ _ _ N ht hm (by omega)) [0, 1, 3, 4, 5, 6, 2] [7, 8, 9] rfl rfl rfl rfl (by decide) ⟨rfl, rfl⟩ 0 0 rfl rfl (Nat.le_of_ble_eq_true rfl) (Nat.le_of_ble_eq_true rfl) rfl (Nat.le_of_ble_eq_true rfl) dX6_laysCells_11 14 rfl (fun v4 w5 h6 => ?_) (fun _ _ h => h.elim)
  obtain ⟨th1, g2, h3, rfl, rfl⟩ := h6
  show rn C (xSt F V0 [(b 27, .inl (1, 301, .inr (.inl cx))), (b 28, .inl (1, 301, .inr (.inl cy))), (b 29, .inl (0, 301, .inl sy)), (b 0, .inr (5, mF b (va_up i 30 0) j)), (b 7, .inl (1, 5, .inr (.inl t))), (b 2, .inl (1, 111, .inr (.inl th1))), (b 23, .inl (1, 6, .inr (.inl g2))), (b 24, .inl (1, 21, .inr (.inl h3))), (b 25, .inl (1, 1806, .inr (.inl ((pathQ t r pa N).2.2)))), (b 1, .inl (1, 111, .inr (.inl r)))]) 0 0 14 [(0, .ref (b 0)), (1, .int (nI p)), (2, .int (nI N)), (3, .int (nI w))] [.int (nI ((pathQ t r pa N).1))]
  refine r_iload_n hC 2 dX6_laysCells_14 rfl 15 rfl ?_
  refine r_icge hC 20 dX6_laysCells_15 (by decide) 18 rfl (fun h => absurd h (nI_ge (by omega) (by omega))) (fun _ => ?_)
  refine r_iconst hC 0 dX6_laysCells_18 ic_0 19 rfl ?_
  exact r_zret hC (by decide) (Nat.le_of_ble_eq_true rfl) (Nat.le_of_ble_eq_true rfl) (fun V9 h => hQ _ _ ⟨[(b 0, .inr (5, mF b (va_up i 30 0) j)), (b 7, .inl (1, 5, .inr (.inl t))), (b 1, .inl (1, 111, .inr (.inl r))), (b 2, .inl (1, 111, .inr (.inl th1))), (b 23, .inl (1, 6, .inr (.inl g2))), (b 24, .inl (1, 21, .inr (.inl h3))), (b 25, .inl (1, 1806, .inr (.inl ((pathQ t r pa N).2.2)))), (b 27, .inl (1, 301, .inr (.inl cx))), (b 28, .inl (1, 301, .inr (.inl cy))), (b 29, .inl (0, 301, .inl sy))], ⟨_, _, _, _, _, _, _, _, rfl, rfl, (fun q hq => by rw [up_ne hq])⟩, by rw [← hV0, ← hF]; exact (h.sub [3, 4, 9, 5, 6, 7, 8, 0, 1, 2] rfl rfl)⟩) dX6_laysCells_19
theorem cw_n0 {w : Nat} (h1 : 1000 ≤ w) (h2 : w ≤ 100000) : ¬ (nI w).toInt64 = 0 := fun h => by
  have := congrArg Int64.toInt h
  rw [nIl_toInt (by omega)] at this
  have e : (0 : Int64).toInt = 0 := rfl
  omega
set_option maxHeartbeats 4000000 in
set_option maxRecDepth 100000 in
theorem metX6_cellCountG (l : Launch) (G : xG) (hG : xGood G) (b : Nat → Nat) (i : Nat → Int32) (j : Nat → Int64) (t r th g h0 pa cx cy : Nat → Int64) (sy : Nat → Int32) (p N w : Nat) (ht : tOK t) (hm : mOK r) (hp : p < 3) (hN : N ≤ 300) (hw1 : 1000 ≤ w) (hw2 : w ≤ 100000) (hk : cellsOK t r pa N) : xWm l G yX6_cellCount (Cond.code yX6_cellCount cX6_cellCount 4 (some .int)) { frames := 9, locals := 230, cells := 0, slots := 0 } [.ref (b 0), .int (nI p), .int (nI N), .int (nI w)] [(b 0, .inr (5, mF b i j)), (b 7, .inl (1, 5, .inr (.inl t))), (b 1, .inl (1, 111, .inr (.inl r))), (b 2, .inl (1, 111, .inr (.inl th))), (b 23, .inl (1, 6, .inr (.inl g))), (b 24, .inl (1, 21, .inr (.inl h0))), (b 25, .inl (1, 1806, .inr (.inl pa))), (b 27, .inl (1, 301, .inr (.inl cx))), (b 28, .inl (1, 301, .inr (.inl cy))), (b 29, .inl (0, 301, .inl sy))] (fun v w' => ∃ (i' : Nat → Int32) (th' g' h' pa' cx' cy' : Nat → Int64) (sy' : Nat → Int32), v = some (.int (nI (cellsQ t r pa p N w).length)) ∧ w' = [(b 0, .inr (5, mF b i' j)), (b 7, .inl (1, 5, .inr (.inl t))), (b 1, .inl (1, 111, .inr (.inl r))), (b 2, .inl (1, 111, .inr (.inl th'))), (b 23, .inl (1, 6, .inr (.inl g'))), (b 24, .inl (1, 21, .inr (.inl h'))), (b 25, .inl (1, 1806, .inr (.inl pa'))), (b 27, .inl (1, 301, .inr (.inl cx'))), (b 28, .inl (1, 301, .inr (.inl cy'))), (b 29, .inl (0, 301, .inl sy'))] ∧ (∀ q, q ≠ 30 → i' q = (va_up i 0 0) q)) (fun _ _ => False) := by
  intro V hV
  refine xMet_of RX6 hG rfl (by decide) (Nat.le_of_ble_eq_true rfl) fun C hC hQ hX hl hg _ => ?_
  subst hl hg
  obtain ⟨V0, hV0⟩ : ∃ V0, V0 = V := ⟨_, rfl⟩
  obtain ⟨F, hF⟩ : ∃ F, F = xF [(b 0, .inr (5, mF b i j)), (b 7, .inl (1, 5, .inr (.inl t))), (b 1, .inl (1, 111, .inr (.inl r))), (b 2, .inl (1, 111, .inr (.inl th))), (b 23, .inl (1, 6, .inr (.inl g))), (b 24, .inl (1, 21, .inr (.inl h0))), (b 25, .inl (1, 1806, .inr (.inl pa))), (b 27, .inl (1, 301, .inr (.inl cx))), (b 28, .inl (1, 301, .inr (.inl cy))), (b 29, .inl (0, 301, .inl sy))] := ⟨_, rfl⟩
  refine rn.mono (J := xSt F V0 [(b 0, .inr (5, mF b i j)), (b 7, .inl (1, 5, .inr (.inl t))), (b 1, .inl (1, 111, .inr (.inl r))), (b 2, .inl (1, 111, .inr (.inl th))), (b 23, .inl (1, 6, .inr (.inl g))), (b 24, .inl (1, 21, .inr (.inl h0))), (b 25, .inl (1, 1806, .inr (.inl pa))), (b 27, .inl (1, 301, .inr (.inl cx))), (b 28, .inl (1, 301, .inr (.inl cy))), (b 29, .inl (0, 301, .inl sy))]) (fun V9 h => by rw [h, hV0, hF]; exact hV.st) ?_
  show rn C (xSt F V0 [(b 0, .inr (5, mF b i j)), (b 7, .inl (1, 5, .inr (.inl t))), (b 1, .inl (1, 111, .inr (.inl r))), (b 2, .inl (1, 111, .inr (.inl th))), (b 23, .inl (1, 6, .inr (.inl g))), (b 24, .inl (1, 21, .inr (.inl h0))), (b 25, .inl (1, 1806, .inr (.inl pa))), (b 27, .inl (1, 301, .inr (.inl cx))), (b 28, .inl (1, 301, .inr (.inl cy))), (b 29, .inl (0, 301, .inl sy))]) 0 0 0 [(0, .ref (b 0)), (1, .int (nI p)), (2, .int (nI N)), (3, .int (nI w))] []
  refine r_aload_n hC 0 dX6_cellCount_0 rfl 1 rfl ?_
  refine r_iload_n hC 1 dX6_cellCount_1 rfl 2 rfl ?_
  refine r_invVw hC kX6 (b 0) [.int (nI p)] [(b 7, .inl (1, 5, .inr (.inl t))), (b 1, .inl (1, 111, .inr (.inl r))), (b 2, .inl (1, 111, .inr (.inl th))), (b 23, .inl (1, 6, .inr (.inl g))), (b 24, .inl (1, 21, .inr (.inl h0))), (b 25, .inl (1, 1806, .inr (.inl pa))), (b 27, .inl (1, 301, .inr (.inl cx))), (b 28, .inl (1, 301, .inr (.inl cy))), (b 29, .inl (0, 301, .inl sy))] mVX6_noBody q2996 0 rfl (metX6_noBody0 _ _ hG b _ _ p (by omega)) [0] [1, 2, 3, 4, 5, 6, 7, 8, 9] rfl rfl rfl rfl (by decide) ⟨rfl, rfl⟩ 0 0 rfl rfl (Nat.le_of_ble_eq_true rfl) (Nat.le_of_ble_eq_true rfl) rfl (Nat.le_of_ble_eq_true rfl) dX6_cellCount_2 5 rfl (fun v1 w2 h3 => ?_) (fun _ _ h => h.elim)
  obtain ⟨rfl, rfl⟩ := h3
  show rn C (xSt F V0 [(b 7, .inl (1, 5, .inr (.inl t))), (b 1, .inl (1, 111, .inr (.inl r))), (b 2, .inl (1, 111, .inr (.inl th))), (b 23, .inl (1, 6, .inr (.inl g))), (b 24, .inl (1, 21, .inr (.inl h0))), (b 25, .inl (1, 1806, .inr (.inl pa))), (b 27, .inl (1, 301, .inr (.inl cx))), (b 28, .inl (1, 301, .inr (.inl cy))), (b 29, .inl (0, 301, .inl sy)), (b 0, .inr (5, mF b (va_up i 0 0) j))]) 0 0 5 [(0, .ref (b 0)), (1, .int (nI p)), (2, .int (nI N)), (3, .int (nI w))] [.int 0]
  refine r_ifne hC 47 dX6_cellCount_5 (by decide) 8 rfl (fun h => absurd h (by decide)) (fun _ => ?_)
  refine r_aload_n hC 0 dX6_cellCount_8 rfl 9 rfl ?_
  refine r_iload_n hC 2 dX6_cellCount_9 rfl 10 rfl ?_
  refine r_i2l hC ((nI N).toInt64) dX6_cellCount_10 (rfl) 11 rfl ?_
  refine r_lconst hC 0 dX6_cellCount_11 lc_0 12 rfl ?_
  refine r_ldc2 hC q3174 dX6_cellCount_12 15 rfl ?_
  refine r_invSr hC [.long ((nI N).toInt64), .long 0, .long 300] (.int 1) mSX6_in q2891 (metX6_inB _ _ hG ((nI N).toInt64) 0 300 1 (in_n (N := 300) (by omega) rfl (by decide))) (fun _ _ => xIn.nil) ⟨rfl, rfl⟩ 0 0 rfl rfl (Nat.le_of_ble_eq_true rfl) (Nat.le_of_ble_eq_true rfl) rfl (Nat.le_of_ble_eq_true rfl) dX6_cellCount_15 18 rfl ?_
  refine r_ifeq hC 39 dX6_cellCount_18 (by decide) 21 rfl (fun h => absurd h (by decide)) (fun _ => ?_)
  refine r_iload_n hC 3 dX6_cellCount_21 rfl 22 rfl ?_
  refine r_i2l hC ((nI w).toInt64) dX6_cellCount_22 (rfl) 23 rfl ?_
  refine r_ldc2 hC q2708 dX6_cellCount_23 26 rfl ?_
  refine r_ldc2 hC q2983 dX6_cellCount_26 29 rfl ?_
  refine r_invSr hC [.long ((nI w).toInt64), .long 1000, .long 100000] (.int 1) mSX6_in q2891 (metX6_inB _ _ hG ((nI w).toInt64) 1000 100000 1 (in_lo (L := 1000) (N := 100000) (by omega) (by omega) rfl rfl (by decide))) (fun _ _ => xIn.nil) ⟨rfl, rfl⟩ 0 0 rfl rfl (Nat.le_of_ble_eq_true rfl) (Nat.le_of_ble_eq_true rfl) rfl (Nat.le_of_ble_eq_true rfl) dX6_cellCount_29 32 rfl ?_
  refine r_ifeq hC 39 dX6_cellCount_32 (by decide) 35 rfl (fun h => absurd h (by decide)) (fun _ => ?_)
  refine r_iconst hC 1 dX6_cellCount_35 ic_1 36 rfl ?_
  refine r_goto hC 40 dX6_cellCount_36 (by decide) ?_
  refine r_iconst hC 2 dX6_cellCount_40 ic_2 41 rfl ?_
  refine r_invVr hC kX6 (b 0) [.int 1, .int 2] (.int 0) mVX6_fails q2894 (fun _ h => h.get 9 rfl) (metX6_fails1 _ _ hG b _ _ 2) (fun _ h => h.in.sub [9] rfl rfl) ⟨rfl, rfl⟩ 0 0 rfl rfl (Nat.le_of_ble_eq_true rfl) (Nat.le_of_ble_eq_true rfl) rfl (Nat.le_of_ble_eq_true rfl) dX6_cellCount_41 44 rfl ?_
  refine r_ifeq hC 49 dX6_cellCount_44 (by decide) 47 rfl (fun _ => ?_) (fun h => absurd h (by decide))
  refine r_aload_n hC 0 dX6_cellCount_49 rfl 50 rfl ?_
  refine r_iload_n hC 1 dX6_cellCount_50 rfl 51 rfl ?_
  refine r_iload_n hC 2 dX6_cellCount_51 rfl 52 rfl ?_
  refine r_iload_n hC 3 dX6_cellCount_52 rfl 53 rfl ?_
  refine r_invVw hC kX6 (b 0) [.int (nI p), .int (nI N), .int (nI w)] [] mVX6_laysCells q3264 9 rfl (metX6_laysCellsG _ _ hG b (va_up i 0 0) j t r th g h0 pa cx cy sy p N w ht hm hp hN (cw_n0 hw1 hw2) hk) [9, 0, 1, 2, 3, 4, 5, 6, 7, 8] [] rfl rfl rfl rfl (by decide) ⟨rfl, rfl⟩ 0 0 rfl rfl (Nat.le_of_ble_eq_true rfl) (Nat.le_of_ble_eq_true rfl) rfl (Nat.le_of_ble_eq_true rfl) dX6_cellCount_53 56 rfl (fun v4 w5 h6 => ?_) (fun _ _ h => h.elim)
  obtain ⟨i9, th9, g9, h9, pa9, cx9, cy9, sy9, rfl, rfl, f9, e9, r9⟩ := h6
  show rn C (xSt F V0 [(b 0, .inr (5, mF b i9 j)), (b 7, .inl (1, 5, .inr (.inl t))), (b 1, .inl (1, 111, .inr (.inl r))), (b 2, .inl (1, 111, .inr (.inl th9))), (b 23, .inl (1, 6, .inr (.inl g9))), (b 24, .inl (1, 21, .inr (.inl h9))), (b 25, .inl (1, 1806, .inr (.inl pa9))), (b 27, .inl (1, 301, .inr (.inl cx9))), (b 28, .inl (1, 301, .inr (.inl cy9))), (b 29, .inl (0, 301, .inl sy9))]) 0 0 56 [(0, .ref (b 0)), (1, .int (nI p)), (2, .int (nI N)), (3, .int (nI w))] [.int 1]
  refine r_ifeq hC 66 dX6_cellCount_56 (by decide) 59 rfl (fun h => absurd h (by decide)) (fun _ => ?_)
  refine r_aload_n hC 0 dX6_cellCount_59 rfl 60 rfl ?_
  refine r_get (v := .int (i9 30)) hC kX6 30 rfl q2783 (fun _ h => h.get 0 rfl) rfl dX6_cellCount_60 63 rfl ?_
  refine r_goto hC 67 dX6_cellCount_63 (by decide) ?_
  exact r_iret hC (Nat.le_of_ble_eq_true rfl) (Nat.le_of_ble_eq_true rfl) (fun V9 h => hQ _ _ ⟨[(b 0, .inr (5, mF b i9 j)), (b 7, .inl (1, 5, .inr (.inl t))), (b 1, .inl (1, 111, .inr (.inl r))), (b 2, .inl (1, 111, .inr (.inl th9))), (b 23, .inl (1, 6, .inr (.inl g9))), (b 24, .inl (1, 21, .inr (.inl h9))), (b 25, .inl (1, 1806, .inr (.inl pa9))), (b 27, .inl (1, 301, .inr (.inl cx9))), (b 28, .inl (1, 301, .inr (.inl cy9))), (b 29, .inl (0, 301, .inl sy9))], ⟨_, _, _, _, _, _, _, _, by rw [e9], rfl, f9⟩, by rw [← hV0, ← hF]; exact h⟩) dX6_cellCount_67
set_option maxHeartbeats 4000000 in
set_option maxRecDepth 100000 in
theorem metX6_cellCountN (l : Launch) (G : xG) (hG : xGood G) (b : Nat → Nat) (i : Nat → Int32) (j : Nat → Int64) (t r th g h0 pa cx cy : Nat → Int64) (sy : Nat → Int32) (p N w : Nat) (ht : tOK t) (hm : mOK r) (hp : p < 3) (hN : N ≤ 300) (hw1 : 1000 ≤ w) (hw2 : w ≤ 100000) (hk : ¬ cellsOK t r pa N) : xWm l G yX6_cellCount (Cond.code yX6_cellCount cX6_cellCount 4 (some .int)) { frames := 9, locals := 230, cells := 0, slots := 0 } [.ref (b 0), .int (nI p), .int (nI N), .int (nI w)] [(b 0, .inr (5, mF b i j)), (b 7, .inl (1, 5, .inr (.inl t))), (b 1, .inl (1, 111, .inr (.inl r))), (b 2, .inl (1, 111, .inr (.inl th))), (b 23, .inl (1, 6, .inr (.inl g))), (b 24, .inl (1, 21, .inr (.inl h0))), (b 25, .inl (1, 1806, .inr (.inl pa))), (b 27, .inl (1, 301, .inr (.inl cx))), (b 28, .inl (1, 301, .inr (.inl cy))), (b 29, .inl (0, 301, .inl sy))] (fun v w' => ∃ (i' : Nat → Int32) (th' g' h' pa' cx' cy' : Nat → Int64) (sy' : Nat → Int32), v = some (.int (-1)) ∧ w' = [(b 0, .inr (5, mF b i' j)), (b 7, .inl (1, 5, .inr (.inl t))), (b 1, .inl (1, 111, .inr (.inl r))), (b 2, .inl (1, 111, .inr (.inl th'))), (b 23, .inl (1, 6, .inr (.inl g'))), (b 24, .inl (1, 21, .inr (.inl h'))), (b 25, .inl (1, 1806, .inr (.inl pa'))), (b 27, .inl (1, 301, .inr (.inl cx'))), (b 28, .inl (1, 301, .inr (.inl cy'))), (b 29, .inl (0, 301, .inl sy'))] ∧ (∀ q, q ≠ 30 → i' q = (va_up i 0 0) q)) (fun _ _ => False) := by
  intro V hV
  refine xMet_of RX6 hG rfl (by decide) (Nat.le_of_ble_eq_true rfl) fun C hC hQ hX hl hg _ => ?_
  subst hl hg
  obtain ⟨V0, hV0⟩ : ∃ V0, V0 = V := ⟨_, rfl⟩
  obtain ⟨F, hF⟩ : ∃ F, F = xF [(b 0, .inr (5, mF b i j)), (b 7, .inl (1, 5, .inr (.inl t))), (b 1, .inl (1, 111, .inr (.inl r))), (b 2, .inl (1, 111, .inr (.inl th))), (b 23, .inl (1, 6, .inr (.inl g))), (b 24, .inl (1, 21, .inr (.inl h0))), (b 25, .inl (1, 1806, .inr (.inl pa))), (b 27, .inl (1, 301, .inr (.inl cx))), (b 28, .inl (1, 301, .inr (.inl cy))), (b 29, .inl (0, 301, .inl sy))] := ⟨_, rfl⟩
  refine rn.mono (J := xSt F V0 [(b 0, .inr (5, mF b i j)), (b 7, .inl (1, 5, .inr (.inl t))), (b 1, .inl (1, 111, .inr (.inl r))), (b 2, .inl (1, 111, .inr (.inl th))), (b 23, .inl (1, 6, .inr (.inl g))), (b 24, .inl (1, 21, .inr (.inl h0))), (b 25, .inl (1, 1806, .inr (.inl pa))), (b 27, .inl (1, 301, .inr (.inl cx))), (b 28, .inl (1, 301, .inr (.inl cy))), (b 29, .inl (0, 301, .inl sy))]) (fun V9 h => by rw [h, hV0, hF]; exact hV.st) ?_
  show rn C (xSt F V0 [(b 0, .inr (5, mF b i j)), (b 7, .inl (1, 5, .inr (.inl t))), (b 1, .inl (1, 111, .inr (.inl r))), (b 2, .inl (1, 111, .inr (.inl th))), (b 23, .inl (1, 6, .inr (.inl g))), (b 24, .inl (1, 21, .inr (.inl h0))), (b 25, .inl (1, 1806, .inr (.inl pa))), (b 27, .inl (1, 301, .inr (.inl cx))), (b 28, .inl (1, 301, .inr (.inl cy))), (b 29, .inl (0, 301, .inl sy))]) 0 0 0 [(0, .ref (b 0)), (1, .int (nI p)), (2, .int (nI N)), (3, .int (nI w))] []
  refine r_aload_n hC 0 dX6_cellCount_0 rfl 1 rfl ?_
  refine r_iload_n hC 1 dX6_cellCount_1 rfl 2 rfl ?_
  refine r_invVw hC kX6 (b 0) [.int (nI p)] [(b 7, .inl (1, 5, .inr (.inl t))), (b 1, .inl (1, 111, .inr (.inl r))), (b 2, .inl (1, 111, .inr (.inl th))), (b 23, .inl (1, 6, .inr (.inl g))), (b 24, .inl (1, 21, .inr (.inl h0))), (b 25, .inl (1, 1806, .inr (.inl pa))), (b 27, .inl (1, 301, .inr (.inl cx))), (b 28, .inl (1, 301, .inr (.inl cy))), (b 29, .inl (0, 301, .inl sy))] mVX6_noBody q2996 0 rfl (metX6_noBody0 _ _ hG b _ _ p (by omega)) [0] [1, 2, 3, 4, 5, 6, 7, 8, 9] rfl rfl rfl rfl (by decide) ⟨rfl, rfl⟩ 0 0 rfl rfl (Nat.le_of_ble_eq_true rfl) (Nat.le_of_ble_eq_true rfl) rfl (Nat.le_of_ble_eq_true rfl) dX6_cellCount_2 5 rfl (fun v1 w2 h3 => ?_) (fun _ _ h => h.elim)
  obtain ⟨rfl, rfl⟩ := h3
  show rn C (xSt F V0 [(b 7, .inl (1, 5, .inr (.inl t))), (b 1, .inl (1, 111, .inr (.inl r))), (b 2, .inl (1, 111, .inr (.inl th))), (b 23, .inl (1, 6, .inr (.inl g))), (b 24, .inl (1, 21, .inr (.inl h0))), (b 25, .inl (1, 1806, .inr (.inl pa))), (b 27, .inl (1, 301, .inr (.inl cx))), (b 28, .inl (1, 301, .inr (.inl cy))), (b 29, .inl (0, 301, .inl sy)), (b 0, .inr (5, mF b (va_up i 0 0) j))]) 0 0 5 [(0, .ref (b 0)), (1, .int (nI p)), (2, .int (nI N)), (3, .int (nI w))] [.int 0]
  refine r_ifne hC 47 dX6_cellCount_5 (by decide) 8 rfl (fun h => absurd h (by decide)) (fun _ => ?_)
  refine r_aload_n hC 0 dX6_cellCount_8 rfl 9 rfl ?_
  refine r_iload_n hC 2 dX6_cellCount_9 rfl 10 rfl ?_
  refine r_i2l hC ((nI N).toInt64) dX6_cellCount_10 (rfl) 11 rfl ?_
  refine r_lconst hC 0 dX6_cellCount_11 lc_0 12 rfl ?_
  refine r_ldc2 hC q3174 dX6_cellCount_12 15 rfl ?_
  refine r_invSr hC [.long ((nI N).toInt64), .long 0, .long 300] (.int 1) mSX6_in q2891 (metX6_inB _ _ hG ((nI N).toInt64) 0 300 1 (in_n (N := 300) (by omega) rfl (by decide))) (fun _ _ => xIn.nil) ⟨rfl, rfl⟩ 0 0 rfl rfl (Nat.le_of_ble_eq_true rfl) (Nat.le_of_ble_eq_true rfl) rfl (Nat.le_of_ble_eq_true rfl) dX6_cellCount_15 18 rfl ?_
  refine r_ifeq hC 39 dX6_cellCount_18 (by decide) 21 rfl (fun h => absurd h (by decide)) (fun _ => ?_)
  refine r_iload_n hC 3 dX6_cellCount_21 rfl 22 rfl ?_
  refine r_i2l hC ((nI w).toInt64) dX6_cellCount_22 (rfl) 23 rfl ?_
  refine r_ldc2 hC q2708 dX6_cellCount_23 26 rfl ?_
  refine r_ldc2 hC q2983 dX6_cellCount_26 29 rfl ?_
  refine r_invSr hC [.long ((nI w).toInt64), .long 1000, .long 100000] (.int 1) mSX6_in q2891 (metX6_inB _ _ hG ((nI w).toInt64) 1000 100000 1 (in_lo (L := 1000) (N := 100000) (by omega) (by omega) rfl rfl (by decide))) (fun _ _ => xIn.nil) ⟨rfl, rfl⟩ 0 0 rfl rfl (Nat.le_of_ble_eq_true rfl) (Nat.le_of_ble_eq_true rfl) rfl (Nat.le_of_ble_eq_true rfl) dX6_cellCount_29 32 rfl ?_
  refine r_ifeq hC 39 dX6_cellCount_32 (by decide) 35 rfl (fun h => absurd h (by decide)) (fun _ => ?_)
  refine r_iconst hC 1 dX6_cellCount_35 ic_1 36 rfl ?_
  refine r_goto hC 40 dX6_cellCount_36 (by decide) ?_
  refine r_iconst hC 2 dX6_cellCount_40 ic_2 41 rfl ?_
  refine r_invVr hC kX6 (b 0) [.int 1, .int 2] (.int 0) mVX6_fails q2894 (fun _ h => h.get 9 rfl) (metX6_fails1 _ _ hG b _ _ 2) (fun _ h => h.in.sub [9] rfl rfl) ⟨rfl, rfl⟩ 0 0 rfl rfl (Nat.le_of_ble_eq_true rfl) (Nat.le_of_ble_eq_true rfl) rfl (Nat.le_of_ble_eq_true rfl) dX6_cellCount_41 44 rfl ?_
  refine r_ifeq hC 49 dX6_cellCount_44 (by decide) 47 rfl (fun _ => ?_) (fun h => absurd h (by decide))
  refine r_aload_n hC 0 dX6_cellCount_49 rfl 50 rfl ?_
  refine r_iload_n hC 1 dX6_cellCount_50 rfl 51 rfl ?_
  refine r_iload_n hC 2 dX6_cellCount_51 rfl 52 rfl ?_
  refine r_iload_n hC 3 dX6_cellCount_52 rfl 53 rfl ?_
  refine r_invVw hC kX6 (b 0) [.int (nI p), .int (nI N), .int (nI w)] [] mVX6_laysCells q3264 9 rfl (metX6_laysCellsN _ _ hG b (va_up i 0 0) j t r th g h0 pa cx cy sy p N w ht hm hp hN (cw_n0 hw1 hw2) hk) [9, 0, 1, 2, 3, 4, 5, 6, 7, 8] [] rfl rfl rfl rfl (by decide) ⟨rfl, rfl⟩ 0 0 rfl rfl (Nat.le_of_ble_eq_true rfl) (Nat.le_of_ble_eq_true rfl) rfl (Nat.le_of_ble_eq_true rfl) dX6_cellCount_53 56 rfl (fun v4 w5 h6 => ?_) (fun _ _ h => h.elim)
  obtain ⟨i9, th9, g9, h9, pa9, cx9, cy9, sy9, rfl, rfl, f9⟩ := h6
  show rn C (xSt F V0 [(b 0, .inr (5, mF b i9 j)), (b 7, .inl (1, 5, .inr (.inl t))), (b 1, .inl (1, 111, .inr (.inl r))), (b 2, .inl (1, 111, .inr (.inl th9))), (b 23, .inl (1, 6, .inr (.inl g9))), (b 24, .inl (1, 21, .inr (.inl h9))), (b 25, .inl (1, 1806, .inr (.inl pa9))), (b 27, .inl (1, 301, .inr (.inl cx9))), (b 28, .inl (1, 301, .inr (.inl cy9))), (b 29, .inl (0, 301, .inl sy9))]) 0 0 56 [(0, .ref (b 0)), (1, .int (nI p)), (2, .int (nI N)), (3, .int (nI w))] [.int 0]
  refine r_ifeq hC 66 dX6_cellCount_56 (by decide) 59 rfl (fun _ => ?_) (fun h => absurd h (by decide))
  refine r_iconst hC (-1) dX6_cellCount_66 ic_m1 67 rfl ?_
  exact r_iret hC (Nat.le_of_ble_eq_true rfl) (Nat.le_of_ble_eq_true rfl) (fun V9 h => hQ _ _ ⟨[(b 0, .inr (5, mF b i9 j)), (b 7, .inl (1, 5, .inr (.inl t))), (b 1, .inl (1, 111, .inr (.inl r))), (b 2, .inl (1, 111, .inr (.inl th9))), (b 23, .inl (1, 6, .inr (.inl g9))), (b 24, .inl (1, 21, .inr (.inl h9))), (b 25, .inl (1, 1806, .inr (.inl pa9))), (b 27, .inl (1, 301, .inr (.inl cx9))), (b 28, .inl (1, 301, .inr (.inl cy9))), (b 29, .inl (0, 301, .inl sy9))], ⟨_, _, _, _, _, _, _, _, rfl, rfl, f9⟩, by rw [← hV0, ← hF]; exact h⟩) dX6_cellCount_67
set_option maxHeartbeats 4000000 in
set_option maxRecDepth 100000 in
theorem metX6_cellCountB (l : Launch) (G : xG) (hG : xGood G) (b : Nat → Nat) (i : Nat → Int32) (j : Nat → Int64) (x y z : Int32) (hx : bI (m_in x.toInt64 0 2) = 0) : xWm l G yX6_cellCount (Cond.code yX6_cellCount cX6_cellCount 4 (some .int)) { frames := 2, locals := 46, cells := 0, slots := 0 } [.ref (b 0), .int x, .int y, .int z] [(b 0, .inr (5, mF b i j))] (fun v w' => v = some (.int 0) ∧ w' = [(b 0, .inr (5, mF b (va_up i 0 1) j))]) (fun _ _ => False) := by
  intro V hV
  refine xMet_of RX6 hG rfl (by decide) (Nat.le_of_ble_eq_true rfl) fun C hC hQ hX hl hg _ => ?_
  subst hl hg
  obtain ⟨V0, hV0⟩ : ∃ V0, V0 = V := ⟨_, rfl⟩
  obtain ⟨F, hF⟩ : ∃ F, F = xF [(b 0, .inr (5, mF b i j))] := ⟨_, rfl⟩
  refine rn.mono (J := xSt F V0 [(b 0, .inr (5, mF b i j))]) (fun V9 h => by rw [h, hV0, hF]; exact hV.st) ?_
  show rn C (xSt F V0 [(b 0, .inr (5, mF b i j))]) 0 0 0 [(0, .ref (b 0)), (1, .int x), (2, .int y), (3, .int z)] []
  refine r_aload_n hC 0 dX6_cellCount_0 rfl 1 rfl ?_
  refine r_iload_n hC 1 dX6_cellCount_1 rfl 2 rfl ?_
  refine r_invVw hC kX6 (b 0) [.int x] [] mVX6_noBody q2996 0 rfl (metX6_noBody1 _ _ hG b _ _ x (hx)) [0] [] rfl rfl rfl rfl (by decide) ⟨rfl, rfl⟩ 0 0 rfl rfl (Nat.le_of_ble_eq_true rfl) (Nat.le_of_ble_eq_true rfl) rfl (Nat.le_of_ble_eq_true rfl) dX6_cellCount_2 5 rfl (fun v1 w2 h3 => ?_) (fun _ _ h => h.elim)
  obtain ⟨rfl, rfl⟩ := h3
  show rn C (xSt F V0 [(b 0, .inr (5, mF b (va_up i 0 1) j))]) 0 0 5 [(0, .ref (b 0)), (1, .int x), (2, .int y), (3, .int z)] [.int 1]
  refine r_ifne hC 47 dX6_cellCount_5 (by decide) 8 rfl (fun _ => ?_) (fun h => absurd h (by decide))
  refine r_iconst hC 0 dX6_cellCount_47 ic_0 48 rfl ?_
  exact r_iret hC (Nat.le_of_ble_eq_true rfl) (Nat.le_of_ble_eq_true rfl) (fun V9 h => hQ _ _ ⟨[(b 0, .inr (5, mF b (va_up i 0 1) j))], ⟨rfl, by simp only [bx_uu]⟩, by rw [← hV0, ← hF]; exact h⟩) dX6_cellCount_48
set_option maxHeartbeats 4000000 in
set_option maxRecDepth 100000 in
theorem metX6_cellCountC1 (l : Launch) (G : xG) (hG : xGood G) (b : Nat → Nat) (i : Nat → Int32) (j : Nat → Int64) (p : Nat) (hp : p < 3) (y z : Int32) (hy : bI (m_in y.toInt64 0 300) = 0) : xWm l G yX6_cellCount (Cond.code yX6_cellCount cX6_cellCount 4 (some .int)) { frames := 2, locals := 46, cells := 0, slots := 0 } [.ref (b 0), .int (nI p), .int y, .int z] [(b 0, .inr (5, mF b i j))] (fun v w' => v = some (.int 0) ∧ w' = [(b 0, .inr (5, mF b (va_up i 0 2) j))]) (fun _ _ => False) := by
  intro V hV
  refine xMet_of RX6 hG rfl (by decide) (Nat.le_of_ble_eq_true rfl) fun C hC hQ hX hl hg _ => ?_
  subst hl hg
  obtain ⟨V0, hV0⟩ : ∃ V0, V0 = V := ⟨_, rfl⟩
  obtain ⟨F, hF⟩ : ∃ F, F = xF [(b 0, .inr (5, mF b i j))] := ⟨_, rfl⟩
  refine rn.mono (J := xSt F V0 [(b 0, .inr (5, mF b i j))]) (fun V9 h => by rw [h, hV0, hF]; exact hV.st) ?_
  show rn C (xSt F V0 [(b 0, .inr (5, mF b i j))]) 0 0 0 [(0, .ref (b 0)), (1, .int (nI p)), (2, .int y), (3, .int z)] []
  refine r_aload_n hC 0 dX6_cellCount_0 rfl 1 rfl ?_
  refine r_iload_n hC 1 dX6_cellCount_1 rfl 2 rfl ?_
  refine r_invVw hC kX6 (b 0) [.int (nI p)] [] mVX6_noBody q2996 0 rfl (metX6_noBody0 _ _ hG b _ _ p (by omega)) [0] [] rfl rfl rfl rfl (by decide) ⟨rfl, rfl⟩ 0 0 rfl rfl (Nat.le_of_ble_eq_true rfl) (Nat.le_of_ble_eq_true rfl) rfl (Nat.le_of_ble_eq_true rfl) dX6_cellCount_2 5 rfl (fun v1 w2 h3 => ?_) (fun _ _ h => h.elim)
  obtain ⟨rfl, rfl⟩ := h3
  show rn C (xSt F V0 [(b 0, .inr (5, mF b (va_up i 0 0) j))]) 0 0 5 [(0, .ref (b 0)), (1, .int (nI p)), (2, .int y), (3, .int z)] [.int 0]
  refine r_ifne hC 47 dX6_cellCount_5 (by decide) 8 rfl (fun h => absurd h (by decide)) (fun _ => ?_)
  refine r_aload_n hC 0 dX6_cellCount_8 rfl 9 rfl ?_
  refine r_iload_n hC 2 dX6_cellCount_9 rfl 10 rfl ?_
  refine r_i2l hC y.toInt64 dX6_cellCount_10 (rfl) 11 rfl ?_
  refine r_lconst hC 0 dX6_cellCount_11 lc_0 12 rfl ?_
  refine r_ldc2 hC q3174 dX6_cellCount_12 15 rfl ?_
  refine r_invSr hC [.long y.toInt64, .long 0, .long 300] (.int 0) mSX6_in q2891 (metX6_inB _ _ hG y.toInt64 0 300 0 (hy)) (fun _ _ => xIn.nil) ⟨rfl, rfl⟩ 0 0 rfl rfl (Nat.le_of_ble_eq_true rfl) (Nat.le_of_ble_eq_true rfl) rfl (Nat.le_of_ble_eq_true rfl) dX6_cellCount_15 18 rfl ?_
  refine r_ifeq hC 39 dX6_cellCount_18 (by decide) 21 rfl (fun _ => ?_) (fun h => absurd h (by decide))
  refine r_iconst hC 0 dX6_cellCount_39 ic_0 40 rfl ?_
  refine r_iconst hC 2 dX6_cellCount_40 ic_2 41 rfl ?_
  refine r_invVw hC kX6 (b 0) [.int 0, .int 2] [] mVX6_fails q2894 0 rfl (metX6_fails0 _ _ hG b _ _ 2) [0] [] rfl rfl rfl rfl (by decide) ⟨rfl, rfl⟩ 0 0 rfl rfl (Nat.le_of_ble_eq_true rfl) (Nat.le_of_ble_eq_true rfl) rfl (Nat.le_of_ble_eq_true rfl) dX6_cellCount_41 44 rfl (fun v4 w5 h6 => ?_) (fun _ _ h => h.elim)
  obtain ⟨rfl, rfl⟩ := h6
  show rn C (xSt F V0 [(b 0, .inr (5, mF b (va_up (va_up i 0 0) 0 2) j))]) 0 0 44 [(0, .ref (b 0)), (1, .int (nI p)), (2, .int y), (3, .int z)] [.int 1]
  refine r_ifeq hC 49 dX6_cellCount_44 (by decide) 47 rfl (fun h => absurd h (by decide)) (fun _ => ?_)
  refine r_iconst hC 0 dX6_cellCount_47 ic_0 48 rfl ?_
  exact r_iret hC (Nat.le_of_ble_eq_true rfl) (Nat.le_of_ble_eq_true rfl) (fun V9 h => hQ _ _ ⟨[(b 0, .inr (5, mF b (va_up (va_up i 0 0) 0 2) j))], ⟨rfl, by simp only [bx_uu]⟩, by rw [← hV0, ← hF]; exact h⟩) dX6_cellCount_48
set_option maxHeartbeats 4000000 in
set_option maxRecDepth 100000 in
theorem metX6_cellCountC2 (l : Launch) (G : xG) (hG : xGood G) (b : Nat → Nat) (i : Nat → Int32) (j : Nat → Int64) (p : Nat) (hp : p < 3) (y z : Int32) (hy : bI (m_in y.toInt64 0 300) = 1) (hz : bI (m_in z.toInt64 1000 100000) = 0) : xWm l G yX6_cellCount (Cond.code yX6_cellCount cX6_cellCount 4 (some .int)) { frames := 2, locals := 46, cells := 0, slots := 0 } [.ref (b 0), .int (nI p), .int y, .int z] [(b 0, .inr (5, mF b i j))] (fun v w' => v = some (.int 0) ∧ w' = [(b 0, .inr (5, mF b (va_up i 0 2) j))]) (fun _ _ => False) := by
  intro V hV
  refine xMet_of RX6 hG rfl (by decide) (Nat.le_of_ble_eq_true rfl) fun C hC hQ hX hl hg _ => ?_
  subst hl hg
  obtain ⟨V0, hV0⟩ : ∃ V0, V0 = V := ⟨_, rfl⟩
  obtain ⟨F, hF⟩ : ∃ F, F = xF [(b 0, .inr (5, mF b i j))] := ⟨_, rfl⟩
  refine rn.mono (J := xSt F V0 [(b 0, .inr (5, mF b i j))]) (fun V9 h => by rw [h, hV0, hF]; exact hV.st) ?_
  show rn C (xSt F V0 [(b 0, .inr (5, mF b i j))]) 0 0 0 [(0, .ref (b 0)), (1, .int (nI p)), (2, .int y), (3, .int z)] []
  refine r_aload_n hC 0 dX6_cellCount_0 rfl 1 rfl ?_
  refine r_iload_n hC 1 dX6_cellCount_1 rfl 2 rfl ?_
  refine r_invVw hC kX6 (b 0) [.int (nI p)] [] mVX6_noBody q2996 0 rfl (metX6_noBody0 _ _ hG b _ _ p (by omega)) [0] [] rfl rfl rfl rfl (by decide) ⟨rfl, rfl⟩ 0 0 rfl rfl (Nat.le_of_ble_eq_true rfl) (Nat.le_of_ble_eq_true rfl) rfl (Nat.le_of_ble_eq_true rfl) dX6_cellCount_2 5 rfl (fun v1 w2 h3 => ?_) (fun _ _ h => h.elim)
  obtain ⟨rfl, rfl⟩ := h3
  show rn C (xSt F V0 [(b 0, .inr (5, mF b (va_up i 0 0) j))]) 0 0 5 [(0, .ref (b 0)), (1, .int (nI p)), (2, .int y), (3, .int z)] [.int 0]
  refine r_ifne hC 47 dX6_cellCount_5 (by decide) 8 rfl (fun h => absurd h (by decide)) (fun _ => ?_)
  refine r_aload_n hC 0 dX6_cellCount_8 rfl 9 rfl ?_
  refine r_iload_n hC 2 dX6_cellCount_9 rfl 10 rfl ?_
  refine r_i2l hC y.toInt64 dX6_cellCount_10 (rfl) 11 rfl ?_
  refine r_lconst hC 0 dX6_cellCount_11 lc_0 12 rfl ?_
  refine r_ldc2 hC q3174 dX6_cellCount_12 15 rfl ?_
  refine r_invSr hC [.long y.toInt64, .long 0, .long 300] (.int 1) mSX6_in q2891 (metX6_inB _ _ hG y.toInt64 0 300 1 (hy)) (fun _ _ => xIn.nil) ⟨rfl, rfl⟩ 0 0 rfl rfl (Nat.le_of_ble_eq_true rfl) (Nat.le_of_ble_eq_true rfl) rfl (Nat.le_of_ble_eq_true rfl) dX6_cellCount_15 18 rfl ?_
  refine r_ifeq hC 39 dX6_cellCount_18 (by decide) 21 rfl (fun h => absurd h (by decide)) (fun _ => ?_)
  refine r_iload_n hC 3 dX6_cellCount_21 rfl 22 rfl ?_
  refine r_i2l hC z.toInt64 dX6_cellCount_22 (rfl) 23 rfl ?_
  refine r_ldc2 hC q2708 dX6_cellCount_23 26 rfl ?_
  refine r_ldc2 hC q2983 dX6_cellCount_26 29 rfl ?_
  refine r_invSr hC [.long z.toInt64, .long 1000, .long 100000] (.int 0) mSX6_in q2891 (metX6_inB _ _ hG z.toInt64 1000 100000 0 (hz)) (fun _ _ => xIn.nil) ⟨rfl, rfl⟩ 0 0 rfl rfl (Nat.le_of_ble_eq_true rfl) (Nat.le_of_ble_eq_true rfl) rfl (Nat.le_of_ble_eq_true rfl) dX6_cellCount_29 32 rfl ?_
  refine r_ifeq hC 39 dX6_cellCount_32 (by decide) 35 rfl (fun _ => ?_) (fun h => absurd h (by decide))
  refine r_iconst hC 0 dX6_cellCount_39 ic_0 40 rfl ?_
  refine r_iconst hC 2 dX6_cellCount_40 ic_2 41 rfl ?_
  refine r_invVw hC kX6 (b 0) [.int 0, .int 2] [] mVX6_fails q2894 0 rfl (metX6_fails0 _ _ hG b _ _ 2) [0] [] rfl rfl rfl rfl (by decide) ⟨rfl, rfl⟩ 0 0 rfl rfl (Nat.le_of_ble_eq_true rfl) (Nat.le_of_ble_eq_true rfl) rfl (Nat.le_of_ble_eq_true rfl) dX6_cellCount_41 44 rfl (fun v4 w5 h6 => ?_) (fun _ _ h => h.elim)
  obtain ⟨rfl, rfl⟩ := h6
  show rn C (xSt F V0 [(b 0, .inr (5, mF b (va_up (va_up i 0 0) 0 2) j))]) 0 0 44 [(0, .ref (b 0)), (1, .int (nI p)), (2, .int y), (3, .int z)] [.int 1]
  refine r_ifeq hC 49 dX6_cellCount_44 (by decide) 47 rfl (fun h => absurd h (by decide)) (fun _ => ?_)
  refine r_iconst hC 0 dX6_cellCount_47 ic_0 48 rfl ?_
  exact r_iret hC (Nat.le_of_ble_eq_true rfl) (Nat.le_of_ble_eq_true rfl) (fun V9 h => hQ _ _ ⟨[(b 0, .inr (5, mF b (va_up (va_up i 0 0) 0 2) j))], ⟨rfl, by simp only [bx_uu]⟩, by rw [← hV0, ← hF]; exact h⟩) dX6_cellCount_48
/-- what is told of a cell -/
def cellV (L : clT) (x q : Nat) : Int32 := match L[x]? with
  | none => -1000000000
  | some e => if q = 0 then e.1.toInt32 else if q = 1 then e.2.1.toInt32 else nI e.2.2
theorem cellV_n {L : clT} {x q : Nat} (h : L.length ≤ x) : cellV L x q = -1000000000 := by rw [cellV, List.getElem?_eq_none h]
theorem cellV_s {cx cy : Nat → Int64} {sy : Nat → Int32} {L : clT} {x q : Nat} (hR : clR cx cy sy L) (h : x < L.length) : cellV L x q = if q = 0 then (cx x).toInt32 else if q = 1 then (cy x).toInt32 else sy x := by
  obtain ⟨e, he⟩ : ∃ e, L[x]? = some e := ⟨_, List.getElem?_eq_getElem h⟩
  obtain ⟨a1, a2, a3⟩ := hR x e he
  rw [cellV, he, a1, a2, a3]
set_option maxHeartbeats 4000000 in
set_option maxRecDepth 100000 in
theorem metX6_cellG0 (l : Launch) (G : xG) (hG : xGood G) (b : Nat → Nat) (i : Nat → Int32) (j : Nat → Int64) (t r th g h0 pa cx cy : Nat → Int64) (sy : Nat → Int32) (p N w : Nat) (ht : tOK t) (hm : mOK r) (hp : p < 3) (hN : N ≤ 300) (hw1 : 1000 ≤ w) (hw2 : w ≤ 100000) (x : Nat) (hk : cellsOK t r pa N) (hxl : x < (cellsQ t r pa p N w).length) (hll : (cellsQ t r pa p N w).length ≤ 301) : xWm l G yX6_cell (Cond.code yX6_cell cX6_cell 6 (some .int)) { frames := 9, locals := 230, cells := 0, slots := 0 } [.ref (b 0), .int (nI p), .int (nI N), .int (nI w), .int (nI x), .int 0] [(b 0, .inr (5, mF b i j)), (b 7, .inl (1, 5, .inr (.inl t))), (b 1, .inl (1, 111, .inr (.inl r))), (b 2, .inl (1, 111, .inr (.inl th))), (b 23, .inl (1, 6, .inr (.inl g))), (b 24, .inl (1, 21, .inr (.inl h0))), (b 25, .inl (1, 1806, .inr (.inl pa))), (b 27, .inl (1, 301, .inr (.inl cx))), (b 28, .inl (1, 301, .inr (.inl cy))), (b 29, .inl (0, 301, .inl sy))] (fun v w' => ∃ (i' : Nat → Int32) (th' g' h' pa' cx' cy' : Nat → Int64) (sy' : Nat → Int32), v = some (.int (cellV (cellsQ t r pa p N w) x 0)) ∧ w' = [(b 0, .inr (5, mF b i' j)), (b 7, .inl (1, 5, .inr (.inl t))), (b 1, .inl (1, 111, .inr (.inl r))), (b 2, .inl (1, 111, .inr (.inl th'))), (b 23, .inl (1, 6, .inr (.inl g'))), (b 24, .inl (1, 21, .inr (.inl h'))), (b 25, .inl (1, 1806, .inr (.inl pa'))), (b 27, .inl (1, 301, .inr (.inl cx'))), (b 28, .inl (1, 301, .inr (.inl cy'))), (b 29, .inl (0, 301, .inl sy'))] ∧ (∀ q, q ≠ 30 → i' q = (va_up i 0 0) q)) (fun _ _ => False) := by
  intro V hV
  refine xMet_of RX6 hG rfl (by decide) (Nat.le_of_ble_eq_true rfl) fun C hC hQ hX hl hg _ => ?_
  subst hl hg
  obtain ⟨V0, hV0⟩ : ∃ V0, V0 = V := ⟨_, rfl⟩
  obtain ⟨F, hF⟩ : ∃ F, F = xF [(b 0, .inr (5, mF b i j)), (b 7, .inl (1, 5, .inr (.inl t))), (b 1, .inl (1, 111, .inr (.inl r))), (b 2, .inl (1, 111, .inr (.inl th))), (b 23, .inl (1, 6, .inr (.inl g))), (b 24, .inl (1, 21, .inr (.inl h0))), (b 25, .inl (1, 1806, .inr (.inl pa))), (b 27, .inl (1, 301, .inr (.inl cx))), (b 28, .inl (1, 301, .inr (.inl cy))), (b 29, .inl (0, 301, .inl sy))] := ⟨_, rfl⟩
  refine rn.mono (J := xSt F V0 [(b 0, .inr (5, mF b i j)), (b 7, .inl (1, 5, .inr (.inl t))), (b 1, .inl (1, 111, .inr (.inl r))), (b 2, .inl (1, 111, .inr (.inl th))), (b 23, .inl (1, 6, .inr (.inl g))), (b 24, .inl (1, 21, .inr (.inl h0))), (b 25, .inl (1, 1806, .inr (.inl pa))), (b 27, .inl (1, 301, .inr (.inl cx))), (b 28, .inl (1, 301, .inr (.inl cy))), (b 29, .inl (0, 301, .inl sy))]) (fun V9 h => by rw [h, hV0, hF]; exact hV.st) ?_
  show rn C (xSt F V0 [(b 0, .inr (5, mF b i j)), (b 7, .inl (1, 5, .inr (.inl t))), (b 1, .inl (1, 111, .inr (.inl r))), (b 2, .inl (1, 111, .inr (.inl th))), (b 23, .inl (1, 6, .inr (.inl g))), (b 24, .inl (1, 21, .inr (.inl h0))), (b 25, .inl (1, 1806, .inr (.inl pa))), (b 27, .inl (1, 301, .inr (.inl cx))), (b 28, .inl (1, 301, .inr (.inl cy))), (b 29, .inl (0, 301, .inl sy))]) 0 0 0 [(0, .ref (b 0)), (1, .int (nI p)), (2, .int (nI N)), (3, .int (nI w)), (4, .int (nI x)), (5, .int 0)] []
  refine r_aload_n hC 0 dX6_cell_0 rfl 1 rfl ?_
  refine r_iload_n hC 1 dX6_cell_1 rfl 2 rfl ?_
  refine r_invVw hC kX6 (b 0) [.int (nI p)] [(b 7, .inl (1, 5, .inr (.inl t))), (b 1, .inl (1, 111, .inr (.inl r))), (b 2, .inl (1, 111, .inr (.inl th))), (b 23, .inl (1, 6, .inr (.inl g))), (b 24, .inl (1, 21, .inr (.inl h0))), (b 25, .inl (1, 1806, .inr (.inl pa))), (b 27, .inl (1, 301, .inr (.inl cx))), (b 28, .inl (1, 301, .inr (.inl cy))), (b 29, .inl (0, 301, .inl sy))] mVX6_noBody q2996 0 rfl (metX6_noBody0 _ _ hG b _ _ p (by omega)) [0] [1, 2, 3, 4, 5, 6, 7, 8, 9] rfl rfl rfl rfl (by decide) ⟨rfl, rfl⟩ 0 0 rfl rfl (Nat.le_of_ble_eq_true rfl) (Nat.le_of_ble_eq_true rfl) rfl (Nat.le_of_ble_eq_true rfl) dX6_cell_2 5 rfl (fun v1 w2 h3 => ?_) (fun _ _ h => h.elim)
  obtain ⟨rfl, rfl⟩ := h3
  show rn C (xSt F V0 [(b 7, .inl (1, 5, .inr (.inl t))), (b 1, .inl (1, 111, .inr (.inl r))), (b 2, .inl (1, 111, .inr (.inl th))), (b 23, .inl (1, 6, .inr (.inl g))), (b 24, .inl (1, 21, .inr (.inl h0))), (b 25, .inl (1, 1806, .inr (.inl pa))), (b 27, .inl (1, 301, .inr (.inl cx))), (b 28, .inl (1, 301, .inr (.inl cy))), (b 29, .inl (0, 301, .inl sy)), (b 0, .inr (5, mF b (va_up i 0 0) j))]) 0 0 5 [(0, .ref (b 0)), (1, .int (nI p)), (2, .int (nI N)), (3, .int (nI w)), (4, .int (nI x)), (5, .int 0)] [.int 0]
  refine r_ifne hC 78 dX6_cell_5 (by decide) 8 rfl (fun h => absurd h (by decide)) (fun _ => ?_)
  refine r_aload_n hC 0 dX6_cell_8 rfl 9 rfl ?_
  refine r_iload hC 4 dX6_cell_9 rfl 11 rfl ?_
  refine r_iflt hC 31 dX6_cell_11 (by decide) 14 rfl (fun h => absurd h (nI_pos (by omega))) (fun _ => ?_)
  refine r_iload hC 5 dX6_cell_14 rfl 16 rfl ?_
  refine r_i2l hC 0 dX6_cell_16 (by decide) 17 rfl ?_
  refine r_lconst hC 0 dX6_cell_17 lc_0 18 rfl ?_
  refine r_ldc2 hC q2728 dX6_cell_18 21 rfl ?_
  refine r_invSr hC [.long 0, .long 0, .long 2] (.int 1) mSX6_in q2891 (metX6_inB _ _ hG 0 0 2 1 (by decide)) (fun _ _ => xIn.nil) ⟨rfl, rfl⟩ 0 0 rfl rfl (Nat.le_of_ble_eq_true rfl) (Nat.le_of_ble_eq_true rfl) rfl (Nat.le_of_ble_eq_true rfl) dX6_cell_21 24 rfl ?_
  refine r_ifeq hC 31 dX6_cell_24 (by decide) 27 rfl (fun h => absurd h (by decide)) (fun _ => ?_)
  refine r_iconst hC 1 dX6_cell_27 ic_1 28 rfl ?_
  refine r_goto hC 32 dX6_cell_28 (by decide) ?_
  refine r_iconst hC 1 dX6_cell_32 ic_1 33 rfl ?_
  refine r_invVr hC kX6 (b 0) [.int 1, .int 1] (.int 0) mVX6_fails q2894 (fun _ h => h.get 9 rfl) (metX6_fails1 _ _ hG b _ _ 1) (fun _ h => h.in.sub [9] rfl rfl) ⟨rfl, rfl⟩ 0 0 rfl rfl (Nat.le_of_ble_eq_true rfl) (Nat.le_of_ble_eq_true rfl) rfl (Nat.le_of_ble_eq_true rfl) dX6_cell_33 36 rfl ?_
  refine r_ifne hC 78 dX6_cell_36 (by decide) 39 rfl (fun h => absurd h (by decide)) (fun _ => ?_)
  refine r_aload_n hC 0 dX6_cell_39 rfl 40 rfl ?_
  refine r_iload_n hC 2 dX6_cell_40 rfl 41 rfl ?_
  refine r_i2l hC ((nI N).toInt64) dX6_cell_41 (rfl) 42 rfl ?_
  refine r_lconst hC 0 dX6_cell_42 lc_0 43 rfl ?_
  refine r_ldc2 hC q3174 dX6_cell_43 46 rfl ?_
  refine r_invSr hC [.long ((nI N).toInt64), .long 0, .long 300] (.int 1) mSX6_in q2891 (metX6_inB _ _ hG ((nI N).toInt64) 0 300 1 (in_n (N := 300) (by omega) rfl (by decide))) (fun _ _ => xIn.nil) ⟨rfl, rfl⟩ 0 0 rfl rfl (Nat.le_of_ble_eq_true rfl) (Nat.le_of_ble_eq_true rfl) rfl (Nat.le_of_ble_eq_true rfl) dX6_cell_46 49 rfl ?_
  refine r_ifeq hC 70 dX6_cell_49 (by decide) 52 rfl (fun h => absurd h (by decide)) (fun _ => ?_)
  refine r_iload_n hC 3 dX6_cell_52 rfl 53 rfl ?_
  refine r_i2l hC ((nI w).toInt64) dX6_cell_53 (rfl) 54 rfl ?_
  refine r_ldc2 hC q2708 dX6_cell_54 57 rfl ?_
  refine r_ldc2 hC q2983 dX6_cell_57 60 rfl ?_
  refine r_invSr hC [.long ((nI w).toInt64), .long 1000, .long 100000] (.int 1) mSX6_in q2891 (metX6_inB _ _ hG ((nI w).toInt64) 1000 100000 1 (in_lo (L := 1000) (N := 100000) (by omega) (by omega) rfl rfl (by decide))) (fun _ _ => xIn.nil) ⟨rfl, rfl⟩ 0 0 rfl rfl (Nat.le_of_ble_eq_true rfl) (Nat.le_of_ble_eq_true rfl) rfl (Nat.le_of_ble_eq_true rfl) dX6_cell_60 63 rfl ?_
  refine r_ifeq hC 70 dX6_cell_63 (by decide) 66 rfl (fun h => absurd h (by decide)) (fun _ => ?_)
  refine r_iconst hC 1 dX6_cell_66 ic_1 67 rfl ?_
  refine r_goto hC 71 dX6_cell_67 (by decide) ?_
  refine r_iconst hC 2 dX6_cell_71 ic_2 72 rfl ?_
  refine r_invVr hC kX6 (b 0) [.int 1, .int 2] (.int 0) mVX6_fails q2894 (fun _ h => h.get 9 rfl) (metX6_fails1 _ _ hG b _ _ 2) (fun _ h => h.in.sub [9] rfl rfl) ⟨rfl, rfl⟩ 0 0 rfl rfl (Nat.le_of_ble_eq_true rfl) (Nat.le_of_ble_eq_true rfl) rfl (Nat.le_of_ble_eq_true rfl) dX6_cell_72 75 rfl ?_
  refine r_ifeq hC 80 dX6_cell_75 (by decide) 78 rfl (fun _ => ?_) (fun h => absurd h (by decide))
  refine r_aload_n hC 0 dX6_cell_80 rfl 81 rfl ?_
  refine r_iload_n hC 1 dX6_cell_81 rfl 82 rfl ?_
  refine r_iload_n hC 2 dX6_cell_82 rfl 83 rfl ?_
  refine r_iload_n hC 3 dX6_cell_83 rfl 84 rfl ?_
  refine r_invVw hC kX6 (b 0) [.int (nI p), .int (nI N), .int (nI w)] [] mVX6_laysCells q3264 9 rfl (metX6_laysCellsG _ _ hG b (va_up i 0 0) j t r th g h0 pa cx cy sy p N w ht hm hp hN (cw_n0 hw1 hw2) hk) [9, 0, 1, 2, 3, 4, 5, 6, 7, 8] [] rfl rfl rfl rfl (by decide) ⟨rfl, rfl⟩ 0 0 rfl rfl (Nat.le_of_ble_eq_true rfl) (Nat.le_of_ble_eq_true rfl) rfl (Nat.le_of_ble_eq_true rfl) dX6_cell_84 87 rfl (fun v4 w5 h6 => ?_) (fun _ _ h => h.elim)
  obtain ⟨i9, th9, g9, h9, pa9, cx9, cy9, sy9, rfl, rfl, f9, e9, r9⟩ := h6
  show rn C (xSt F V0 [(b 0, .inr (5, mF b i9 j)), (b 7, .inl (1, 5, .inr (.inl t))), (b 1, .inl (1, 111, .inr (.inl r))), (b 2, .inl (1, 111, .inr (.inl th9))), (b 23, .inl (1, 6, .inr (.inl g9))), (b 24, .inl (1, 21, .inr (.inl h9))), (b 25, .inl (1, 1806, .inr (.inl pa9))), (b 27, .inl (1, 301, .inr (.inl cx9))), (b 28, .inl (1, 301, .inr (.inl cy9))), (b 29, .inl (0, 301, .inl sy9))]) 0 0 87 [(0, .ref (b 0)), (1, .int (nI p)), (2, .int (nI N)), (3, .int (nI w)), (4, .int (nI x)), (5, .int 0)] [.int 1]
  refine r_ifeq hC 99 dX6_cell_87 (by decide) 90 rfl (fun h => absurd h (by decide)) (fun _ => ?_)
  refine r_iload hC 4 dX6_cell_90 rfl 92 rfl ?_
  refine r_aload_n hC 0 dX6_cell_92 rfl 93 rfl ?_
  refine r_get (v := .int (i9 30)) hC kX6 30 rfl q2783 (fun _ h => h.get 0 rfl) rfl dX6_cell_93 96 rfl ?_
  refine r_eqi (y := nI ((cellsQ t r pa p N w).length)) (e9) ?_
  refine r_iclt hC 103 dX6_cell_96 (by decide) 99 rfl (fun _ => ?_) (fun h => absurd (nI_lt (by omega) (by omega)) h)
  refine r_iload hC 5 dX6_cell_103 rfl 105 rfl ?_
  refine r_ifne hC 119 dX6_cell_105 (by decide) 108 rfl (fun h => absurd h (by decide)) (fun _ => ?_)
  refine r_aload_n hC 0 dX6_cell_108 rfl 109 rfl ?_
  refine r_get (v := .ref (b 27)) hC kX6 27 rfl q2780 (fun _ h => h.get 0 rfl) rfl dX6_cell_109 112 rfl ?_
  refine r_iload hC 4 dX6_cell_112 rfl 114 rfl ?_
  refine r_lald hC x (xix_n x (by omega) (Nat.le_of_ble_eq_true rfl)) (fun _ h => h.get 7 rfl) (cx9 x) (rfl) dX6_cell_114 115 rfl ?_
  refine r_l2i hC ((cx9 x).toInt32) dX6_cell_115 (rfl) 116 rfl ?_
  refine r_goto hC 143 dX6_cell_116 (by decide) ?_
  exact r_iret hC (Nat.le_of_ble_eq_true rfl) (Nat.le_of_ble_eq_true rfl) (fun V9 h => hQ _ _ ⟨[(b 0, .inr (5, mF b i9 j)), (b 7, .inl (1, 5, .inr (.inl t))), (b 1, .inl (1, 111, .inr (.inl r))), (b 2, .inl (1, 111, .inr (.inl th9))), (b 23, .inl (1, 6, .inr (.inl g9))), (b 24, .inl (1, 21, .inr (.inl h9))), (b 25, .inl (1, 1806, .inr (.inl pa9))), (b 27, .inl (1, 301, .inr (.inl cx9))), (b 28, .inl (1, 301, .inr (.inl cy9))), (b 29, .inl (0, 301, .inl sy9))], ⟨_, _, _, _, _, _, _, _, by rw [cellV_s r9 hxl]; rfl, rfl, f9⟩, by rw [← hV0, ← hF]; exact h⟩) dX6_cell_143
set_option maxHeartbeats 4000000 in
set_option maxRecDepth 100000 in
theorem metX6_cellH0 (l : Launch) (G : xG) (hG : xGood G) (b : Nat → Nat) (i : Nat → Int32) (j : Nat → Int64) (t r th g h0 pa cx cy : Nat → Int64) (sy : Nat → Int32) (p N w : Nat) (ht : tOK t) (hm : mOK r) (hp : p < 3) (hN : N ≤ 300) (hw1 : 1000 ≤ w) (hw2 : w ≤ 100000) (x : Nat) (hx : x < 2 ^ 31) (hk : cellsOK t r pa N) (hxl : (cellsQ t r pa p N w).length ≤ x) : xWm l G yX6_cell (Cond.code yX6_cell cX6_cell 6 (some .int)) { frames := 9, locals := 230, cells := 0, slots := 0 } [.ref (b 0), .int (nI p), .int (nI N), .int (nI w), .int (nI x), .int 0] [(b 0, .inr (5, mF b i j)), (b 7, .inl (1, 5, .inr (.inl t))), (b 1, .inl (1, 111, .inr (.inl r))), (b 2, .inl (1, 111, .inr (.inl th))), (b 23, .inl (1, 6, .inr (.inl g))), (b 24, .inl (1, 21, .inr (.inl h0))), (b 25, .inl (1, 1806, .inr (.inl pa))), (b 27, .inl (1, 301, .inr (.inl cx))), (b 28, .inl (1, 301, .inr (.inl cy))), (b 29, .inl (0, 301, .inl sy))] (fun v w' => ∃ (i' : Nat → Int32) (th' g' h' pa' cx' cy' : Nat → Int64) (sy' : Nat → Int32), v = some (.int (cellV (cellsQ t r pa p N w) x 0)) ∧ w' = [(b 0, .inr (5, mF b i' j)), (b 7, .inl (1, 5, .inr (.inl t))), (b 1, .inl (1, 111, .inr (.inl r))), (b 2, .inl (1, 111, .inr (.inl th'))), (b 23, .inl (1, 6, .inr (.inl g'))), (b 24, .inl (1, 21, .inr (.inl h'))), (b 25, .inl (1, 1806, .inr (.inl pa'))), (b 27, .inl (1, 301, .inr (.inl cx'))), (b 28, .inl (1, 301, .inr (.inl cy'))), (b 29, .inl (0, 301, .inl sy'))] ∧ (∀ q, q ≠ 30 → i' q = (va_up i 0 0) q)) (fun _ _ => False) := by
  intro V hV
  refine xMet_of RX6 hG rfl (by decide) (Nat.le_of_ble_eq_true rfl) fun C hC hQ hX hl hg _ => ?_
  subst hl hg
  obtain ⟨V0, hV0⟩ : ∃ V0, V0 = V := ⟨_, rfl⟩
  obtain ⟨F, hF⟩ : ∃ F, F = xF [(b 0, .inr (5, mF b i j)), (b 7, .inl (1, 5, .inr (.inl t))), (b 1, .inl (1, 111, .inr (.inl r))), (b 2, .inl (1, 111, .inr (.inl th))), (b 23, .inl (1, 6, .inr (.inl g))), (b 24, .inl (1, 21, .inr (.inl h0))), (b 25, .inl (1, 1806, .inr (.inl pa))), (b 27, .inl (1, 301, .inr (.inl cx))), (b 28, .inl (1, 301, .inr (.inl cy))), (b 29, .inl (0, 301, .inl sy))] := ⟨_, rfl⟩
  refine rn.mono (J := xSt F V0 [(b 0, .inr (5, mF b i j)), (b 7, .inl (1, 5, .inr (.inl t))), (b 1, .inl (1, 111, .inr (.inl r))), (b 2, .inl (1, 111, .inr (.inl th))), (b 23, .inl (1, 6, .inr (.inl g))), (b 24, .inl (1, 21, .inr (.inl h0))), (b 25, .inl (1, 1806, .inr (.inl pa))), (b 27, .inl (1, 301, .inr (.inl cx))), (b 28, .inl (1, 301, .inr (.inl cy))), (b 29, .inl (0, 301, .inl sy))]) (fun V9 h => by rw [h, hV0, hF]; exact hV.st) ?_
  show rn C (xSt F V0 [(b 0, .inr (5, mF b i j)), (b 7, .inl (1, 5, .inr (.inl t))), (b 1, .inl (1, 111, .inr (.inl r))), (b 2, .inl (1, 111, .inr (.inl th))), (b 23, .inl (1, 6, .inr (.inl g))), (b 24, .inl (1, 21, .inr (.inl h0))), (b 25, .inl (1, 1806, .inr (.inl pa))), (b 27, .inl (1, 301, .inr (.inl cx))), (b 28, .inl (1, 301, .inr (.inl cy))), (b 29, .inl (0, 301, .inl sy))]) 0 0 0 [(0, .ref (b 0)), (1, .int (nI p)), (2, .int (nI N)), (3, .int (nI w)), (4, .int (nI x)), (5, .int 0)] []
  refine r_aload_n hC 0 dX6_cell_0 rfl 1 rfl ?_
  refine r_iload_n hC 1 dX6_cell_1 rfl 2 rfl ?_
  refine r_invVw hC kX6 (b 0) [.int (nI p)] [(b 7, .inl (1, 5, .inr (.inl t))), (b 1, .inl (1, 111, .inr (.inl r))), (b 2, .inl (1, 111, .inr (.inl th))), (b 23, .inl (1, 6, .inr (.inl g))), (b 24, .inl (1, 21, .inr (.inl h0))), (b 25, .inl (1, 1806, .inr (.inl pa))), (b 27, .inl (1, 301, .inr (.inl cx))), (b 28, .inl (1, 301, .inr (.inl cy))), (b 29, .inl (0, 301, .inl sy))] mVX6_noBody q2996 0 rfl (metX6_noBody0 _ _ hG b _ _ p (by omega)) [0] [1, 2, 3, 4, 5, 6, 7, 8, 9] rfl rfl rfl rfl (by decide) ⟨rfl, rfl⟩ 0 0 rfl rfl (Nat.le_of_ble_eq_true rfl) (Nat.le_of_ble_eq_true rfl) rfl (Nat.le_of_ble_eq_true rfl) dX6_cell_2 5 rfl (fun v1 w2 h3 => ?_) (fun _ _ h => h.elim)
  obtain ⟨rfl, rfl⟩ := h3
  show rn C (xSt F V0 [(b 7, .inl (1, 5, .inr (.inl t))), (b 1, .inl (1, 111, .inr (.inl r))), (b 2, .inl (1, 111, .inr (.inl th))), (b 23, .inl (1, 6, .inr (.inl g))), (b 24, .inl (1, 21, .inr (.inl h0))), (b 25, .inl (1, 1806, .inr (.inl pa))), (b 27, .inl (1, 301, .inr (.inl cx))), (b 28, .inl (1, 301, .inr (.inl cy))), (b 29, .inl (0, 301, .inl sy)), (b 0, .inr (5, mF b (va_up i 0 0) j))]) 0 0 5 [(0, .ref (b 0)), (1, .int (nI p)), (2, .int (nI N)), (3, .int (nI w)), (4, .int (nI x)), (5, .int 0)] [.int 0]
  refine r_ifne hC 78 dX6_cell_5 (by decide) 8 rfl (fun h => absurd h (by decide)) (fun _ => ?_)
  refine r_aload_n hC 0 dX6_cell_8 rfl 9 rfl ?_
  refine r_iload hC 4 dX6_cell_9 rfl 11 rfl ?_
  refine r_iflt hC 31 dX6_cell_11 (by decide) 14 rfl (fun h => absurd h (nI_pos (by omega))) (fun _ => ?_)
  refine r_iload hC 5 dX6_cell_14 rfl 16 rfl ?_
  refine r_i2l hC 0 dX6_cell_16 (by decide) 17 rfl ?_
  refine r_lconst hC 0 dX6_cell_17 lc_0 18 rfl ?_
  refine r_ldc2 hC q2728 dX6_cell_18 21 rfl ?_
  refine r_invSr hC [.long 0, .long 0, .long 2] (.int 1) mSX6_in q2891 (metX6_inB _ _ hG 0 0 2 1 (by decide)) (fun _ _ => xIn.nil) ⟨rfl, rfl⟩ 0 0 rfl rfl (Nat.le_of_ble_eq_true rfl) (Nat.le_of_ble_eq_true rfl) rfl (Nat.le_of_ble_eq_true rfl) dX6_cell_21 24 rfl ?_
  refine r_ifeq hC 31 dX6_cell_24 (by decide) 27 rfl (fun h => absurd h (by decide)) (fun _ => ?_)
  refine r_iconst hC 1 dX6_cell_27 ic_1 28 rfl ?_
  refine r_goto hC 32 dX6_cell_28 (by decide) ?_
  refine r_iconst hC 1 dX6_cell_32 ic_1 33 rfl ?_
  refine r_invVr hC kX6 (b 0) [.int 1, .int 1] (.int 0) mVX6_fails q2894 (fun _ h => h.get 9 rfl) (metX6_fails1 _ _ hG b _ _ 1) (fun _ h => h.in.sub [9] rfl rfl) ⟨rfl, rfl⟩ 0 0 rfl rfl (Nat.le_of_ble_eq_true rfl) (Nat.le_of_ble_eq_true rfl) rfl (Nat.le_of_ble_eq_true rfl) dX6_cell_33 36 rfl ?_
  refine r_ifne hC 78 dX6_cell_36 (by decide) 39 rfl (fun h => absurd h (by decide)) (fun _ => ?_)
  refine r_aload_n hC 0 dX6_cell_39 rfl 40 rfl ?_
  refine r_iload_n hC 2 dX6_cell_40 rfl 41 rfl ?_
  refine r_i2l hC ((nI N).toInt64) dX6_cell_41 (rfl) 42 rfl ?_
  refine r_lconst hC 0 dX6_cell_42 lc_0 43 rfl ?_
  refine r_ldc2 hC q3174 dX6_cell_43 46 rfl ?_
  refine r_invSr hC [.long ((nI N).toInt64), .long 0, .long 300] (.int 1) mSX6_in q2891 (metX6_inB _ _ hG ((nI N).toInt64) 0 300 1 (in_n (N := 300) (by omega) rfl (by decide))) (fun _ _ => xIn.nil) ⟨rfl, rfl⟩ 0 0 rfl rfl (Nat.le_of_ble_eq_true rfl) (Nat.le_of_ble_eq_true rfl) rfl (Nat.le_of_ble_eq_true rfl) dX6_cell_46 49 rfl ?_
  refine r_ifeq hC 70 dX6_cell_49 (by decide) 52 rfl (fun h => absurd h (by decide)) (fun _ => ?_)
  refine r_iload_n hC 3 dX6_cell_52 rfl 53 rfl ?_
  refine r_i2l hC ((nI w).toInt64) dX6_cell_53 (rfl) 54 rfl ?_
  refine r_ldc2 hC q2708 dX6_cell_54 57 rfl ?_
  refine r_ldc2 hC q2983 dX6_cell_57 60 rfl ?_
  refine r_invSr hC [.long ((nI w).toInt64), .long 1000, .long 100000] (.int 1) mSX6_in q2891 (metX6_inB _ _ hG ((nI w).toInt64) 1000 100000 1 (in_lo (L := 1000) (N := 100000) (by omega) (by omega) rfl rfl (by decide))) (fun _ _ => xIn.nil) ⟨rfl, rfl⟩ 0 0 rfl rfl (Nat.le_of_ble_eq_true rfl) (Nat.le_of_ble_eq_true rfl) rfl (Nat.le_of_ble_eq_true rfl) dX6_cell_60 63 rfl ?_
  refine r_ifeq hC 70 dX6_cell_63 (by decide) 66 rfl (fun h => absurd h (by decide)) (fun _ => ?_)
  refine r_iconst hC 1 dX6_cell_66 ic_1 67 rfl ?_
  refine r_goto hC 71 dX6_cell_67 (by decide) ?_
  refine r_iconst hC 2 dX6_cell_71 ic_2 72 rfl ?_
  refine r_invVr hC kX6 (b 0) [.int 1, .int 2] (.int 0) mVX6_fails q2894 (fun _ h => h.get 9 rfl) (metX6_fails1 _ _ hG b _ _ 2) (fun _ h => h.in.sub [9] rfl rfl) ⟨rfl, rfl⟩ 0 0 rfl rfl (Nat.le_of_ble_eq_true rfl) (Nat.le_of_ble_eq_true rfl) rfl (Nat.le_of_ble_eq_true rfl) dX6_cell_72 75 rfl ?_
  refine r_ifeq hC 80 dX6_cell_75 (by decide) 78 rfl (fun _ => ?_) (fun h => absurd h (by decide))
  refine r_aload_n hC 0 dX6_cell_80 rfl 81 rfl ?_
  refine r_iload_n hC 1 dX6_cell_81 rfl 82 rfl ?_
  refine r_iload_n hC 2 dX6_cell_82 rfl 83 rfl ?_
  refine r_iload_n hC 3 dX6_cell_83 rfl 84 rfl ?_
  refine r_invVw hC kX6 (b 0) [.int (nI p), .int (nI N), .int (nI w)] [] mVX6_laysCells q3264 9 rfl (metX6_laysCellsG _ _ hG b (va_up i 0 0) j t r th g h0 pa cx cy sy p N w ht hm hp hN (cw_n0 hw1 hw2) hk) [9, 0, 1, 2, 3, 4, 5, 6, 7, 8] [] rfl rfl rfl rfl (by decide) ⟨rfl, rfl⟩ 0 0 rfl rfl (Nat.le_of_ble_eq_true rfl) (Nat.le_of_ble_eq_true rfl) rfl (Nat.le_of_ble_eq_true rfl) dX6_cell_84 87 rfl (fun v4 w5 h6 => ?_) (fun _ _ h => h.elim)
  obtain ⟨i9, th9, g9, h9, pa9, cx9, cy9, sy9, rfl, rfl, f9, e9, r9⟩ := h6
  show rn C (xSt F V0 [(b 0, .inr (5, mF b i9 j)), (b 7, .inl (1, 5, .inr (.inl t))), (b 1, .inl (1, 111, .inr (.inl r))), (b 2, .inl (1, 111, .inr (.inl th9))), (b 23, .inl (1, 6, .inr (.inl g9))), (b 24, .inl (1, 21, .inr (.inl h9))), (b 25, .inl (1, 1806, .inr (.inl pa9))), (b 27, .inl (1, 301, .inr (.inl cx9))), (b 28, .inl (1, 301, .inr (.inl cy9))), (b 29, .inl (0, 301, .inl sy9))]) 0 0 87 [(0, .ref (b 0)), (1, .int (nI p)), (2, .int (nI N)), (3, .int (nI w)), (4, .int (nI x)), (5, .int 0)] [.int 1]
  refine r_ifeq hC 99 dX6_cell_87 (by decide) 90 rfl (fun h => absurd h (by decide)) (fun _ => ?_)
  refine r_iload hC 4 dX6_cell_90 rfl 92 rfl ?_
  refine r_aload_n hC 0 dX6_cell_92 rfl 93 rfl ?_
  refine r_get (v := .int (i9 30)) hC kX6 30 rfl q2783 (fun _ h => h.get 0 rfl) rfl dX6_cell_93 96 rfl ?_
  refine r_eqi (y := nI ((cellsQ t r pa p N w).length)) (e9) ?_
  refine r_iclt hC 103 dX6_cell_96 (by decide) 99 rfl (fun h => absurd h (nI_nlt (by omega) (by omega))) (fun _ => ?_)
  refine r_ldcw hC q3272 dX6_cell_99 102 rfl ?_
  exact r_iret hC (Nat.le_of_ble_eq_true rfl) (Nat.le_of_ble_eq_true rfl) (fun V9 h => hQ _ _ ⟨[(b 0, .inr (5, mF b i9 j)), (b 7, .inl (1, 5, .inr (.inl t))), (b 1, .inl (1, 111, .inr (.inl r))), (b 2, .inl (1, 111, .inr (.inl th9))), (b 23, .inl (1, 6, .inr (.inl g9))), (b 24, .inl (1, 21, .inr (.inl h9))), (b 25, .inl (1, 1806, .inr (.inl pa9))), (b 27, .inl (1, 301, .inr (.inl cx9))), (b 28, .inl (1, 301, .inr (.inl cy9))), (b 29, .inl (0, 301, .inl sy9))], ⟨_, _, _, _, _, _, _, _, by rw [cellV_n hxl], rfl, f9⟩, by rw [← hV0, ← hF]; exact h⟩) dX6_cell_102
set_option maxHeartbeats 4000000 in
set_option maxRecDepth 100000 in
theorem metX6_cellN0 (l : Launch) (G : xG) (hG : xGood G) (b : Nat → Nat) (i : Nat → Int32) (j : Nat → Int64) (t r th g h0 pa cx cy : Nat → Int64) (sy : Nat → Int32) (p N w : Nat) (ht : tOK t) (hm : mOK r) (hp : p < 3) (hN : N ≤ 300) (hw1 : 1000 ≤ w) (hw2 : w ≤ 100000) (x : Nat) (hx : x < 2 ^ 31) (hk : ¬ cellsOK t r pa N) : xWm l G yX6_cell (Cond.code yX6_cell cX6_cell 6 (some .int)) { frames := 9, locals := 230, cells := 0, slots := 0 } [.ref (b 0), .int (nI p), .int (nI N), .int (nI w), .int (nI x), .int 0] [(b 0, .inr (5, mF b i j)), (b 7, .inl (1, 5, .inr (.inl t))), (b 1, .inl (1, 111, .inr (.inl r))), (b 2, .inl (1, 111, .inr (.inl th))), (b 23, .inl (1, 6, .inr (.inl g))), (b 24, .inl (1, 21, .inr (.inl h0))), (b 25, .inl (1, 1806, .inr (.inl pa))), (b 27, .inl (1, 301, .inr (.inl cx))), (b 28, .inl (1, 301, .inr (.inl cy))), (b 29, .inl (0, 301, .inl sy))] (fun v w' => ∃ (i' : Nat → Int32) (th' g' h' pa' cx' cy' : Nat → Int64) (sy' : Nat → Int32), v = some (.int (-1000000000)) ∧ w' = [(b 0, .inr (5, mF b i' j)), (b 7, .inl (1, 5, .inr (.inl t))), (b 1, .inl (1, 111, .inr (.inl r))), (b 2, .inl (1, 111, .inr (.inl th'))), (b 23, .inl (1, 6, .inr (.inl g'))), (b 24, .inl (1, 21, .inr (.inl h'))), (b 25, .inl (1, 1806, .inr (.inl pa'))), (b 27, .inl (1, 301, .inr (.inl cx'))), (b 28, .inl (1, 301, .inr (.inl cy'))), (b 29, .inl (0, 301, .inl sy'))] ∧ (∀ q, q ≠ 30 → i' q = (va_up i 0 0) q)) (fun _ _ => False) := by
  intro V hV
  refine xMet_of RX6 hG rfl (by decide) (Nat.le_of_ble_eq_true rfl) fun C hC hQ hX hl hg _ => ?_
  subst hl hg
  obtain ⟨V0, hV0⟩ : ∃ V0, V0 = V := ⟨_, rfl⟩
  obtain ⟨F, hF⟩ : ∃ F, F = xF [(b 0, .inr (5, mF b i j)), (b 7, .inl (1, 5, .inr (.inl t))), (b 1, .inl (1, 111, .inr (.inl r))), (b 2, .inl (1, 111, .inr (.inl th))), (b 23, .inl (1, 6, .inr (.inl g))), (b 24, .inl (1, 21, .inr (.inl h0))), (b 25, .inl (1, 1806, .inr (.inl pa))), (b 27, .inl (1, 301, .inr (.inl cx))), (b 28, .inl (1, 301, .inr (.inl cy))), (b 29, .inl (0, 301, .inl sy))] := ⟨_, rfl⟩
  refine rn.mono (J := xSt F V0 [(b 0, .inr (5, mF b i j)), (b 7, .inl (1, 5, .inr (.inl t))), (b 1, .inl (1, 111, .inr (.inl r))), (b 2, .inl (1, 111, .inr (.inl th))), (b 23, .inl (1, 6, .inr (.inl g))), (b 24, .inl (1, 21, .inr (.inl h0))), (b 25, .inl (1, 1806, .inr (.inl pa))), (b 27, .inl (1, 301, .inr (.inl cx))), (b 28, .inl (1, 301, .inr (.inl cy))), (b 29, .inl (0, 301, .inl sy))]) (fun V9 h => by rw [h, hV0, hF]; exact hV.st) ?_
  show rn C (xSt F V0 [(b 0, .inr (5, mF b i j)), (b 7, .inl (1, 5, .inr (.inl t))), (b 1, .inl (1, 111, .inr (.inl r))), (b 2, .inl (1, 111, .inr (.inl th))), (b 23, .inl (1, 6, .inr (.inl g))), (b 24, .inl (1, 21, .inr (.inl h0))), (b 25, .inl (1, 1806, .inr (.inl pa))), (b 27, .inl (1, 301, .inr (.inl cx))), (b 28, .inl (1, 301, .inr (.inl cy))), (b 29, .inl (0, 301, .inl sy))]) 0 0 0 [(0, .ref (b 0)), (1, .int (nI p)), (2, .int (nI N)), (3, .int (nI w)), (4, .int (nI x)), (5, .int 0)] []
  refine r_aload_n hC 0 dX6_cell_0 rfl 1 rfl ?_
  refine r_iload_n hC 1 dX6_cell_1 rfl 2 rfl ?_
  refine r_invVw hC kX6 (b 0) [.int (nI p)] [(b 7, .inl (1, 5, .inr (.inl t))), (b 1, .inl (1, 111, .inr (.inl r))), (b 2, .inl (1, 111, .inr (.inl th))), (b 23, .inl (1, 6, .inr (.inl g))), (b 24, .inl (1, 21, .inr (.inl h0))), (b 25, .inl (1, 1806, .inr (.inl pa))), (b 27, .inl (1, 301, .inr (.inl cx))), (b 28, .inl (1, 301, .inr (.inl cy))), (b 29, .inl (0, 301, .inl sy))] mVX6_noBody q2996 0 rfl (metX6_noBody0 _ _ hG b _ _ p (by omega)) [0] [1, 2, 3, 4, 5, 6, 7, 8, 9] rfl rfl rfl rfl (by decide) ⟨rfl, rfl⟩ 0 0 rfl rfl (Nat.le_of_ble_eq_true rfl) (Nat.le_of_ble_eq_true rfl) rfl (Nat.le_of_ble_eq_true rfl) dX6_cell_2 5 rfl (fun v1 w2 h3 => ?_) (fun _ _ h => h.elim)
  obtain ⟨rfl, rfl⟩ := h3
  show rn C (xSt F V0 [(b 7, .inl (1, 5, .inr (.inl t))), (b 1, .inl (1, 111, .inr (.inl r))), (b 2, .inl (1, 111, .inr (.inl th))), (b 23, .inl (1, 6, .inr (.inl g))), (b 24, .inl (1, 21, .inr (.inl h0))), (b 25, .inl (1, 1806, .inr (.inl pa))), (b 27, .inl (1, 301, .inr (.inl cx))), (b 28, .inl (1, 301, .inr (.inl cy))), (b 29, .inl (0, 301, .inl sy)), (b 0, .inr (5, mF b (va_up i 0 0) j))]) 0 0 5 [(0, .ref (b 0)), (1, .int (nI p)), (2, .int (nI N)), (3, .int (nI w)), (4, .int (nI x)), (5, .int 0)] [.int 0]
  refine r_ifne hC 78 dX6_cell_5 (by decide) 8 rfl (fun h => absurd h (by decide)) (fun _ => ?_)
  refine r_aload_n hC 0 dX6_cell_8 rfl 9 rfl ?_
  refine r_iload hC 4 dX6_cell_9 rfl 11 rfl ?_
  refine r_iflt hC 31 dX6_cell_11 (by decide) 14 rfl (fun h => absurd h (nI_pos (by omega))) (fun _ => ?_)
  refine r_iload hC 5 dX6_cell_14 rfl 16 rfl ?_
  refine r_i2l hC 0 dX6_cell_16 (by decide) 17 rfl ?_
  refine r_lconst hC 0 dX6_cell_17 lc_0 18 rfl ?_
  refine r_ldc2 hC q2728 dX6_cell_18 21 rfl ?_
  refine r_invSr hC [.long 0, .long 0, .long 2] (.int 1) mSX6_in q2891 (metX6_inB _ _ hG 0 0 2 1 (by decide)) (fun _ _ => xIn.nil) ⟨rfl, rfl⟩ 0 0 rfl rfl (Nat.le_of_ble_eq_true rfl) (Nat.le_of_ble_eq_true rfl) rfl (Nat.le_of_ble_eq_true rfl) dX6_cell_21 24 rfl ?_
  refine r_ifeq hC 31 dX6_cell_24 (by decide) 27 rfl (fun h => absurd h (by decide)) (fun _ => ?_)
  refine r_iconst hC 1 dX6_cell_27 ic_1 28 rfl ?_
  refine r_goto hC 32 dX6_cell_28 (by decide) ?_
  refine r_iconst hC 1 dX6_cell_32 ic_1 33 rfl ?_
  refine r_invVr hC kX6 (b 0) [.int 1, .int 1] (.int 0) mVX6_fails q2894 (fun _ h => h.get 9 rfl) (metX6_fails1 _ _ hG b _ _ 1) (fun _ h => h.in.sub [9] rfl rfl) ⟨rfl, rfl⟩ 0 0 rfl rfl (Nat.le_of_ble_eq_true rfl) (Nat.le_of_ble_eq_true rfl) rfl (Nat.le_of_ble_eq_true rfl) dX6_cell_33 36 rfl ?_
  refine r_ifne hC 78 dX6_cell_36 (by decide) 39 rfl (fun h => absurd h (by decide)) (fun _ => ?_)
  refine r_aload_n hC 0 dX6_cell_39 rfl 40 rfl ?_
  refine r_iload_n hC 2 dX6_cell_40 rfl 41 rfl ?_
  refine r_i2l hC ((nI N).toInt64) dX6_cell_41 (rfl) 42 rfl ?_
  refine r_lconst hC 0 dX6_cell_42 lc_0 43 rfl ?_
  refine r_ldc2 hC q3174 dX6_cell_43 46 rfl ?_
  refine r_invSr hC [.long ((nI N).toInt64), .long 0, .long 300] (.int 1) mSX6_in q2891 (metX6_inB _ _ hG ((nI N).toInt64) 0 300 1 (in_n (N := 300) (by omega) rfl (by decide))) (fun _ _ => xIn.nil) ⟨rfl, rfl⟩ 0 0 rfl rfl (Nat.le_of_ble_eq_true rfl) (Nat.le_of_ble_eq_true rfl) rfl (Nat.le_of_ble_eq_true rfl) dX6_cell_46 49 rfl ?_
  refine r_ifeq hC 70 dX6_cell_49 (by decide) 52 rfl (fun h => absurd h (by decide)) (fun _ => ?_)
  refine r_iload_n hC 3 dX6_cell_52 rfl 53 rfl ?_
  refine r_i2l hC ((nI w).toInt64) dX6_cell_53 (rfl) 54 rfl ?_
  refine r_ldc2 hC q2708 dX6_cell_54 57 rfl ?_
  refine r_ldc2 hC q2983 dX6_cell_57 60 rfl ?_
  refine r_invSr hC [.long ((nI w).toInt64), .long 1000, .long 100000] (.int 1) mSX6_in q2891 (metX6_inB _ _ hG ((nI w).toInt64) 1000 100000 1 (in_lo (L := 1000) (N := 100000) (by omega) (by omega) rfl rfl (by decide))) (fun _ _ => xIn.nil) ⟨rfl, rfl⟩ 0 0 rfl rfl (Nat.le_of_ble_eq_true rfl) (Nat.le_of_ble_eq_true rfl) rfl (Nat.le_of_ble_eq_true rfl) dX6_cell_60 63 rfl ?_
  refine r_ifeq hC 70 dX6_cell_63 (by decide) 66 rfl (fun h => absurd h (by decide)) (fun _ => ?_)
  refine r_iconst hC 1 dX6_cell_66 ic_1 67 rfl ?_
  refine r_goto hC 71 dX6_cell_67 (by decide) ?_
  refine r_iconst hC 2 dX6_cell_71 ic_2 72 rfl ?_
  refine r_invVr hC kX6 (b 0) [.int 1, .int 2] (.int 0) mVX6_fails q2894 (fun _ h => h.get 9 rfl) (metX6_fails1 _ _ hG b _ _ 2) (fun _ h => h.in.sub [9] rfl rfl) ⟨rfl, rfl⟩ 0 0 rfl rfl (Nat.le_of_ble_eq_true rfl) (Nat.le_of_ble_eq_true rfl) rfl (Nat.le_of_ble_eq_true rfl) dX6_cell_72 75 rfl ?_
  refine r_ifeq hC 80 dX6_cell_75 (by decide) 78 rfl (fun _ => ?_) (fun h => absurd h (by decide))
  refine r_aload_n hC 0 dX6_cell_80 rfl 81 rfl ?_
  refine r_iload_n hC 1 dX6_cell_81 rfl 82 rfl ?_
  refine r_iload_n hC 2 dX6_cell_82 rfl 83 rfl ?_
  refine r_iload_n hC 3 dX6_cell_83 rfl 84 rfl ?_
  refine r_invVw hC kX6 (b 0) [.int (nI p), .int (nI N), .int (nI w)] [] mVX6_laysCells q3264 9 rfl (metX6_laysCellsN _ _ hG b (va_up i 0 0) j t r th g h0 pa cx cy sy p N w ht hm hp hN (cw_n0 hw1 hw2) hk) [9, 0, 1, 2, 3, 4, 5, 6, 7, 8] [] rfl rfl rfl rfl (by decide) ⟨rfl, rfl⟩ 0 0 rfl rfl (Nat.le_of_ble_eq_true rfl) (Nat.le_of_ble_eq_true rfl) rfl (Nat.le_of_ble_eq_true rfl) dX6_cell_84 87 rfl (fun v4 w5 h6 => ?_) (fun _ _ h => h.elim)
  obtain ⟨i9, th9, g9, h9, pa9, cx9, cy9, sy9, rfl, rfl, f9⟩ := h6
  show rn C (xSt F V0 [(b 0, .inr (5, mF b i9 j)), (b 7, .inl (1, 5, .inr (.inl t))), (b 1, .inl (1, 111, .inr (.inl r))), (b 2, .inl (1, 111, .inr (.inl th9))), (b 23, .inl (1, 6, .inr (.inl g9))), (b 24, .inl (1, 21, .inr (.inl h9))), (b 25, .inl (1, 1806, .inr (.inl pa9))), (b 27, .inl (1, 301, .inr (.inl cx9))), (b 28, .inl (1, 301, .inr (.inl cy9))), (b 29, .inl (0, 301, .inl sy9))]) 0 0 87 [(0, .ref (b 0)), (1, .int (nI p)), (2, .int (nI N)), (3, .int (nI w)), (4, .int (nI x)), (5, .int 0)] [.int 0]
  refine r_ifeq hC 99 dX6_cell_87 (by decide) 90 rfl (fun _ => ?_) (fun h => absurd h (by decide))
  refine r_ldcw hC q3272 dX6_cell_99 102 rfl ?_
  exact r_iret hC (Nat.le_of_ble_eq_true rfl) (Nat.le_of_ble_eq_true rfl) (fun V9 h => hQ _ _ ⟨[(b 0, .inr (5, mF b i9 j)), (b 7, .inl (1, 5, .inr (.inl t))), (b 1, .inl (1, 111, .inr (.inl r))), (b 2, .inl (1, 111, .inr (.inl th9))), (b 23, .inl (1, 6, .inr (.inl g9))), (b 24, .inl (1, 21, .inr (.inl h9))), (b 25, .inl (1, 1806, .inr (.inl pa9))), (b 27, .inl (1, 301, .inr (.inl cx9))), (b 28, .inl (1, 301, .inr (.inl cy9))), (b 29, .inl (0, 301, .inl sy9))], ⟨_, _, _, _, _, _, _, _, rfl, rfl, f9⟩, by rw [← hV0, ← hF]; exact h⟩) dX6_cell_102
set_option maxHeartbeats 4000000 in
set_option maxRecDepth 100000 in
theorem metX6_cellG1 (l : Launch) (G : xG) (hG : xGood G) (b : Nat → Nat) (i : Nat → Int32) (j : Nat → Int64) (t r th g h0 pa cx cy : Nat → Int64) (sy : Nat → Int32) (p N w : Nat) (ht : tOK t) (hm : mOK r) (hp : p < 3) (hN : N ≤ 300) (hw1 : 1000 ≤ w) (hw2 : w ≤ 100000) (x : Nat) (hk : cellsOK t r pa N) (hxl : x < (cellsQ t r pa p N w).length) (hll : (cellsQ t r pa p N w).length ≤ 301) : xWm l G yX6_cell (Cond.code yX6_cell cX6_cell 6 (some .int)) { frames := 9, locals := 230, cells := 0, slots := 0 } [.ref (b 0), .int (nI p), .int (nI N), .int (nI w), .int (nI x), .int 1] [(b 0, .inr (5, mF b i j)), (b 7, .inl (1, 5, .inr (.inl t))), (b 1, .inl (1, 111, .inr (.inl r))), (b 2, .inl (1, 111, .inr (.inl th))), (b 23, .inl (1, 6, .inr (.inl g))), (b 24, .inl (1, 21, .inr (.inl h0))), (b 25, .inl (1, 1806, .inr (.inl pa))), (b 27, .inl (1, 301, .inr (.inl cx))), (b 28, .inl (1, 301, .inr (.inl cy))), (b 29, .inl (0, 301, .inl sy))] (fun v w' => ∃ (i' : Nat → Int32) (th' g' h' pa' cx' cy' : Nat → Int64) (sy' : Nat → Int32), v = some (.int (cellV (cellsQ t r pa p N w) x 1)) ∧ w' = [(b 0, .inr (5, mF b i' j)), (b 7, .inl (1, 5, .inr (.inl t))), (b 1, .inl (1, 111, .inr (.inl r))), (b 2, .inl (1, 111, .inr (.inl th'))), (b 23, .inl (1, 6, .inr (.inl g'))), (b 24, .inl (1, 21, .inr (.inl h'))), (b 25, .inl (1, 1806, .inr (.inl pa'))), (b 27, .inl (1, 301, .inr (.inl cx'))), (b 28, .inl (1, 301, .inr (.inl cy'))), (b 29, .inl (0, 301, .inl sy'))] ∧ (∀ q, q ≠ 30 → i' q = (va_up i 0 0) q)) (fun _ _ => False) := by
  intro V hV
  refine xMet_of RX6 hG rfl (by decide) (Nat.le_of_ble_eq_true rfl) fun C hC hQ hX hl hg _ => ?_
  subst hl hg
  obtain ⟨V0, hV0⟩ : ∃ V0, V0 = V := ⟨_, rfl⟩
  obtain ⟨F, hF⟩ : ∃ F, F = xF [(b 0, .inr (5, mF b i j)), (b 7, .inl (1, 5, .inr (.inl t))), (b 1, .inl (1, 111, .inr (.inl r))), (b 2, .inl (1, 111, .inr (.inl th))), (b 23, .inl (1, 6, .inr (.inl g))), (b 24, .inl (1, 21, .inr (.inl h0))), (b 25, .inl (1, 1806, .inr (.inl pa))), (b 27, .inl (1, 301, .inr (.inl cx))), (b 28, .inl (1, 301, .inr (.inl cy))), (b 29, .inl (0, 301, .inl sy))] := ⟨_, rfl⟩
  refine rn.mono (J := xSt F V0 [(b 0, .inr (5, mF b i j)), (b 7, .inl (1, 5, .inr (.inl t))), (b 1, .inl (1, 111, .inr (.inl r))), (b 2, .inl (1, 111, .inr (.inl th))), (b 23, .inl (1, 6, .inr (.inl g))), (b 24, .inl (1, 21, .inr (.inl h0))), (b 25, .inl (1, 1806, .inr (.inl pa))), (b 27, .inl (1, 301, .inr (.inl cx))), (b 28, .inl (1, 301, .inr (.inl cy))), (b 29, .inl (0, 301, .inl sy))]) (fun V9 h => by rw [h, hV0, hF]; exact hV.st) ?_
  show rn C (xSt F V0 [(b 0, .inr (5, mF b i j)), (b 7, .inl (1, 5, .inr (.inl t))), (b 1, .inl (1, 111, .inr (.inl r))), (b 2, .inl (1, 111, .inr (.inl th))), (b 23, .inl (1, 6, .inr (.inl g))), (b 24, .inl (1, 21, .inr (.inl h0))), (b 25, .inl (1, 1806, .inr (.inl pa))), (b 27, .inl (1, 301, .inr (.inl cx))), (b 28, .inl (1, 301, .inr (.inl cy))), (b 29, .inl (0, 301, .inl sy))]) 0 0 0 [(0, .ref (b 0)), (1, .int (nI p)), (2, .int (nI N)), (3, .int (nI w)), (4, .int (nI x)), (5, .int 1)] []
  refine r_aload_n hC 0 dX6_cell_0 rfl 1 rfl ?_
  refine r_iload_n hC 1 dX6_cell_1 rfl 2 rfl ?_
  refine r_invVw hC kX6 (b 0) [.int (nI p)] [(b 7, .inl (1, 5, .inr (.inl t))), (b 1, .inl (1, 111, .inr (.inl r))), (b 2, .inl (1, 111, .inr (.inl th))), (b 23, .inl (1, 6, .inr (.inl g))), (b 24, .inl (1, 21, .inr (.inl h0))), (b 25, .inl (1, 1806, .inr (.inl pa))), (b 27, .inl (1, 301, .inr (.inl cx))), (b 28, .inl (1, 301, .inr (.inl cy))), (b 29, .inl (0, 301, .inl sy))] mVX6_noBody q2996 0 rfl (metX6_noBody0 _ _ hG b _ _ p (by omega)) [0] [1, 2, 3, 4, 5, 6, 7, 8, 9] rfl rfl rfl rfl (by decide) ⟨rfl, rfl⟩ 0 0 rfl rfl (Nat.le_of_ble_eq_true rfl) (Nat.le_of_ble_eq_true rfl) rfl (Nat.le_of_ble_eq_true rfl) dX6_cell_2 5 rfl (fun v1 w2 h3 => ?_) (fun _ _ h => h.elim)
  obtain ⟨rfl, rfl⟩ := h3
  show rn C (xSt F V0 [(b 7, .inl (1, 5, .inr (.inl t))), (b 1, .inl (1, 111, .inr (.inl r))), (b 2, .inl (1, 111, .inr (.inl th))), (b 23, .inl (1, 6, .inr (.inl g))), (b 24, .inl (1, 21, .inr (.inl h0))), (b 25, .inl (1, 1806, .inr (.inl pa))), (b 27, .inl (1, 301, .inr (.inl cx))), (b 28, .inl (1, 301, .inr (.inl cy))), (b 29, .inl (0, 301, .inl sy)), (b 0, .inr (5, mF b (va_up i 0 0) j))]) 0 0 5 [(0, .ref (b 0)), (1, .int (nI p)), (2, .int (nI N)), (3, .int (nI w)), (4, .int (nI x)), (5, .int 1)] [.int 0]
  refine r_ifne hC 78 dX6_cell_5 (by decide) 8 rfl (fun h => absurd h (by decide)) (fun _ => ?_)
  refine r_aload_n hC 0 dX6_cell_8 rfl 9 rfl ?_
  refine r_iload hC 4 dX6_cell_9 rfl 11 rfl ?_
  refine r_iflt hC 31 dX6_cell_11 (by decide) 14 rfl (fun h => absurd h (nI_pos (by omega))) (fun _ => ?_)
  refine r_iload hC 5 dX6_cell_14 rfl 16 rfl ?_
  refine r_i2l hC 1 dX6_cell_16 (by decide) 17 rfl ?_
  refine r_lconst hC 0 dX6_cell_17 lc_0 18 rfl ?_
  refine r_ldc2 hC q2728 dX6_cell_18 21 rfl ?_
  refine r_invSr hC [.long 1, .long 0, .long 2] (.int 1) mSX6_in q2891 (metX6_inB _ _ hG 1 0 2 1 (by decide)) (fun _ _ => xIn.nil) ⟨rfl, rfl⟩ 0 0 rfl rfl (Nat.le_of_ble_eq_true rfl) (Nat.le_of_ble_eq_true rfl) rfl (Nat.le_of_ble_eq_true rfl) dX6_cell_21 24 rfl ?_
  refine r_ifeq hC 31 dX6_cell_24 (by decide) 27 rfl (fun h => absurd h (by decide)) (fun _ => ?_)
  refine r_iconst hC 1 dX6_cell_27 ic_1 28 rfl ?_
  refine r_goto hC 32 dX6_cell_28 (by decide) ?_
  refine r_iconst hC 1 dX6_cell_32 ic_1 33 rfl ?_
  refine r_invVr hC kX6 (b 0) [.int 1, .int 1] (.int 0) mVX6_fails q2894 (fun _ h => h.get 9 rfl) (metX6_fails1 _ _ hG b _ _ 1) (fun _ h => h.in.sub [9] rfl rfl) ⟨rfl, rfl⟩ 0 0 rfl rfl (Nat.le_of_ble_eq_true rfl) (Nat.le_of_ble_eq_true rfl) rfl (Nat.le_of_ble_eq_true rfl) dX6_cell_33 36 rfl ?_
  refine r_ifne hC 78 dX6_cell_36 (by decide) 39 rfl (fun h => absurd h (by decide)) (fun _ => ?_)
  refine r_aload_n hC 0 dX6_cell_39 rfl 40 rfl ?_
  refine r_iload_n hC 2 dX6_cell_40 rfl 41 rfl ?_
  refine r_i2l hC ((nI N).toInt64) dX6_cell_41 (rfl) 42 rfl ?_
  refine r_lconst hC 0 dX6_cell_42 lc_0 43 rfl ?_
  refine r_ldc2 hC q3174 dX6_cell_43 46 rfl ?_
  refine r_invSr hC [.long ((nI N).toInt64), .long 0, .long 300] (.int 1) mSX6_in q2891 (metX6_inB _ _ hG ((nI N).toInt64) 0 300 1 (in_n (N := 300) (by omega) rfl (by decide))) (fun _ _ => xIn.nil) ⟨rfl, rfl⟩ 0 0 rfl rfl (Nat.le_of_ble_eq_true rfl) (Nat.le_of_ble_eq_true rfl) rfl (Nat.le_of_ble_eq_true rfl) dX6_cell_46 49 rfl ?_
  refine r_ifeq hC 70 dX6_cell_49 (by decide) 52 rfl (fun h => absurd h (by decide)) (fun _ => ?_)
  refine r_iload_n hC 3 dX6_cell_52 rfl 53 rfl ?_
  refine r_i2l hC ((nI w).toInt64) dX6_cell_53 (rfl) 54 rfl ?_
  refine r_ldc2 hC q2708 dX6_cell_54 57 rfl ?_
  refine r_ldc2 hC q2983 dX6_cell_57 60 rfl ?_
  refine r_invSr hC [.long ((nI w).toInt64), .long 1000, .long 100000] (.int 1) mSX6_in q2891 (metX6_inB _ _ hG ((nI w).toInt64) 1000 100000 1 (in_lo (L := 1000) (N := 100000) (by omega) (by omega) rfl rfl (by decide))) (fun _ _ => xIn.nil) ⟨rfl, rfl⟩ 0 0 rfl rfl (Nat.le_of_ble_eq_true rfl) (Nat.le_of_ble_eq_true rfl) rfl (Nat.le_of_ble_eq_true rfl) dX6_cell_60 63 rfl ?_
  refine r_ifeq hC 70 dX6_cell_63 (by decide) 66 rfl (fun h => absurd h (by decide)) (fun _ => ?_)
  refine r_iconst hC 1 dX6_cell_66 ic_1 67 rfl ?_
  refine r_goto hC 71 dX6_cell_67 (by decide) ?_
  refine r_iconst hC 2 dX6_cell_71 ic_2 72 rfl ?_
  refine r_invVr hC kX6 (b 0) [.int 1, .int 2] (.int 0) mVX6_fails q2894 (fun _ h => h.get 9 rfl) (metX6_fails1 _ _ hG b _ _ 2) (fun _ h => h.in.sub [9] rfl rfl) ⟨rfl, rfl⟩ 0 0 rfl rfl (Nat.le_of_ble_eq_true rfl) (Nat.le_of_ble_eq_true rfl) rfl (Nat.le_of_ble_eq_true rfl) dX6_cell_72 75 rfl ?_
  refine r_ifeq hC 80 dX6_cell_75 (by decide) 78 rfl (fun _ => ?_) (fun h => absurd h (by decide))
  refine r_aload_n hC 0 dX6_cell_80 rfl 81 rfl ?_
  refine r_iload_n hC 1 dX6_cell_81 rfl 82 rfl ?_
  refine r_iload_n hC 2 dX6_cell_82 rfl 83 rfl ?_
  refine r_iload_n hC 3 dX6_cell_83 rfl 84 rfl ?_
  refine r_invVw hC kX6 (b 0) [.int (nI p), .int (nI N), .int (nI w)] [] mVX6_laysCells q3264 9 rfl (metX6_laysCellsG _ _ hG b (va_up i 0 0) j t r th g h0 pa cx cy sy p N w ht hm hp hN (cw_n0 hw1 hw2) hk) [9, 0, 1, 2, 3, 4, 5, 6, 7, 8] [] rfl rfl rfl rfl (by decide) ⟨rfl, rfl⟩ 0 0 rfl rfl (Nat.le_of_ble_eq_true rfl) (Nat.le_of_ble_eq_true rfl) rfl (Nat.le_of_ble_eq_true rfl) dX6_cell_84 87 rfl (fun v4 w5 h6 => ?_) (fun _ _ h => h.elim)
  obtain ⟨i9, th9, g9, h9, pa9, cx9, cy9, sy9, rfl, rfl, f9, e9, r9⟩ := h6
  show rn C (xSt F V0 [(b 0, .inr (5, mF b i9 j)), (b 7, .inl (1, 5, .inr (.inl t))), (b 1, .inl (1, 111, .inr (.inl r))), (b 2, .inl (1, 111, .inr (.inl th9))), (b 23, .inl (1, 6, .inr (.inl g9))), (b 24, .inl (1, 21, .inr (.inl h9))), (b 25, .inl (1, 1806, .inr (.inl pa9))), (b 27, .inl (1, 301, .inr (.inl cx9))), (b 28, .inl (1, 301, .inr (.inl cy9))), (b 29, .inl (0, 301, .inl sy9))]) 0 0 87 [(0, .ref (b 0)), (1, .int (nI p)), (2, .int (nI N)), (3, .int (nI w)), (4, .int (nI x)), (5, .int 1)] [.int 1]
  refine r_ifeq hC 99 dX6_cell_87 (by decide) 90 rfl (fun h => absurd h (by decide)) (fun _ => ?_)
  refine r_iload hC 4 dX6_cell_90 rfl 92 rfl ?_
  refine r_aload_n hC 0 dX6_cell_92 rfl 93 rfl ?_
  refine r_get (v := .int (i9 30)) hC kX6 30 rfl q2783 (fun _ h => h.get 0 rfl) rfl dX6_cell_93 96 rfl ?_
  refine r_eqi (y := nI ((cellsQ t r pa p N w).length)) (e9) ?_
  refine r_iclt hC 103 dX6_cell_96 (by decide) 99 rfl (fun _ => ?_) (fun h => absurd (nI_lt (by omega) (by omega)) h)
  refine r_iload hC 5 dX6_cell_103 rfl 105 rfl ?_
  refine r_ifne hC 119 dX6_cell_105 (by decide) 108 rfl (fun _ => ?_) (fun h => absurd h (by decide))
  refine r_iload hC 5 dX6_cell_119 rfl 121 rfl ?_
  refine r_iconst hC 1 dX6_cell_121 ic_1 122 rfl ?_
  refine r_icne hC 136 dX6_cell_122 (by decide) 125 rfl (fun h => absurd h (by decide)) (fun _ => ?_)
  refine r_aload_n hC 0 dX6_cell_125 rfl 126 rfl ?_
  refine r_get (v := .ref (b 28)) hC kX6 28 rfl q2781 (fun _ h => h.get 0 rfl) rfl dX6_cell_126 129 rfl ?_
  refine r_iload hC 4 dX6_cell_129 rfl 131 rfl ?_
  refine r_lald hC x (xix_n x (by omega) (Nat.le_of_ble_eq_true rfl)) (fun _ h => h.get 8 rfl) (cy9 x) (rfl) dX6_cell_131 132 rfl ?_
  refine r_l2i hC ((cy9 x).toInt32) dX6_cell_132 (rfl) 133 rfl ?_
  refine r_goto hC 143 dX6_cell_133 (by decide) ?_
  exact r_iret hC (Nat.le_of_ble_eq_true rfl) (Nat.le_of_ble_eq_true rfl) (fun V9 h => hQ _ _ ⟨[(b 0, .inr (5, mF b i9 j)), (b 7, .inl (1, 5, .inr (.inl t))), (b 1, .inl (1, 111, .inr (.inl r))), (b 2, .inl (1, 111, .inr (.inl th9))), (b 23, .inl (1, 6, .inr (.inl g9))), (b 24, .inl (1, 21, .inr (.inl h9))), (b 25, .inl (1, 1806, .inr (.inl pa9))), (b 27, .inl (1, 301, .inr (.inl cx9))), (b 28, .inl (1, 301, .inr (.inl cy9))), (b 29, .inl (0, 301, .inl sy9))], ⟨_, _, _, _, _, _, _, _, by rw [cellV_s r9 hxl]; rfl, rfl, f9⟩, by rw [← hV0, ← hF]; exact h⟩) dX6_cell_143
set_option maxHeartbeats 4000000 in
set_option maxRecDepth 100000 in
theorem metX6_cellH1 (l : Launch) (G : xG) (hG : xGood G) (b : Nat → Nat) (i : Nat → Int32) (j : Nat → Int64) (t r th g h0 pa cx cy : Nat → Int64) (sy : Nat → Int32) (p N w : Nat) (ht : tOK t) (hm : mOK r) (hp : p < 3) (hN : N ≤ 300) (hw1 : 1000 ≤ w) (hw2 : w ≤ 100000) (x : Nat) (hx : x < 2 ^ 31) (hk : cellsOK t r pa N) (hxl : (cellsQ t r pa p N w).length ≤ x) : xWm l G yX6_cell (Cond.code yX6_cell cX6_cell 6 (some .int)) { frames := 9, locals := 230, cells := 0, slots := 0 } [.ref (b 0), .int (nI p), .int (nI N), .int (nI w), .int (nI x), .int 1] [(b 0, .inr (5, mF b i j)), (b 7, .inl (1, 5, .inr (.inl t))), (b 1, .inl (1, 111, .inr (.inl r))), (b 2, .inl (1, 111, .inr (.inl th))), (b 23, .inl (1, 6, .inr (.inl g))), (b 24, .inl (1, 21, .inr (.inl h0))), (b 25, .inl (1, 1806, .inr (.inl pa))), (b 27, .inl (1, 301, .inr (.inl cx))), (b 28, .inl (1, 301, .inr (.inl cy))), (b 29, .inl (0, 301, .inl sy))] (fun v w' => ∃ (i' : Nat → Int32) (th' g' h' pa' cx' cy' : Nat → Int64) (sy' : Nat → Int32), v = some (.int (cellV (cellsQ t r pa p N w) x 1)) ∧ w' = [(b 0, .inr (5, mF b i' j)), (b 7, .inl (1, 5, .inr (.inl t))), (b 1, .inl (1, 111, .inr (.inl r))), (b 2, .inl (1, 111, .inr (.inl th'))), (b 23, .inl (1, 6, .inr (.inl g'))), (b 24, .inl (1, 21, .inr (.inl h'))), (b 25, .inl (1, 1806, .inr (.inl pa'))), (b 27, .inl (1, 301, .inr (.inl cx'))), (b 28, .inl (1, 301, .inr (.inl cy'))), (b 29, .inl (0, 301, .inl sy'))] ∧ (∀ q, q ≠ 30 → i' q = (va_up i 0 0) q)) (fun _ _ => False) := by
  intro V hV
  refine xMet_of RX6 hG rfl (by decide) (Nat.le_of_ble_eq_true rfl) fun C hC hQ hX hl hg _ => ?_
  subst hl hg
  obtain ⟨V0, hV0⟩ : ∃ V0, V0 = V := ⟨_, rfl⟩
  obtain ⟨F, hF⟩ : ∃ F, F = xF [(b 0, .inr (5, mF b i j)), (b 7, .inl (1, 5, .inr (.inl t))), (b 1, .inl (1, 111, .inr (.inl r))), (b 2, .inl (1, 111, .inr (.inl th))), (b 23, .inl (1, 6, .inr (.inl g))), (b 24, .inl (1, 21, .inr (.inl h0))), (b 25, .inl (1, 1806, .inr (.inl pa))), (b 27, .inl (1, 301, .inr (.inl cx))), (b 28, .inl (1, 301, .inr (.inl cy))), (b 29, .inl (0, 301, .inl sy))] := ⟨_, rfl⟩
  refine rn.mono (J := xSt F V0 [(b 0, .inr (5, mF b i j)), (b 7, .inl (1, 5, .inr (.inl t))), (b 1, .inl (1, 111, .inr (.inl r))), (b 2, .inl (1, 111, .inr (.inl th))), (b 23, .inl (1, 6, .inr (.inl g))), (b 24, .inl (1, 21, .inr (.inl h0))), (b 25, .inl (1, 1806, .inr (.inl pa))), (b 27, .inl (1, 301, .inr (.inl cx))), (b 28, .inl (1, 301, .inr (.inl cy))), (b 29, .inl (0, 301, .inl sy))]) (fun V9 h => by rw [h, hV0, hF]; exact hV.st) ?_
  show rn C (xSt F V0 [(b 0, .inr (5, mF b i j)), (b 7, .inl (1, 5, .inr (.inl t))), (b 1, .inl (1, 111, .inr (.inl r))), (b 2, .inl (1, 111, .inr (.inl th))), (b 23, .inl (1, 6, .inr (.inl g))), (b 24, .inl (1, 21, .inr (.inl h0))), (b 25, .inl (1, 1806, .inr (.inl pa))), (b 27, .inl (1, 301, .inr (.inl cx))), (b 28, .inl (1, 301, .inr (.inl cy))), (b 29, .inl (0, 301, .inl sy))]) 0 0 0 [(0, .ref (b 0)), (1, .int (nI p)), (2, .int (nI N)), (3, .int (nI w)), (4, .int (nI x)), (5, .int 1)] []
  refine r_aload_n hC 0 dX6_cell_0 rfl 1 rfl ?_
  refine r_iload_n hC 1 dX6_cell_1 rfl 2 rfl ?_
  refine r_invVw hC kX6 (b 0) [.int (nI p)] [(b 7, .inl (1, 5, .inr (.inl t))), (b 1, .inl (1, 111, .inr (.inl r))), (b 2, .inl (1, 111, .inr (.inl th))), (b 23, .inl (1, 6, .inr (.inl g))), (b 24, .inl (1, 21, .inr (.inl h0))), (b 25, .inl (1, 1806, .inr (.inl pa))), (b 27, .inl (1, 301, .inr (.inl cx))), (b 28, .inl (1, 301, .inr (.inl cy))), (b 29, .inl (0, 301, .inl sy))] mVX6_noBody q2996 0 rfl (metX6_noBody0 _ _ hG b _ _ p (by omega)) [0] [1, 2, 3, 4, 5, 6, 7, 8, 9] rfl rfl rfl rfl (by decide) ⟨rfl, rfl⟩ 0 0 rfl rfl (Nat.le_of_ble_eq_true rfl) (Nat.le_of_ble_eq_true rfl) rfl (Nat.le_of_ble_eq_true rfl) dX6_cell_2 5 rfl (fun v1 w2 h3 => ?_) (fun _ _ h => h.elim)
  obtain ⟨rfl, rfl⟩ := h3
  show rn C (xSt F V0 [(b 7, .inl (1, 5, .inr (.inl t))), (b 1, .inl (1, 111, .inr (.inl r))), (b 2, .inl (1, 111, .inr (.inl th))), (b 23, .inl (1, 6, .inr (.inl g))), (b 24, .inl (1, 21, .inr (.inl h0))), (b 25, .inl (1, 1806, .inr (.inl pa))), (b 27, .inl (1, 301, .inr (.inl cx))), (b 28, .inl (1, 301, .inr (.inl cy))), (b 29, .inl (0, 301, .inl sy)), (b 0, .inr (5, mF b (va_up i 0 0) j))]) 0 0 5 [(0, .ref (b 0)), (1, .int (nI p)), (2, .int (nI N)), (3, .int (nI w)), (4, .int (nI x)), (5, .int 1)] [.int 0]
  refine r_ifne hC 78 dX6_cell_5 (by decide) 8 rfl (fun h => absurd h (by decide)) (fun _ => ?_)
  refine r_aload_n hC 0 dX6_cell_8 rfl 9 rfl ?_
  refine r_iload hC 4 dX6_cell_9 rfl 11 rfl ?_
  refine r_iflt hC 31 dX6_cell_11 (by decide) 14 rfl (fun h => absurd h (nI_pos (by omega))) (fun _ => ?_)
  refine r_iload hC 5 dX6_cell_14 rfl 16 rfl ?_
  refine r_i2l hC 1 dX6_cell_16 (by decide) 17 rfl ?_
  refine r_lconst hC 0 dX6_cell_17 lc_0 18 rfl ?_
  refine r_ldc2 hC q2728 dX6_cell_18 21 rfl ?_
  refine r_invSr hC [.long 1, .long 0, .long 2] (.int 1) mSX6_in q2891 (metX6_inB _ _ hG 1 0 2 1 (by decide)) (fun _ _ => xIn.nil) ⟨rfl, rfl⟩ 0 0 rfl rfl (Nat.le_of_ble_eq_true rfl) (Nat.le_of_ble_eq_true rfl) rfl (Nat.le_of_ble_eq_true rfl) dX6_cell_21 24 rfl ?_
  refine r_ifeq hC 31 dX6_cell_24 (by decide) 27 rfl (fun h => absurd h (by decide)) (fun _ => ?_)
  refine r_iconst hC 1 dX6_cell_27 ic_1 28 rfl ?_
  refine r_goto hC 32 dX6_cell_28 (by decide) ?_
  refine r_iconst hC 1 dX6_cell_32 ic_1 33 rfl ?_
  refine r_invVr hC kX6 (b 0) [.int 1, .int 1] (.int 0) mVX6_fails q2894 (fun _ h => h.get 9 rfl) (metX6_fails1 _ _ hG b _ _ 1) (fun _ h => h.in.sub [9] rfl rfl) ⟨rfl, rfl⟩ 0 0 rfl rfl (Nat.le_of_ble_eq_true rfl) (Nat.le_of_ble_eq_true rfl) rfl (Nat.le_of_ble_eq_true rfl) dX6_cell_33 36 rfl ?_
  refine r_ifne hC 78 dX6_cell_36 (by decide) 39 rfl (fun h => absurd h (by decide)) (fun _ => ?_)
  refine r_aload_n hC 0 dX6_cell_39 rfl 40 rfl ?_
  refine r_iload_n hC 2 dX6_cell_40 rfl 41 rfl ?_
  refine r_i2l hC ((nI N).toInt64) dX6_cell_41 (rfl) 42 rfl ?_
  refine r_lconst hC 0 dX6_cell_42 lc_0 43 rfl ?_
  refine r_ldc2 hC q3174 dX6_cell_43 46 rfl ?_
  refine r_invSr hC [.long ((nI N).toInt64), .long 0, .long 300] (.int 1) mSX6_in q2891 (metX6_inB _ _ hG ((nI N).toInt64) 0 300 1 (in_n (N := 300) (by omega) rfl (by decide))) (fun _ _ => xIn.nil) ⟨rfl, rfl⟩ 0 0 rfl rfl (Nat.le_of_ble_eq_true rfl) (Nat.le_of_ble_eq_true rfl) rfl (Nat.le_of_ble_eq_true rfl) dX6_cell_46 49 rfl ?_
  refine r_ifeq hC 70 dX6_cell_49 (by decide) 52 rfl (fun h => absurd h (by decide)) (fun _ => ?_)
  refine r_iload_n hC 3 dX6_cell_52 rfl 53 rfl ?_
  refine r_i2l hC ((nI w).toInt64) dX6_cell_53 (rfl) 54 rfl ?_
  refine r_ldc2 hC q2708 dX6_cell_54 57 rfl ?_
  refine r_ldc2 hC q2983 dX6_cell_57 60 rfl ?_
  refine r_invSr hC [.long ((nI w).toInt64), .long 1000, .long 100000] (.int 1) mSX6_in q2891 (metX6_inB _ _ hG ((nI w).toInt64) 1000 100000 1 (in_lo (L := 1000) (N := 100000) (by omega) (by omega) rfl rfl (by decide))) (fun _ _ => xIn.nil) ⟨rfl, rfl⟩ 0 0 rfl rfl (Nat.le_of_ble_eq_true rfl) (Nat.le_of_ble_eq_true rfl) rfl (Nat.le_of_ble_eq_true rfl) dX6_cell_60 63 rfl ?_
  refine r_ifeq hC 70 dX6_cell_63 (by decide) 66 rfl (fun h => absurd h (by decide)) (fun _ => ?_)
  refine r_iconst hC 1 dX6_cell_66 ic_1 67 rfl ?_
  refine r_goto hC 71 dX6_cell_67 (by decide) ?_
  refine r_iconst hC 2 dX6_cell_71 ic_2 72 rfl ?_
  refine r_invVr hC kX6 (b 0) [.int 1, .int 2] (.int 0) mVX6_fails q2894 (fun _ h => h.get 9 rfl) (metX6_fails1 _ _ hG b _ _ 2) (fun _ h => h.in.sub [9] rfl rfl) ⟨rfl, rfl⟩ 0 0 rfl rfl (Nat.le_of_ble_eq_true rfl) (Nat.le_of_ble_eq_true rfl) rfl (Nat.le_of_ble_eq_true rfl) dX6_cell_72 75 rfl ?_
  refine r_ifeq hC 80 dX6_cell_75 (by decide) 78 rfl (fun _ => ?_) (fun h => absurd h (by decide))
  refine r_aload_n hC 0 dX6_cell_80 rfl 81 rfl ?_
  refine r_iload_n hC 1 dX6_cell_81 rfl 82 rfl ?_
  refine r_iload_n hC 2 dX6_cell_82 rfl 83 rfl ?_
  refine r_iload_n hC 3 dX6_cell_83 rfl 84 rfl ?_
  refine r_invVw hC kX6 (b 0) [.int (nI p), .int (nI N), .int (nI w)] [] mVX6_laysCells q3264 9 rfl (metX6_laysCellsG _ _ hG b (va_up i 0 0) j t r th g h0 pa cx cy sy p N w ht hm hp hN (cw_n0 hw1 hw2) hk) [9, 0, 1, 2, 3, 4, 5, 6, 7, 8] [] rfl rfl rfl rfl (by decide) ⟨rfl, rfl⟩ 0 0 rfl rfl (Nat.le_of_ble_eq_true rfl) (Nat.le_of_ble_eq_true rfl) rfl (Nat.le_of_ble_eq_true rfl) dX6_cell_84 87 rfl (fun v4 w5 h6 => ?_) (fun _ _ h => h.elim)
  obtain ⟨i9, th9, g9, h9, pa9, cx9, cy9, sy9, rfl, rfl, f9, e9, r9⟩ := h6
  show rn C (xSt F V0 [(b 0, .inr (5, mF b i9 j)), (b 7, .inl (1, 5, .inr (.inl t))), (b 1, .inl (1, 111, .inr (.inl r))), (b 2, .inl (1, 111, .inr (.inl th9))), (b 23, .inl (1, 6, .inr (.inl g9))), (b 24, .inl (1, 21, .inr (.inl h9))), (b 25, .inl (1, 1806, .inr (.inl pa9))), (b 27, .inl (1, 301, .inr (.inl cx9))), (b 28, .inl (1, 301, .inr (.inl cy9))), (b 29, .inl (0, 301, .inl sy9))]) 0 0 87 [(0, .ref (b 0)), (1, .int (nI p)), (2, .int (nI N)), (3, .int (nI w)), (4, .int (nI x)), (5, .int 1)] [.int 1]
  refine r_ifeq hC 99 dX6_cell_87 (by decide) 90 rfl (fun h => absurd h (by decide)) (fun _ => ?_)
  refine r_iload hC 4 dX6_cell_90 rfl 92 rfl ?_
  refine r_aload_n hC 0 dX6_cell_92 rfl 93 rfl ?_
  refine r_get (v := .int (i9 30)) hC kX6 30 rfl q2783 (fun _ h => h.get 0 rfl) rfl dX6_cell_93 96 rfl ?_
  refine r_eqi (y := nI ((cellsQ t r pa p N w).length)) (e9) ?_
  refine r_iclt hC 103 dX6_cell_96 (by decide) 99 rfl (fun h => absurd h (nI_nlt (by omega) (by omega))) (fun _ => ?_)
  refine r_ldcw hC q3272 dX6_cell_99 102 rfl ?_
  exact r_iret hC (Nat.le_of_ble_eq_true rfl) (Nat.le_of_ble_eq_true rfl) (fun V9 h => hQ _ _ ⟨[(b 0, .inr (5, mF b i9 j)), (b 7, .inl (1, 5, .inr (.inl t))), (b 1, .inl (1, 111, .inr (.inl r))), (b 2, .inl (1, 111, .inr (.inl th9))), (b 23, .inl (1, 6, .inr (.inl g9))), (b 24, .inl (1, 21, .inr (.inl h9))), (b 25, .inl (1, 1806, .inr (.inl pa9))), (b 27, .inl (1, 301, .inr (.inl cx9))), (b 28, .inl (1, 301, .inr (.inl cy9))), (b 29, .inl (0, 301, .inl sy9))], ⟨_, _, _, _, _, _, _, _, by rw [cellV_n hxl], rfl, f9⟩, by rw [← hV0, ← hF]; exact h⟩) dX6_cell_102
set_option maxHeartbeats 4000000 in
set_option maxRecDepth 100000 in
theorem metX6_cellN1 (l : Launch) (G : xG) (hG : xGood G) (b : Nat → Nat) (i : Nat → Int32) (j : Nat → Int64) (t r th g h0 pa cx cy : Nat → Int64) (sy : Nat → Int32) (p N w : Nat) (ht : tOK t) (hm : mOK r) (hp : p < 3) (hN : N ≤ 300) (hw1 : 1000 ≤ w) (hw2 : w ≤ 100000) (x : Nat) (hx : x < 2 ^ 31) (hk : ¬ cellsOK t r pa N) : xWm l G yX6_cell (Cond.code yX6_cell cX6_cell 6 (some .int)) { frames := 9, locals := 230, cells := 0, slots := 0 } [.ref (b 0), .int (nI p), .int (nI N), .int (nI w), .int (nI x), .int 1] [(b 0, .inr (5, mF b i j)), (b 7, .inl (1, 5, .inr (.inl t))), (b 1, .inl (1, 111, .inr (.inl r))), (b 2, .inl (1, 111, .inr (.inl th))), (b 23, .inl (1, 6, .inr (.inl g))), (b 24, .inl (1, 21, .inr (.inl h0))), (b 25, .inl (1, 1806, .inr (.inl pa))), (b 27, .inl (1, 301, .inr (.inl cx))), (b 28, .inl (1, 301, .inr (.inl cy))), (b 29, .inl (0, 301, .inl sy))] (fun v w' => ∃ (i' : Nat → Int32) (th' g' h' pa' cx' cy' : Nat → Int64) (sy' : Nat → Int32), v = some (.int (-1000000000)) ∧ w' = [(b 0, .inr (5, mF b i' j)), (b 7, .inl (1, 5, .inr (.inl t))), (b 1, .inl (1, 111, .inr (.inl r))), (b 2, .inl (1, 111, .inr (.inl th'))), (b 23, .inl (1, 6, .inr (.inl g'))), (b 24, .inl (1, 21, .inr (.inl h'))), (b 25, .inl (1, 1806, .inr (.inl pa'))), (b 27, .inl (1, 301, .inr (.inl cx'))), (b 28, .inl (1, 301, .inr (.inl cy'))), (b 29, .inl (0, 301, .inl sy'))] ∧ (∀ q, q ≠ 30 → i' q = (va_up i 0 0) q)) (fun _ _ => False) := by
  intro V hV
  refine xMet_of RX6 hG rfl (by decide) (Nat.le_of_ble_eq_true rfl) fun C hC hQ hX hl hg _ => ?_
  subst hl hg
  obtain ⟨V0, hV0⟩ : ∃ V0, V0 = V := ⟨_, rfl⟩
  obtain ⟨F, hF⟩ : ∃ F, F = xF [(b 0, .inr (5, mF b i j)), (b 7, .inl (1, 5, .inr (.inl t))), (b 1, .inl (1, 111, .inr (.inl r))), (b 2, .inl (1, 111, .inr (.inl th))), (b 23, .inl (1, 6, .inr (.inl g))), (b 24, .inl (1, 21, .inr (.inl h0))), (b 25, .inl (1, 1806, .inr (.inl pa))), (b 27, .inl (1, 301, .inr (.inl cx))), (b 28, .inl (1, 301, .inr (.inl cy))), (b 29, .inl (0, 301, .inl sy))] := ⟨_, rfl⟩
  refine rn.mono (J := xSt F V0 [(b 0, .inr (5, mF b i j)), (b 7, .inl (1, 5, .inr (.inl t))), (b 1, .inl (1, 111, .inr (.inl r))), (b 2, .inl (1, 111, .inr (.inl th))), (b 23, .inl (1, 6, .inr (.inl g))), (b 24, .inl (1, 21, .inr (.inl h0))), (b 25, .inl (1, 1806, .inr (.inl pa))), (b 27, .inl (1, 301, .inr (.inl cx))), (b 28, .inl (1, 301, .inr (.inl cy))), (b 29, .inl (0, 301, .inl sy))]) (fun V9 h => by rw [h, hV0, hF]; exact hV.st) ?_
  show rn C (xSt F V0 [(b 0, .inr (5, mF b i j)), (b 7, .inl (1, 5, .inr (.inl t))), (b 1, .inl (1, 111, .inr (.inl r))), (b 2, .inl (1, 111, .inr (.inl th))), (b 23, .inl (1, 6, .inr (.inl g))), (b 24, .inl (1, 21, .inr (.inl h0))), (b 25, .inl (1, 1806, .inr (.inl pa))), (b 27, .inl (1, 301, .inr (.inl cx))), (b 28, .inl (1, 301, .inr (.inl cy))), (b 29, .inl (0, 301, .inl sy))]) 0 0 0 [(0, .ref (b 0)), (1, .int (nI p)), (2, .int (nI N)), (3, .int (nI w)), (4, .int (nI x)), (5, .int 1)] []
  refine r_aload_n hC 0 dX6_cell_0 rfl 1 rfl ?_
  refine r_iload_n hC 1 dX6_cell_1 rfl 2 rfl ?_
  refine r_invVw hC kX6 (b 0) [.int (nI p)] [(b 7, .inl (1, 5, .inr (.inl t))), (b 1, .inl (1, 111, .inr (.inl r))), (b 2, .inl (1, 111, .inr (.inl th))), (b 23, .inl (1, 6, .inr (.inl g))), (b 24, .inl (1, 21, .inr (.inl h0))), (b 25, .inl (1, 1806, .inr (.inl pa))), (b 27, .inl (1, 301, .inr (.inl cx))), (b 28, .inl (1, 301, .inr (.inl cy))), (b 29, .inl (0, 301, .inl sy))] mVX6_noBody q2996 0 rfl (metX6_noBody0 _ _ hG b _ _ p (by omega)) [0] [1, 2, 3, 4, 5, 6, 7, 8, 9] rfl rfl rfl rfl (by decide) ⟨rfl, rfl⟩ 0 0 rfl rfl (Nat.le_of_ble_eq_true rfl) (Nat.le_of_ble_eq_true rfl) rfl (Nat.le_of_ble_eq_true rfl) dX6_cell_2 5 rfl (fun v1 w2 h3 => ?_) (fun _ _ h => h.elim)
  obtain ⟨rfl, rfl⟩ := h3
  show rn C (xSt F V0 [(b 7, .inl (1, 5, .inr (.inl t))), (b 1, .inl (1, 111, .inr (.inl r))), (b 2, .inl (1, 111, .inr (.inl th))), (b 23, .inl (1, 6, .inr (.inl g))), (b 24, .inl (1, 21, .inr (.inl h0))), (b 25, .inl (1, 1806, .inr (.inl pa))), (b 27, .inl (1, 301, .inr (.inl cx))), (b 28, .inl (1, 301, .inr (.inl cy))), (b 29, .inl (0, 301, .inl sy)), (b 0, .inr (5, mF b (va_up i 0 0) j))]) 0 0 5 [(0, .ref (b 0)), (1, .int (nI p)), (2, .int (nI N)), (3, .int (nI w)), (4, .int (nI x)), (5, .int 1)] [.int 0]
  refine r_ifne hC 78 dX6_cell_5 (by decide) 8 rfl (fun h => absurd h (by decide)) (fun _ => ?_)
  refine r_aload_n hC 0 dX6_cell_8 rfl 9 rfl ?_
  refine r_iload hC 4 dX6_cell_9 rfl 11 rfl ?_
  refine r_iflt hC 31 dX6_cell_11 (by decide) 14 rfl (fun h => absurd h (nI_pos (by omega))) (fun _ => ?_)
  refine r_iload hC 5 dX6_cell_14 rfl 16 rfl ?_
  refine r_i2l hC 1 dX6_cell_16 (by decide) 17 rfl ?_
  refine r_lconst hC 0 dX6_cell_17 lc_0 18 rfl ?_
  refine r_ldc2 hC q2728 dX6_cell_18 21 rfl ?_
  refine r_invSr hC [.long 1, .long 0, .long 2] (.int 1) mSX6_in q2891 (metX6_inB _ _ hG 1 0 2 1 (by decide)) (fun _ _ => xIn.nil) ⟨rfl, rfl⟩ 0 0 rfl rfl (Nat.le_of_ble_eq_true rfl) (Nat.le_of_ble_eq_true rfl) rfl (Nat.le_of_ble_eq_true rfl) dX6_cell_21 24 rfl ?_
  refine r_ifeq hC 31 dX6_cell_24 (by decide) 27 rfl (fun h => absurd h (by decide)) (fun _ => ?_)
  refine r_iconst hC 1 dX6_cell_27 ic_1 28 rfl ?_
  refine r_goto hC 32 dX6_cell_28 (by decide) ?_
  refine r_iconst hC 1 dX6_cell_32 ic_1 33 rfl ?_
  refine r_invVr hC kX6 (b 0) [.int 1, .int 1] (.int 0) mVX6_fails q2894 (fun _ h => h.get 9 rfl) (metX6_fails1 _ _ hG b _ _ 1) (fun _ h => h.in.sub [9] rfl rfl) ⟨rfl, rfl⟩ 0 0 rfl rfl (Nat.le_of_ble_eq_true rfl) (Nat.le_of_ble_eq_true rfl) rfl (Nat.le_of_ble_eq_true rfl) dX6_cell_33 36 rfl ?_
  refine r_ifne hC 78 dX6_cell_36 (by decide) 39 rfl (fun h => absurd h (by decide)) (fun _ => ?_)
  refine r_aload_n hC 0 dX6_cell_39 rfl 40 rfl ?_
  refine r_iload_n hC 2 dX6_cell_40 rfl 41 rfl ?_
  refine r_i2l hC ((nI N).toInt64) dX6_cell_41 (rfl) 42 rfl ?_
  refine r_lconst hC 0 dX6_cell_42 lc_0 43 rfl ?_
  refine r_ldc2 hC q3174 dX6_cell_43 46 rfl ?_
  refine r_invSr hC [.long ((nI N).toInt64), .long 0, .long 300] (.int 1) mSX6_in q2891 (metX6_inB _ _ hG ((nI N).toInt64) 0 300 1 (in_n (N := 300) (by omega) rfl (by decide))) (fun _ _ => xIn.nil) ⟨rfl, rfl⟩ 0 0 rfl rfl (Nat.le_of_ble_eq_true rfl) (Nat.le_of_ble_eq_true rfl) rfl (Nat.le_of_ble_eq_true rfl) dX6_cell_46 49 rfl ?_
  refine r_ifeq hC 70 dX6_cell_49 (by decide) 52 rfl (fun h => absurd h (by decide)) (fun _ => ?_)
  refine r_iload_n hC 3 dX6_cell_52 rfl 53 rfl ?_
  refine r_i2l hC ((nI w).toInt64) dX6_cell_53 (rfl) 54 rfl ?_
  refine r_ldc2 hC q2708 dX6_cell_54 57 rfl ?_
  refine r_ldc2 hC q2983 dX6_cell_57 60 rfl ?_
  refine r_invSr hC [.long ((nI w).toInt64), .long 1000, .long 100000] (.int 1) mSX6_in q2891 (metX6_inB _ _ hG ((nI w).toInt64) 1000 100000 1 (in_lo (L := 1000) (N := 100000) (by omega) (by omega) rfl rfl (by decide))) (fun _ _ => xIn.nil) ⟨rfl, rfl⟩ 0 0 rfl rfl (Nat.le_of_ble_eq_true rfl) (Nat.le_of_ble_eq_true rfl) rfl (Nat.le_of_ble_eq_true rfl) dX6_cell_60 63 rfl ?_
  refine r_ifeq hC 70 dX6_cell_63 (by decide) 66 rfl (fun h => absurd h (by decide)) (fun _ => ?_)
  refine r_iconst hC 1 dX6_cell_66 ic_1 67 rfl ?_
  refine r_goto hC 71 dX6_cell_67 (by decide) ?_
  refine r_iconst hC 2 dX6_cell_71 ic_2 72 rfl ?_
  refine r_invVr hC kX6 (b 0) [.int 1, .int 2] (.int 0) mVX6_fails q2894 (fun _ h => h.get 9 rfl) (metX6_fails1 _ _ hG b _ _ 2) (fun _ h => h.in.sub [9] rfl rfl) ⟨rfl, rfl⟩ 0 0 rfl rfl (Nat.le_of_ble_eq_true rfl) (Nat.le_of_ble_eq_true rfl) rfl (Nat.le_of_ble_eq_true rfl) dX6_cell_72 75 rfl ?_
  refine r_ifeq hC 80 dX6_cell_75 (by decide) 78 rfl (fun _ => ?_) (fun h => absurd h (by decide))
  refine r_aload_n hC 0 dX6_cell_80 rfl 81 rfl ?_
  refine r_iload_n hC 1 dX6_cell_81 rfl 82 rfl ?_
  refine r_iload_n hC 2 dX6_cell_82 rfl 83 rfl ?_
  refine r_iload_n hC 3 dX6_cell_83 rfl 84 rfl ?_
  refine r_invVw hC kX6 (b 0) [.int (nI p), .int (nI N), .int (nI w)] [] mVX6_laysCells q3264 9 rfl (metX6_laysCellsN _ _ hG b (va_up i 0 0) j t r th g h0 pa cx cy sy p N w ht hm hp hN (cw_n0 hw1 hw2) hk) [9, 0, 1, 2, 3, 4, 5, 6, 7, 8] [] rfl rfl rfl rfl (by decide) ⟨rfl, rfl⟩ 0 0 rfl rfl (Nat.le_of_ble_eq_true rfl) (Nat.le_of_ble_eq_true rfl) rfl (Nat.le_of_ble_eq_true rfl) dX6_cell_84 87 rfl (fun v4 w5 h6 => ?_) (fun _ _ h => h.elim)
  obtain ⟨i9, th9, g9, h9, pa9, cx9, cy9, sy9, rfl, rfl, f9⟩ := h6
  show rn C (xSt F V0 [(b 0, .inr (5, mF b i9 j)), (b 7, .inl (1, 5, .inr (.inl t))), (b 1, .inl (1, 111, .inr (.inl r))), (b 2, .inl (1, 111, .inr (.inl th9))), (b 23, .inl (1, 6, .inr (.inl g9))), (b 24, .inl (1, 21, .inr (.inl h9))), (b 25, .inl (1, 1806, .inr (.inl pa9))), (b 27, .inl (1, 301, .inr (.inl cx9))), (b 28, .inl (1, 301, .inr (.inl cy9))), (b 29, .inl (0, 301, .inl sy9))]) 0 0 87 [(0, .ref (b 0)), (1, .int (nI p)), (2, .int (nI N)), (3, .int (nI w)), (4, .int (nI x)), (5, .int 1)] [.int 0]
  refine r_ifeq hC 99 dX6_cell_87 (by decide) 90 rfl (fun _ => ?_) (fun h => absurd h (by decide))
  refine r_ldcw hC q3272 dX6_cell_99 102 rfl ?_
  exact r_iret hC (Nat.le_of_ble_eq_true rfl) (Nat.le_of_ble_eq_true rfl) (fun V9 h => hQ _ _ ⟨[(b 0, .inr (5, mF b i9 j)), (b 7, .inl (1, 5, .inr (.inl t))), (b 1, .inl (1, 111, .inr (.inl r))), (b 2, .inl (1, 111, .inr (.inl th9))), (b 23, .inl (1, 6, .inr (.inl g9))), (b 24, .inl (1, 21, .inr (.inl h9))), (b 25, .inl (1, 1806, .inr (.inl pa9))), (b 27, .inl (1, 301, .inr (.inl cx9))), (b 28, .inl (1, 301, .inr (.inl cy9))), (b 29, .inl (0, 301, .inl sy9))], ⟨_, _, _, _, _, _, _, _, rfl, rfl, f9⟩, by rw [← hV0, ← hF]; exact h⟩) dX6_cell_102
set_option maxHeartbeats 4000000 in
set_option maxRecDepth 100000 in
theorem metX6_cellG2 (l : Launch) (G : xG) (hG : xGood G) (b : Nat → Nat) (i : Nat → Int32) (j : Nat → Int64) (t r th g h0 pa cx cy : Nat → Int64) (sy : Nat → Int32) (p N w : Nat) (ht : tOK t) (hm : mOK r) (hp : p < 3) (hN : N ≤ 300) (hw1 : 1000 ≤ w) (hw2 : w ≤ 100000) (x : Nat) (hk : cellsOK t r pa N) (hxl : x < (cellsQ t r pa p N w).length) (hll : (cellsQ t r pa p N w).length ≤ 301) : xWm l G yX6_cell (Cond.code yX6_cell cX6_cell 6 (some .int)) { frames := 9, locals := 230, cells := 0, slots := 0 } [.ref (b 0), .int (nI p), .int (nI N), .int (nI w), .int (nI x), .int 2] [(b 0, .inr (5, mF b i j)), (b 7, .inl (1, 5, .inr (.inl t))), (b 1, .inl (1, 111, .inr (.inl r))), (b 2, .inl (1, 111, .inr (.inl th))), (b 23, .inl (1, 6, .inr (.inl g))), (b 24, .inl (1, 21, .inr (.inl h0))), (b 25, .inl (1, 1806, .inr (.inl pa))), (b 27, .inl (1, 301, .inr (.inl cx))), (b 28, .inl (1, 301, .inr (.inl cy))), (b 29, .inl (0, 301, .inl sy))] (fun v w' => ∃ (i' : Nat → Int32) (th' g' h' pa' cx' cy' : Nat → Int64) (sy' : Nat → Int32), v = some (.int (cellV (cellsQ t r pa p N w) x 2)) ∧ w' = [(b 0, .inr (5, mF b i' j)), (b 7, .inl (1, 5, .inr (.inl t))), (b 1, .inl (1, 111, .inr (.inl r))), (b 2, .inl (1, 111, .inr (.inl th'))), (b 23, .inl (1, 6, .inr (.inl g'))), (b 24, .inl (1, 21, .inr (.inl h'))), (b 25, .inl (1, 1806, .inr (.inl pa'))), (b 27, .inl (1, 301, .inr (.inl cx'))), (b 28, .inl (1, 301, .inr (.inl cy'))), (b 29, .inl (0, 301, .inl sy'))] ∧ (∀ q, q ≠ 30 → i' q = (va_up i 0 0) q)) (fun _ _ => False) := by
  intro V hV
  refine xMet_of RX6 hG rfl (by decide) (Nat.le_of_ble_eq_true rfl) fun C hC hQ hX hl hg _ => ?_
  subst hl hg
  obtain ⟨V0, hV0⟩ : ∃ V0, V0 = V := ⟨_, rfl⟩
  obtain ⟨F, hF⟩ : ∃ F, F = xF [(b 0, .inr (5, mF b i j)), (b 7, .inl (1, 5, .inr (.inl t))), (b 1, .inl (1, 111, .inr (.inl r))), (b 2, .inl (1, 111, .inr (.inl th))), (b 23, .inl (1, 6, .inr (.inl g))), (b 24, .inl (1, 21, .inr (.inl h0))), (b 25, .inl (1, 1806, .inr (.inl pa))), (b 27, .inl (1, 301, .inr (.inl cx))), (b 28, .inl (1, 301, .inr (.inl cy))), (b 29, .inl (0, 301, .inl sy))] := ⟨_, rfl⟩
  refine rn.mono (J := xSt F V0 [(b 0, .inr (5, mF b i j)), (b 7, .inl (1, 5, .inr (.inl t))), (b 1, .inl (1, 111, .inr (.inl r))), (b 2, .inl (1, 111, .inr (.inl th))), (b 23, .inl (1, 6, .inr (.inl g))), (b 24, .inl (1, 21, .inr (.inl h0))), (b 25, .inl (1, 1806, .inr (.inl pa))), (b 27, .inl (1, 301, .inr (.inl cx))), (b 28, .inl (1, 301, .inr (.inl cy))), (b 29, .inl (0, 301, .inl sy))]) (fun V9 h => by rw [h, hV0, hF]; exact hV.st) ?_
  show rn C (xSt F V0 [(b 0, .inr (5, mF b i j)), (b 7, .inl (1, 5, .inr (.inl t))), (b 1, .inl (1, 111, .inr (.inl r))), (b 2, .inl (1, 111, .inr (.inl th))), (b 23, .inl (1, 6, .inr (.inl g))), (b 24, .inl (1, 21, .inr (.inl h0))), (b 25, .inl (1, 1806, .inr (.inl pa))), (b 27, .inl (1, 301, .inr (.inl cx))), (b 28, .inl (1, 301, .inr (.inl cy))), (b 29, .inl (0, 301, .inl sy))]) 0 0 0 [(0, .ref (b 0)), (1, .int (nI p)), (2, .int (nI N)), (3, .int (nI w)), (4, .int (nI x)), (5, .int 2)] []
  refine r_aload_n hC 0 dX6_cell_0 rfl 1 rfl ?_
  refine r_iload_n hC 1 dX6_cell_1 rfl 2 rfl ?_
  refine r_invVw hC kX6 (b 0) [.int (nI p)] [(b 7, .inl (1, 5, .inr (.inl t))), (b 1, .inl (1, 111, .inr (.inl r))), (b 2, .inl (1, 111, .inr (.inl th))), (b 23, .inl (1, 6, .inr (.inl g))), (b 24, .inl (1, 21, .inr (.inl h0))), (b 25, .inl (1, 1806, .inr (.inl pa))), (b 27, .inl (1, 301, .inr (.inl cx))), (b 28, .inl (1, 301, .inr (.inl cy))), (b 29, .inl (0, 301, .inl sy))] mVX6_noBody q2996 0 rfl (metX6_noBody0 _ _ hG b _ _ p (by omega)) [0] [1, 2, 3, 4, 5, 6, 7, 8, 9] rfl rfl rfl rfl (by decide) ⟨rfl, rfl⟩ 0 0 rfl rfl (Nat.le_of_ble_eq_true rfl) (Nat.le_of_ble_eq_true rfl) rfl (Nat.le_of_ble_eq_true rfl) dX6_cell_2 5 rfl (fun v1 w2 h3 => ?_) (fun _ _ h => h.elim)
  obtain ⟨rfl, rfl⟩ := h3
  show rn C (xSt F V0 [(b 7, .inl (1, 5, .inr (.inl t))), (b 1, .inl (1, 111, .inr (.inl r))), (b 2, .inl (1, 111, .inr (.inl th))), (b 23, .inl (1, 6, .inr (.inl g))), (b 24, .inl (1, 21, .inr (.inl h0))), (b 25, .inl (1, 1806, .inr (.inl pa))), (b 27, .inl (1, 301, .inr (.inl cx))), (b 28, .inl (1, 301, .inr (.inl cy))), (b 29, .inl (0, 301, .inl sy)), (b 0, .inr (5, mF b (va_up i 0 0) j))]) 0 0 5 [(0, .ref (b 0)), (1, .int (nI p)), (2, .int (nI N)), (3, .int (nI w)), (4, .int (nI x)), (5, .int 2)] [.int 0]
  refine r_ifne hC 78 dX6_cell_5 (by decide) 8 rfl (fun h => absurd h (by decide)) (fun _ => ?_)
  refine r_aload_n hC 0 dX6_cell_8 rfl 9 rfl ?_
  refine r_iload hC 4 dX6_cell_9 rfl 11 rfl ?_
  refine r_iflt hC 31 dX6_cell_11 (by decide) 14 rfl (fun h => absurd h (nI_pos (by omega))) (fun _ => ?_)
  refine r_iload hC 5 dX6_cell_14 rfl 16 rfl ?_
  refine r_i2l hC 2 dX6_cell_16 (by decide) 17 rfl ?_
  refine r_lconst hC 0 dX6_cell_17 lc_0 18 rfl ?_
  refine r_ldc2 hC q2728 dX6_cell_18 21 rfl ?_
  refine r_invSr hC [.long 2, .long 0, .long 2] (.int 1) mSX6_in q2891 (metX6_inB _ _ hG 2 0 2 1 (by decide)) (fun _ _ => xIn.nil) ⟨rfl, rfl⟩ 0 0 rfl rfl (Nat.le_of_ble_eq_true rfl) (Nat.le_of_ble_eq_true rfl) rfl (Nat.le_of_ble_eq_true rfl) dX6_cell_21 24 rfl ?_
  refine r_ifeq hC 31 dX6_cell_24 (by decide) 27 rfl (fun h => absurd h (by decide)) (fun _ => ?_)
  refine r_iconst hC 1 dX6_cell_27 ic_1 28 rfl ?_
  refine r_goto hC 32 dX6_cell_28 (by decide) ?_
  refine r_iconst hC 1 dX6_cell_32 ic_1 33 rfl ?_
  refine r_invVr hC kX6 (b 0) [.int 1, .int 1] (.int 0) mVX6_fails q2894 (fun _ h => h.get 9 rfl) (metX6_fails1 _ _ hG b _ _ 1) (fun _ h => h.in.sub [9] rfl rfl) ⟨rfl, rfl⟩ 0 0 rfl rfl (Nat.le_of_ble_eq_true rfl) (Nat.le_of_ble_eq_true rfl) rfl (Nat.le_of_ble_eq_true rfl) dX6_cell_33 36 rfl ?_
  refine r_ifne hC 78 dX6_cell_36 (by decide) 39 rfl (fun h => absurd h (by decide)) (fun _ => ?_)
  refine r_aload_n hC 0 dX6_cell_39 rfl 40 rfl ?_
  refine r_iload_n hC 2 dX6_cell_40 rfl 41 rfl ?_
  refine r_i2l hC ((nI N).toInt64) dX6_cell_41 (rfl) 42 rfl ?_
  refine r_lconst hC 0 dX6_cell_42 lc_0 43 rfl ?_
  refine r_ldc2 hC q3174 dX6_cell_43 46 rfl ?_
  refine r_invSr hC [.long ((nI N).toInt64), .long 0, .long 300] (.int 1) mSX6_in q2891 (metX6_inB _ _ hG ((nI N).toInt64) 0 300 1 (in_n (N := 300) (by omega) rfl (by decide))) (fun _ _ => xIn.nil) ⟨rfl, rfl⟩ 0 0 rfl rfl (Nat.le_of_ble_eq_true rfl) (Nat.le_of_ble_eq_true rfl) rfl (Nat.le_of_ble_eq_true rfl) dX6_cell_46 49 rfl ?_
  refine r_ifeq hC 70 dX6_cell_49 (by decide) 52 rfl (fun h => absurd h (by decide)) (fun _ => ?_)
  refine r_iload_n hC 3 dX6_cell_52 rfl 53 rfl ?_
  refine r_i2l hC ((nI w).toInt64) dX6_cell_53 (rfl) 54 rfl ?_
  refine r_ldc2 hC q2708 dX6_cell_54 57 rfl ?_
  refine r_ldc2 hC q2983 dX6_cell_57 60 rfl ?_
  refine r_invSr hC [.long ((nI w).toInt64), .long 1000, .long 100000] (.int 1) mSX6_in q2891 (metX6_inB _ _ hG ((nI w).toInt64) 1000 100000 1 (in_lo (L := 1000) (N := 100000) (by omega) (by omega) rfl rfl (by decide))) (fun _ _ => xIn.nil) ⟨rfl, rfl⟩ 0 0 rfl rfl (Nat.le_of_ble_eq_true rfl) (Nat.le_of_ble_eq_true rfl) rfl (Nat.le_of_ble_eq_true rfl) dX6_cell_60 63 rfl ?_
  refine r_ifeq hC 70 dX6_cell_63 (by decide) 66 rfl (fun h => absurd h (by decide)) (fun _ => ?_)
  refine r_iconst hC 1 dX6_cell_66 ic_1 67 rfl ?_
  refine r_goto hC 71 dX6_cell_67 (by decide) ?_
  refine r_iconst hC 2 dX6_cell_71 ic_2 72 rfl ?_
  refine r_invVr hC kX6 (b 0) [.int 1, .int 2] (.int 0) mVX6_fails q2894 (fun _ h => h.get 9 rfl) (metX6_fails1 _ _ hG b _ _ 2) (fun _ h => h.in.sub [9] rfl rfl) ⟨rfl, rfl⟩ 0 0 rfl rfl (Nat.le_of_ble_eq_true rfl) (Nat.le_of_ble_eq_true rfl) rfl (Nat.le_of_ble_eq_true rfl) dX6_cell_72 75 rfl ?_
  refine r_ifeq hC 80 dX6_cell_75 (by decide) 78 rfl (fun _ => ?_) (fun h => absurd h (by decide))
  refine r_aload_n hC 0 dX6_cell_80 rfl 81 rfl ?_
  refine r_iload_n hC 1 dX6_cell_81 rfl 82 rfl ?_
  refine r_iload_n hC 2 dX6_cell_82 rfl 83 rfl ?_
  refine r_iload_n hC 3 dX6_cell_83 rfl 84 rfl ?_
  refine r_invVw hC kX6 (b 0) [.int (nI p), .int (nI N), .int (nI w)] [] mVX6_laysCells q3264 9 rfl (metX6_laysCellsG _ _ hG b (va_up i 0 0) j t r th g h0 pa cx cy sy p N w ht hm hp hN (cw_n0 hw1 hw2) hk) [9, 0, 1, 2, 3, 4, 5, 6, 7, 8] [] rfl rfl rfl rfl (by decide) ⟨rfl, rfl⟩ 0 0 rfl rfl (Nat.le_of_ble_eq_true rfl) (Nat.le_of_ble_eq_true rfl) rfl (Nat.le_of_ble_eq_true rfl) dX6_cell_84 87 rfl (fun v4 w5 h6 => ?_) (fun _ _ h => h.elim)
  obtain ⟨i9, th9, g9, h9, pa9, cx9, cy9, sy9, rfl, rfl, f9, e9, r9⟩ := h6
  show rn C (xSt F V0 [(b 0, .inr (5, mF b i9 j)), (b 7, .inl (1, 5, .inr (.inl t))), (b 1, .inl (1, 111, .inr (.inl r))), (b 2, .inl (1, 111, .inr (.inl th9))), (b 23, .inl (1, 6, .inr (.inl g9))), (b 24, .inl (1, 21, .inr (.inl h9))), (b 25, .inl (1, 1806, .inr (.inl pa9))), (b 27, .inl (1, 301, .inr (.inl cx9))), (b 28, .inl (1, 301, .inr (.inl cy9))), (b 29, .inl (0, 301, .inl sy9))]) 0 0 87 [(0, .ref (b 0)), (1, .int (nI p)), (2, .int (nI N)), (3, .int (nI w)), (4, .int (nI x)), (5, .int 2)] [.int 1]
  refine r_ifeq hC 99 dX6_cell_87 (by decide) 90 rfl (fun h => absurd h (by decide)) (fun _ => ?_)
  refine r_iload hC 4 dX6_cell_90 rfl 92 rfl ?_
  refine r_aload_n hC 0 dX6_cell_92 rfl 93 rfl ?_
  refine r_get (v := .int (i9 30)) hC kX6 30 rfl q2783 (fun _ h => h.get 0 rfl) rfl dX6_cell_93 96 rfl ?_
  refine r_eqi (y := nI ((cellsQ t r pa p N w).length)) (e9) ?_
  refine r_iclt hC 103 dX6_cell_96 (by decide) 99 rfl (fun _ => ?_) (fun h => absurd (nI_lt (by omega) (by omega)) h)
  refine r_iload hC 5 dX6_cell_103 rfl 105 rfl ?_
  refine r_ifne hC 119 dX6_cell_105 (by decide) 108 rfl (fun _ => ?_) (fun h => absurd h (by decide))
  refine r_iload hC 5 dX6_cell_119 rfl 121 rfl ?_
  refine r_iconst hC 1 dX6_cell_121 ic_1 122 rfl ?_
  refine r_icne hC 136 dX6_cell_122 (by decide) 125 rfl (fun _ => ?_) (fun h => absurd h (by decide))
  refine r_aload_n hC 0 dX6_cell_136 rfl 137 rfl ?_
  refine r_get (v := .ref (b 29)) hC kX6 29 rfl q2782 (fun _ h => h.get 0 rfl) rfl dX6_cell_137 140 rfl ?_
  refine r_iload hC 4 dX6_cell_140 rfl 142 rfl ?_
  refine r_iald hC x (xix_n x (by omega) (Nat.le_of_ble_eq_true rfl)) (fun _ h => h.get 9 rfl) (sy9 x) (rfl) dX6_cell_142 143 rfl ?_
  exact r_iret hC (Nat.le_of_ble_eq_true rfl) (Nat.le_of_ble_eq_true rfl) (fun V9 h => hQ _ _ ⟨[(b 0, .inr (5, mF b i9 j)), (b 7, .inl (1, 5, .inr (.inl t))), (b 1, .inl (1, 111, .inr (.inl r))), (b 2, .inl (1, 111, .inr (.inl th9))), (b 23, .inl (1, 6, .inr (.inl g9))), (b 24, .inl (1, 21, .inr (.inl h9))), (b 25, .inl (1, 1806, .inr (.inl pa9))), (b 27, .inl (1, 301, .inr (.inl cx9))), (b 28, .inl (1, 301, .inr (.inl cy9))), (b 29, .inl (0, 301, .inl sy9))], ⟨_, _, _, _, _, _, _, _, by rw [cellV_s r9 hxl]; rfl, rfl, f9⟩, by rw [← hV0, ← hF]; exact h⟩) dX6_cell_143
set_option maxHeartbeats 4000000 in
set_option maxRecDepth 100000 in
theorem metX6_cellH2 (l : Launch) (G : xG) (hG : xGood G) (b : Nat → Nat) (i : Nat → Int32) (j : Nat → Int64) (t r th g h0 pa cx cy : Nat → Int64) (sy : Nat → Int32) (p N w : Nat) (ht : tOK t) (hm : mOK r) (hp : p < 3) (hN : N ≤ 300) (hw1 : 1000 ≤ w) (hw2 : w ≤ 100000) (x : Nat) (hx : x < 2 ^ 31) (hk : cellsOK t r pa N) (hxl : (cellsQ t r pa p N w).length ≤ x) : xWm l G yX6_cell (Cond.code yX6_cell cX6_cell 6 (some .int)) { frames := 9, locals := 230, cells := 0, slots := 0 } [.ref (b 0), .int (nI p), .int (nI N), .int (nI w), .int (nI x), .int 2] [(b 0, .inr (5, mF b i j)), (b 7, .inl (1, 5, .inr (.inl t))), (b 1, .inl (1, 111, .inr (.inl r))), (b 2, .inl (1, 111, .inr (.inl th))), (b 23, .inl (1, 6, .inr (.inl g))), (b 24, .inl (1, 21, .inr (.inl h0))), (b 25, .inl (1, 1806, .inr (.inl pa))), (b 27, .inl (1, 301, .inr (.inl cx))), (b 28, .inl (1, 301, .inr (.inl cy))), (b 29, .inl (0, 301, .inl sy))] (fun v w' => ∃ (i' : Nat → Int32) (th' g' h' pa' cx' cy' : Nat → Int64) (sy' : Nat → Int32), v = some (.int (cellV (cellsQ t r pa p N w) x 2)) ∧ w' = [(b 0, .inr (5, mF b i' j)), (b 7, .inl (1, 5, .inr (.inl t))), (b 1, .inl (1, 111, .inr (.inl r))), (b 2, .inl (1, 111, .inr (.inl th'))), (b 23, .inl (1, 6, .inr (.inl g'))), (b 24, .inl (1, 21, .inr (.inl h'))), (b 25, .inl (1, 1806, .inr (.inl pa'))), (b 27, .inl (1, 301, .inr (.inl cx'))), (b 28, .inl (1, 301, .inr (.inl cy'))), (b 29, .inl (0, 301, .inl sy'))] ∧ (∀ q, q ≠ 30 → i' q = (va_up i 0 0) q)) (fun _ _ => False) := by
  intro V hV
  refine xMet_of RX6 hG rfl (by decide) (Nat.le_of_ble_eq_true rfl) fun C hC hQ hX hl hg _ => ?_
  subst hl hg
  obtain ⟨V0, hV0⟩ : ∃ V0, V0 = V := ⟨_, rfl⟩
  obtain ⟨F, hF⟩ : ∃ F, F = xF [(b 0, .inr (5, mF b i j)), (b 7, .inl (1, 5, .inr (.inl t))), (b 1, .inl (1, 111, .inr (.inl r))), (b 2, .inl (1, 111, .inr (.inl th))), (b 23, .inl (1, 6, .inr (.inl g))), (b 24, .inl (1, 21, .inr (.inl h0))), (b 25, .inl (1, 1806, .inr (.inl pa))), (b 27, .inl (1, 301, .inr (.inl cx))), (b 28, .inl (1, 301, .inr (.inl cy))), (b 29, .inl (0, 301, .inl sy))] := ⟨_, rfl⟩
  refine rn.mono (J := xSt F V0 [(b 0, .inr (5, mF b i j)), (b 7, .inl (1, 5, .inr (.inl t))), (b 1, .inl (1, 111, .inr (.inl r))), (b 2, .inl (1, 111, .inr (.inl th))), (b 23, .inl (1, 6, .inr (.inl g))), (b 24, .inl (1, 21, .inr (.inl h0))), (b 25, .inl (1, 1806, .inr (.inl pa))), (b 27, .inl (1, 301, .inr (.inl cx))), (b 28, .inl (1, 301, .inr (.inl cy))), (b 29, .inl (0, 301, .inl sy))]) (fun V9 h => by rw [h, hV0, hF]; exact hV.st) ?_
  show rn C (xSt F V0 [(b 0, .inr (5, mF b i j)), (b 7, .inl (1, 5, .inr (.inl t))), (b 1, .inl (1, 111, .inr (.inl r))), (b 2, .inl (1, 111, .inr (.inl th))), (b 23, .inl (1, 6, .inr (.inl g))), (b 24, .inl (1, 21, .inr (.inl h0))), (b 25, .inl (1, 1806, .inr (.inl pa))), (b 27, .inl (1, 301, .inr (.inl cx))), (b 28, .inl (1, 301, .inr (.inl cy))), (b 29, .inl (0, 301, .inl sy))]) 0 0 0 [(0, .ref (b 0)), (1, .int (nI p)), (2, .int (nI N)), (3, .int (nI w)), (4, .int (nI x)), (5, .int 2)] []
  refine r_aload_n hC 0 dX6_cell_0 rfl 1 rfl ?_
  refine r_iload_n hC 1 dX6_cell_1 rfl 2 rfl ?_
  refine r_invVw hC kX6 (b 0) [.int (nI p)] [(b 7, .inl (1, 5, .inr (.inl t))), (b 1, .inl (1, 111, .inr (.inl r))), (b 2, .inl (1, 111, .inr (.inl th))), (b 23, .inl (1, 6, .inr (.inl g))), (b 24, .inl (1, 21, .inr (.inl h0))), (b 25, .inl (1, 1806, .inr (.inl pa))), (b 27, .inl (1, 301, .inr (.inl cx))), (b 28, .inl (1, 301, .inr (.inl cy))), (b 29, .inl (0, 301, .inl sy))] mVX6_noBody q2996 0 rfl (metX6_noBody0 _ _ hG b _ _ p (by omega)) [0] [1, 2, 3, 4, 5, 6, 7, 8, 9] rfl rfl rfl rfl (by decide) ⟨rfl, rfl⟩ 0 0 rfl rfl (Nat.le_of_ble_eq_true rfl) (Nat.le_of_ble_eq_true rfl) rfl (Nat.le_of_ble_eq_true rfl) dX6_cell_2 5 rfl (fun v1 w2 h3 => ?_) (fun _ _ h => h.elim)
  obtain ⟨rfl, rfl⟩ := h3
  show rn C (xSt F V0 [(b 7, .inl (1, 5, .inr (.inl t))), (b 1, .inl (1, 111, .inr (.inl r))), (b 2, .inl (1, 111, .inr (.inl th))), (b 23, .inl (1, 6, .inr (.inl g))), (b 24, .inl (1, 21, .inr (.inl h0))), (b 25, .inl (1, 1806, .inr (.inl pa))), (b 27, .inl (1, 301, .inr (.inl cx))), (b 28, .inl (1, 301, .inr (.inl cy))), (b 29, .inl (0, 301, .inl sy)), (b 0, .inr (5, mF b (va_up i 0 0) j))]) 0 0 5 [(0, .ref (b 0)), (1, .int (nI p)), (2, .int (nI N)), (3, .int (nI w)), (4, .int (nI x)), (5, .int 2)] [.int 0]
  refine r_ifne hC 78 dX6_cell_5 (by decide) 8 rfl (fun h => absurd h (by decide)) (fun _ => ?_)
  refine r_aload_n hC 0 dX6_cell_8 rfl 9 rfl ?_
  refine r_iload hC 4 dX6_cell_9 rfl 11 rfl ?_
  refine r_iflt hC 31 dX6_cell_11 (by decide) 14 rfl (fun h => absurd h (nI_pos (by omega))) (fun _ => ?_)
  refine r_iload hC 5 dX6_cell_14 rfl 16 rfl ?_
  refine r_i2l hC 2 dX6_cell_16 (by decide) 17 rfl ?_
  refine r_lconst hC 0 dX6_cell_17 lc_0 18 rfl ?_
  refine r_ldc2 hC q2728 dX6_cell_18 21 rfl ?_
  refine r_invSr hC [.long 2, .long 0, .long 2] (.int 1) mSX6_in q2891 (metX6_inB _ _ hG 2 0 2 1 (by decide)) (fun _ _ => xIn.nil) ⟨rfl, rfl⟩ 0 0 rfl rfl (Nat.le_of_ble_eq_true rfl) (Nat.le_of_ble_eq_true rfl) rfl (Nat.le_of_ble_eq_true rfl) dX6_cell_21 24 rfl ?_
  refine r_ifeq hC 31 dX6_cell_24 (by decide) 27 rfl (fun h => absurd h (by decide)) (fun _ => ?_)
  refine r_iconst hC 1 dX6_cell_27 ic_1 28 rfl ?_
  refine r_goto hC 32 dX6_cell_28 (by decide) ?_
  refine r_iconst hC 1 dX6_cell_32 ic_1 33 rfl ?_
  refine r_invVr hC kX6 (b 0) [.int 1, .int 1] (.int 0) mVX6_fails q2894 (fun _ h => h.get 9 rfl) (metX6_fails1 _ _ hG b _ _ 1) (fun _ h => h.in.sub [9] rfl rfl) ⟨rfl, rfl⟩ 0 0 rfl rfl (Nat.le_of_ble_eq_true rfl) (Nat.le_of_ble_eq_true rfl) rfl (Nat.le_of_ble_eq_true rfl) dX6_cell_33 36 rfl ?_
  refine r_ifne hC 78 dX6_cell_36 (by decide) 39 rfl (fun h => absurd h (by decide)) (fun _ => ?_)
  refine r_aload_n hC 0 dX6_cell_39 rfl 40 rfl ?_
  refine r_iload_n hC 2 dX6_cell_40 rfl 41 rfl ?_
  refine r_i2l hC ((nI N).toInt64) dX6_cell_41 (rfl) 42 rfl ?_
  refine r_lconst hC 0 dX6_cell_42 lc_0 43 rfl ?_
  refine r_ldc2 hC q3174 dX6_cell_43 46 rfl ?_
  refine r_invSr hC [.long ((nI N).toInt64), .long 0, .long 300] (.int 1) mSX6_in q2891 (metX6_inB _ _ hG ((nI N).toInt64) 0 300 1 (in_n (N := 300) (by omega) rfl (by decide))) (fun _ _ => xIn.nil) ⟨rfl, rfl⟩ 0 0 rfl rfl (Nat.le_of_ble_eq_true rfl) (Nat.le_of_ble_eq_true rfl) rfl (Nat.le_of_ble_eq_true rfl) dX6_cell_46 49 rfl ?_
  refine r_ifeq hC 70 dX6_cell_49 (by decide) 52 rfl (fun h => absurd h (by decide)) (fun _ => ?_)
  refine r_iload_n hC 3 dX6_cell_52 rfl 53 rfl ?_
  refine r_i2l hC ((nI w).toInt64) dX6_cell_53 (rfl) 54 rfl ?_
  refine r_ldc2 hC q2708 dX6_cell_54 57 rfl ?_
  refine r_ldc2 hC q2983 dX6_cell_57 60 rfl ?_
  refine r_invSr hC [.long ((nI w).toInt64), .long 1000, .long 100000] (.int 1) mSX6_in q2891 (metX6_inB _ _ hG ((nI w).toInt64) 1000 100000 1 (in_lo (L := 1000) (N := 100000) (by omega) (by omega) rfl rfl (by decide))) (fun _ _ => xIn.nil) ⟨rfl, rfl⟩ 0 0 rfl rfl (Nat.le_of_ble_eq_true rfl) (Nat.le_of_ble_eq_true rfl) rfl (Nat.le_of_ble_eq_true rfl) dX6_cell_60 63 rfl ?_
  refine r_ifeq hC 70 dX6_cell_63 (by decide) 66 rfl (fun h => absurd h (by decide)) (fun _ => ?_)
  refine r_iconst hC 1 dX6_cell_66 ic_1 67 rfl ?_
  refine r_goto hC 71 dX6_cell_67 (by decide) ?_
  refine r_iconst hC 2 dX6_cell_71 ic_2 72 rfl ?_
  refine r_invVr hC kX6 (b 0) [.int 1, .int 2] (.int 0) mVX6_fails q2894 (fun _ h => h.get 9 rfl) (metX6_fails1 _ _ hG b _ _ 2) (fun _ h => h.in.sub [9] rfl rfl) ⟨rfl, rfl⟩ 0 0 rfl rfl (Nat.le_of_ble_eq_true rfl) (Nat.le_of_ble_eq_true rfl) rfl (Nat.le_of_ble_eq_true rfl) dX6_cell_72 75 rfl ?_
  refine r_ifeq hC 80 dX6_cell_75 (by decide) 78 rfl (fun _ => ?_) (fun h => absurd h (by decide))
  refine r_aload_n hC 0 dX6_cell_80 rfl 81 rfl ?_
  refine r_iload_n hC 1 dX6_cell_81 rfl 82 rfl ?_
  refine r_iload_n hC 2 dX6_cell_82 rfl 83 rfl ?_
  refine r_iload_n hC 3 dX6_cell_83 rfl 84 rfl ?_
  refine r_invVw hC kX6 (b 0) [.int (nI p), .int (nI N), .int (nI w)] [] mVX6_laysCells q3264 9 rfl (metX6_laysCellsG _ _ hG b (va_up i 0 0) j t r th g h0 pa cx cy sy p N w ht hm hp hN (cw_n0 hw1 hw2) hk) [9, 0, 1, 2, 3, 4, 5, 6, 7, 8] [] rfl rfl rfl rfl (by decide) ⟨rfl, rfl⟩ 0 0 rfl rfl (Nat.le_of_ble_eq_true rfl) (Nat.le_of_ble_eq_true rfl) rfl (Nat.le_of_ble_eq_true rfl) dX6_cell_84 87 rfl (fun v4 w5 h6 => ?_) (fun _ _ h => h.elim)
  obtain ⟨i9, th9, g9, h9, pa9, cx9, cy9, sy9, rfl, rfl, f9, e9, r9⟩ := h6
  show rn C (xSt F V0 [(b 0, .inr (5, mF b i9 j)), (b 7, .inl (1, 5, .inr (.inl t))), (b 1, .inl (1, 111, .inr (.inl r))), (b 2, .inl (1, 111, .inr (.inl th9))), (b 23, .inl (1, 6, .inr (.inl g9))), (b 24, .inl (1, 21, .inr (.inl h9))), (b 25, .inl (1, 1806, .inr (.inl pa9))), (b 27, .inl (1, 301, .inr (.inl cx9))), (b 28, .inl (1, 301, .inr (.inl cy9))), (b 29, .inl (0, 301, .inl sy9))]) 0 0 87 [(0, .ref (b 0)), (1, .int (nI p)), (2, .int (nI N)), (3, .int (nI w)), (4, .int (nI x)), (5, .int 2)] [.int 1]
  refine r_ifeq hC 99 dX6_cell_87 (by decide) 90 rfl (fun h => absurd h (by decide)) (fun _ => ?_)
  refine r_iload hC 4 dX6_cell_90 rfl 92 rfl ?_
  refine r_aload_n hC 0 dX6_cell_92 rfl 93 rfl ?_
  refine r_get (v := .int (i9 30)) hC kX6 30 rfl q2783 (fun _ h => h.get 0 rfl) rfl dX6_cell_93 96 rfl ?_
  refine r_eqi (y := nI ((cellsQ t r pa p N w).length)) (e9) ?_
  refine r_iclt hC 103 dX6_cell_96 (by decide) 99 rfl (fun h => absurd h (nI_nlt (by omega) (by omega))) (fun _ => ?_)
  refine r_ldcw hC q3272 dX6_cell_99 102 rfl ?_
  exact r_iret hC (Nat.le_of_ble_eq_true rfl) (Nat.le_of_ble_eq_true rfl) (fun V9 h => hQ _ _ ⟨[(b 0, .inr (5, mF b i9 j)), (b 7, .inl (1, 5, .inr (.inl t))), (b 1, .inl (1, 111, .inr (.inl r))), (b 2, .inl (1, 111, .inr (.inl th9))), (b 23, .inl (1, 6, .inr (.inl g9))), (b 24, .inl (1, 21, .inr (.inl h9))), (b 25, .inl (1, 1806, .inr (.inl pa9))), (b 27, .inl (1, 301, .inr (.inl cx9))), (b 28, .inl (1, 301, .inr (.inl cy9))), (b 29, .inl (0, 301, .inl sy9))], ⟨_, _, _, _, _, _, _, _, by rw [cellV_n hxl], rfl, f9⟩, by rw [← hV0, ← hF]; exact h⟩) dX6_cell_102
set_option maxHeartbeats 4000000 in
set_option maxRecDepth 100000 in
theorem metX6_cellN2 (l : Launch) (G : xG) (hG : xGood G) (b : Nat → Nat) (i : Nat → Int32) (j : Nat → Int64) (t r th g h0 pa cx cy : Nat → Int64) (sy : Nat → Int32) (p N w : Nat) (ht : tOK t) (hm : mOK r) (hp : p < 3) (hN : N ≤ 300) (hw1 : 1000 ≤ w) (hw2 : w ≤ 100000) (x : Nat) (hx : x < 2 ^ 31) (hk : ¬ cellsOK t r pa N) : xWm l G yX6_cell (Cond.code yX6_cell cX6_cell 6 (some .int)) { frames := 9, locals := 230, cells := 0, slots := 0 } [.ref (b 0), .int (nI p), .int (nI N), .int (nI w), .int (nI x), .int 2] [(b 0, .inr (5, mF b i j)), (b 7, .inl (1, 5, .inr (.inl t))), (b 1, .inl (1, 111, .inr (.inl r))), (b 2, .inl (1, 111, .inr (.inl th))), (b 23, .inl (1, 6, .inr (.inl g))), (b 24, .inl (1, 21, .inr (.inl h0))), (b 25, .inl (1, 1806, .inr (.inl pa))), (b 27, .inl (1, 301, .inr (.inl cx))), (b 28, .inl (1, 301, .inr (.inl cy))), (b 29, .inl (0, 301, .inl sy))] (fun v w' => ∃ (i' : Nat → Int32) (th' g' h' pa' cx' cy' : Nat → Int64) (sy' : Nat → Int32), v = some (.int (-1000000000)) ∧ w' = [(b 0, .inr (5, mF b i' j)), (b 7, .inl (1, 5, .inr (.inl t))), (b 1, .inl (1, 111, .inr (.inl r))), (b 2, .inl (1, 111, .inr (.inl th'))), (b 23, .inl (1, 6, .inr (.inl g'))), (b 24, .inl (1, 21, .inr (.inl h'))), (b 25, .inl (1, 1806, .inr (.inl pa'))), (b 27, .inl (1, 301, .inr (.inl cx'))), (b 28, .inl (1, 301, .inr (.inl cy'))), (b 29, .inl (0, 301, .inl sy'))] ∧ (∀ q, q ≠ 30 → i' q = (va_up i 0 0) q)) (fun _ _ => False) := by
  intro V hV
  refine xMet_of RX6 hG rfl (by decide) (Nat.le_of_ble_eq_true rfl) fun C hC hQ hX hl hg _ => ?_
  subst hl hg
  obtain ⟨V0, hV0⟩ : ∃ V0, V0 = V := ⟨_, rfl⟩
  obtain ⟨F, hF⟩ : ∃ F, F = xF [(b 0, .inr (5, mF b i j)), (b 7, .inl (1, 5, .inr (.inl t))), (b 1, .inl (1, 111, .inr (.inl r))), (b 2, .inl (1, 111, .inr (.inl th))), (b 23, .inl (1, 6, .inr (.inl g))), (b 24, .inl (1, 21, .inr (.inl h0))), (b 25, .inl (1, 1806, .inr (.inl pa))), (b 27, .inl (1, 301, .inr (.inl cx))), (b 28, .inl (1, 301, .inr (.inl cy))), (b 29, .inl (0, 301, .inl sy))] := ⟨_, rfl⟩
  refine rn.mono (J := xSt F V0 [(b 0, .inr (5, mF b i j)), (b 7, .inl (1, 5, .inr (.inl t))), (b 1, .inl (1, 111, .inr (.inl r))), (b 2, .inl (1, 111, .inr (.inl th))), (b 23, .inl (1, 6, .inr (.inl g))), (b 24, .inl (1, 21, .inr (.inl h0))), (b 25, .inl (1, 1806, .inr (.inl pa))), (b 27, .inl (1, 301, .inr (.inl cx))), (b 28, .inl (1, 301, .inr (.inl cy))), (b 29, .inl (0, 301, .inl sy))]) (fun V9 h => by rw [h, hV0, hF]; exact hV.st) ?_
  show rn C (xSt F V0 [(b 0, .inr (5, mF b i j)), (b 7, .inl (1, 5, .inr (.inl t))), (b 1, .inl (1, 111, .inr (.inl r))), (b 2, .inl (1, 111, .inr (.inl th))), (b 23, .inl (1, 6, .inr (.inl g))), (b 24, .inl (1, 21, .inr (.inl h0))), (b 25, .inl (1, 1806, .inr (.inl pa))), (b 27, .inl (1, 301, .inr (.inl cx))), (b 28, .inl (1, 301, .inr (.inl cy))), (b 29, .inl (0, 301, .inl sy))]) 0 0 0 [(0, .ref (b 0)), (1, .int (nI p)), (2, .int (nI N)), (3, .int (nI w)), (4, .int (nI x)), (5, .int 2)] []
  refine r_aload_n hC 0 dX6_cell_0 rfl 1 rfl ?_
  refine r_iload_n hC 1 dX6_cell_1 rfl 2 rfl ?_
  refine r_invVw hC kX6 (b 0) [.int (nI p)] [(b 7, .inl (1, 5, .inr (.inl t))), (b 1, .inl (1, 111, .inr (.inl r))), (b 2, .inl (1, 111, .inr (.inl th))), (b 23, .inl (1, 6, .inr (.inl g))), (b 24, .inl (1, 21, .inr (.inl h0))), (b 25, .inl (1, 1806, .inr (.inl pa))), (b 27, .inl (1, 301, .inr (.inl cx))), (b 28, .inl (1, 301, .inr (.inl cy))), (b 29, .inl (0, 301, .inl sy))] mVX6_noBody q2996 0 rfl (metX6_noBody0 _ _ hG b _ _ p (by omega)) [0] [1, 2, 3, 4, 5, 6, 7, 8, 9] rfl rfl rfl rfl (by decide) ⟨rfl, rfl⟩ 0 0 rfl rfl (Nat.le_of_ble_eq_true rfl) (Nat.le_of_ble_eq_true rfl) rfl (Nat.le_of_ble_eq_true rfl) dX6_cell_2 5 rfl (fun v1 w2 h3 => ?_) (fun _ _ h => h.elim)
  obtain ⟨rfl, rfl⟩ := h3
  show rn C (xSt F V0 [(b 7, .inl (1, 5, .inr (.inl t))), (b 1, .inl (1, 111, .inr (.inl r))), (b 2, .inl (1, 111, .inr (.inl th))), (b 23, .inl (1, 6, .inr (.inl g))), (b 24, .inl (1, 21, .inr (.inl h0))), (b 25, .inl (1, 1806, .inr (.inl pa))), (b 27, .inl (1, 301, .inr (.inl cx))), (b 28, .inl (1, 301, .inr (.inl cy))), (b 29, .inl (0, 301, .inl sy)), (b 0, .inr (5, mF b (va_up i 0 0) j))]) 0 0 5 [(0, .ref (b 0)), (1, .int (nI p)), (2, .int (nI N)), (3, .int (nI w)), (4, .int (nI x)), (5, .int 2)] [.int 0]
  refine r_ifne hC 78 dX6_cell_5 (by decide) 8 rfl (fun h => absurd h (by decide)) (fun _ => ?_)
  refine r_aload_n hC 0 dX6_cell_8 rfl 9 rfl ?_
  refine r_iload hC 4 dX6_cell_9 rfl 11 rfl ?_
  refine r_iflt hC 31 dX6_cell_11 (by decide) 14 rfl (fun h => absurd h (nI_pos (by omega))) (fun _ => ?_)
  refine r_iload hC 5 dX6_cell_14 rfl 16 rfl ?_
  refine r_i2l hC 2 dX6_cell_16 (by decide) 17 rfl ?_
  refine r_lconst hC 0 dX6_cell_17 lc_0 18 rfl ?_
  refine r_ldc2 hC q2728 dX6_cell_18 21 rfl ?_
  refine r_invSr hC [.long 2, .long 0, .long 2] (.int 1) mSX6_in q2891 (metX6_inB _ _ hG 2 0 2 1 (by decide)) (fun _ _ => xIn.nil) ⟨rfl, rfl⟩ 0 0 rfl rfl (Nat.le_of_ble_eq_true rfl) (Nat.le_of_ble_eq_true rfl) rfl (Nat.le_of_ble_eq_true rfl) dX6_cell_21 24 rfl ?_
  refine r_ifeq hC 31 dX6_cell_24 (by decide) 27 rfl (fun h => absurd h (by decide)) (fun _ => ?_)
  refine r_iconst hC 1 dX6_cell_27 ic_1 28 rfl ?_
  refine r_goto hC 32 dX6_cell_28 (by decide) ?_
  refine r_iconst hC 1 dX6_cell_32 ic_1 33 rfl ?_
  refine r_invVr hC kX6 (b 0) [.int 1, .int 1] (.int 0) mVX6_fails q2894 (fun _ h => h.get 9 rfl) (metX6_fails1 _ _ hG b _ _ 1) (fun _ h => h.in.sub [9] rfl rfl) ⟨rfl, rfl⟩ 0 0 rfl rfl (Nat.le_of_ble_eq_true rfl) (Nat.le_of_ble_eq_true rfl) rfl (Nat.le_of_ble_eq_true rfl) dX6_cell_33 36 rfl ?_
  refine r_ifne hC 78 dX6_cell_36 (by decide) 39 rfl (fun h => absurd h (by decide)) (fun _ => ?_)
  refine r_aload_n hC 0 dX6_cell_39 rfl 40 rfl ?_
  refine r_iload_n hC 2 dX6_cell_40 rfl 41 rfl ?_
  refine r_i2l hC ((nI N).toInt64) dX6_cell_41 (rfl) 42 rfl ?_
  refine r_lconst hC 0 dX6_cell_42 lc_0 43 rfl ?_
  refine r_ldc2 hC q3174 dX6_cell_43 46 rfl ?_
  refine r_invSr hC [.long ((nI N).toInt64), .long 0, .long 300] (.int 1) mSX6_in q2891 (metX6_inB _ _ hG ((nI N).toInt64) 0 300 1 (in_n (N := 300) (by omega) rfl (by decide))) (fun _ _ => xIn.nil) ⟨rfl, rfl⟩ 0 0 rfl rfl (Nat.le_of_ble_eq_true rfl) (Nat.le_of_ble_eq_true rfl) rfl (Nat.le_of_ble_eq_true rfl) dX6_cell_46 49 rfl ?_
  refine r_ifeq hC 70 dX6_cell_49 (by decide) 52 rfl (fun h => absurd h (by decide)) (fun _ => ?_)
  refine r_iload_n hC 3 dX6_cell_52 rfl 53 rfl ?_
  refine r_i2l hC ((nI w).toInt64) dX6_cell_53 (rfl) 54 rfl ?_
  refine r_ldc2 hC q2708 dX6_cell_54 57 rfl ?_
  refine r_ldc2 hC q2983 dX6_cell_57 60 rfl ?_
  refine r_invSr hC [.long ((nI w).toInt64), .long 1000, .long 100000] (.int 1) mSX6_in q2891 (metX6_inB _ _ hG ((nI w).toInt64) 1000 100000 1 (in_lo (L := 1000) (N := 100000) (by omega) (by omega) rfl rfl (by decide))) (fun _ _ => xIn.nil) ⟨rfl, rfl⟩ 0 0 rfl rfl (Nat.le_of_ble_eq_true rfl) (Nat.le_of_ble_eq_true rfl) rfl (Nat.le_of_ble_eq_true rfl) dX6_cell_60 63 rfl ?_
  refine r_ifeq hC 70 dX6_cell_63 (by decide) 66 rfl (fun h => absurd h (by decide)) (fun _ => ?_)
  refine r_iconst hC 1 dX6_cell_66 ic_1 67 rfl ?_
  refine r_goto hC 71 dX6_cell_67 (by decide) ?_
  refine r_iconst hC 2 dX6_cell_71 ic_2 72 rfl ?_
  refine r_invVr hC kX6 (b 0) [.int 1, .int 2] (.int 0) mVX6_fails q2894 (fun _ h => h.get 9 rfl) (metX6_fails1 _ _ hG b _ _ 2) (fun _ h => h.in.sub [9] rfl rfl) ⟨rfl, rfl⟩ 0 0 rfl rfl (Nat.le_of_ble_eq_true rfl) (Nat.le_of_ble_eq_true rfl) rfl (Nat.le_of_ble_eq_true rfl) dX6_cell_72 75 rfl ?_
  refine r_ifeq hC 80 dX6_cell_75 (by decide) 78 rfl (fun _ => ?_) (fun h => absurd h (by decide))
  refine r_aload_n hC 0 dX6_cell_80 rfl 81 rfl ?_
  refine r_iload_n hC 1 dX6_cell_81 rfl 82 rfl ?_
  refine r_iload_n hC 2 dX6_cell_82 rfl 83 rfl ?_
  refine r_iload_n hC 3 dX6_cell_83 rfl 84 rfl ?_
  refine r_invVw hC kX6 (b 0) [.int (nI p), .int (nI N), .int (nI w)] [] mVX6_laysCells q3264 9 rfl (metX6_laysCellsN _ _ hG b (va_up i 0 0) j t r th g h0 pa cx cy sy p N w ht hm hp hN (cw_n0 hw1 hw2) hk) [9, 0, 1, 2, 3, 4, 5, 6, 7, 8] [] rfl rfl rfl rfl (by decide) ⟨rfl, rfl⟩ 0 0 rfl rfl (Nat.le_of_ble_eq_true rfl) (Nat.le_of_ble_eq_true rfl) rfl (Nat.le_of_ble_eq_true rfl) dX6_cell_84 87 rfl (fun v4 w5 h6 => ?_) (fun _ _ h => h.elim)
  obtain ⟨i9, th9, g9, h9, pa9, cx9, cy9, sy9, rfl, rfl, f9⟩ := h6
  show rn C (xSt F V0 [(b 0, .inr (5, mF b i9 j)), (b 7, .inl (1, 5, .inr (.inl t))), (b 1, .inl (1, 111, .inr (.inl r))), (b 2, .inl (1, 111, .inr (.inl th9))), (b 23, .inl (1, 6, .inr (.inl g9))), (b 24, .inl (1, 21, .inr (.inl h9))), (b 25, .inl (1, 1806, .inr (.inl pa9))), (b 27, .inl (1, 301, .inr (.inl cx9))), (b 28, .inl (1, 301, .inr (.inl cy9))), (b 29, .inl (0, 301, .inl sy9))]) 0 0 87 [(0, .ref (b 0)), (1, .int (nI p)), (2, .int (nI N)), (3, .int (nI w)), (4, .int (nI x)), (5, .int 2)] [.int 0]
  refine r_ifeq hC 99 dX6_cell_87 (by decide) 90 rfl (fun _ => ?_) (fun h => absurd h (by decide))
  refine r_ldcw hC q3272 dX6_cell_99 102 rfl ?_
  exact r_iret hC (Nat.le_of_ble_eq_true rfl) (Nat.le_of_ble_eq_true rfl) (fun V9 h => hQ _ _ ⟨[(b 0, .inr (5, mF b i9 j)), (b 7, .inl (1, 5, .inr (.inl t))), (b 1, .inl (1, 111, .inr (.inl r))), (b 2, .inl (1, 111, .inr (.inl th9))), (b 23, .inl (1, 6, .inr (.inl g9))), (b 24, .inl (1, 21, .inr (.inl h9))), (b 25, .inl (1, 1806, .inr (.inl pa9))), (b 27, .inl (1, 301, .inr (.inl cx9))), (b 28, .inl (1, 301, .inr (.inl cy9))), (b 29, .inl (0, 301, .inl sy9))], ⟨_, _, _, _, _, _, _, _, rfl, rfl, f9⟩, by rw [← hV0, ← hF]; exact h⟩) dX6_cell_102
set_option maxHeartbeats 4000000 in
set_option maxRecDepth 100000 in
theorem metX6_cellB (l : Launch) (G : xG) (hG : xGood G) (b : Nat → Nat) (i : Nat → Int32) (j : Nat → Int64) (x y z u v : Int32) (hx : bI (m_in x.toInt64 0 2) = 0) : xWm l G yX6_cell (Cond.code yX6_cell cX6_cell 6 (some .int)) { frames := 2, locals := 46, cells := 0, slots := 0 } [.ref (b 0), .int x, .int y, .int z, .int u, .int v] [(b 0, .inr (5, mF b i j))] (fun v w' => v = some (.int 0) ∧ w' = [(b 0, .inr (5, mF b (va_up i 0 1) j))]) (fun _ _ => False) := by
  intro V hV
  refine xMet_of RX6 hG rfl (by decide) (Nat.le_of_ble_eq_true rfl) fun C hC hQ hX hl hg _ => ?_
  subst hl hg
  obtain ⟨V0, hV0⟩ : ∃ V0, V0 = V := ⟨_, rfl⟩
  obtain ⟨F, hF⟩ : ∃ F, F = xF [(b 0, .inr (5, mF b i j))] := ⟨_, rfl⟩
  refine rn.mono (J := xSt F V0 [(b 0, .inr (5, mF b i j))]) (fun V9 h => by rw [h, hV0, hF]; exact hV.st) ?_
  show rn C (xSt F V0 [(b 0, .inr (5, mF b i j))]) 0 0 0 [(0, .ref (b 0)), (1, .int x), (2, .int y), (3, .int z), (4, .int u), (5, .int v)] []
  refine r_aload_n hC 0 dX6_cell_0 rfl 1 rfl ?_
  refine r_iload_n hC 1 dX6_cell_1 rfl 2 rfl ?_
  refine r_invVw hC kX6 (b 0) [.int x] [] mVX6_noBody q2996 0 rfl (metX6_noBody1 _ _ hG b _ _ x (hx)) [0] [] rfl rfl rfl rfl (by decide) ⟨rfl, rfl⟩ 0 0 rfl rfl (Nat.le_of_ble_eq_true rfl) (Nat.le_of_ble_eq_true rfl) rfl (Nat.le_of_ble_eq_true rfl) dX6_cell_2 5 rfl (fun v1 w2 h3 => ?_) (fun _ _ h => h.elim)
  obtain ⟨rfl, rfl⟩ := h3
  show rn C (xSt F V0 [(b 0, .inr (5, mF b (va_up i 0 1) j))]) 0 0 5 [(0, .ref (b 0)), (1, .int x), (2, .int y), (3, .int z), (4, .int u), (5, .int v)] [.int 1]
  refine r_ifne hC 78 dX6_cell_5 (by decide) 8 rfl (fun _ => ?_) (fun h => absurd h (by decide))
  refine r_iconst hC 0 dX6_cell_78 ic_0 79 rfl ?_
  exact r_iret hC (Nat.le_of_ble_eq_true rfl) (Nat.le_of_ble_eq_true rfl) (fun V9 h => hQ _ _ ⟨[(b 0, .inr (5, mF b (va_up i 0 1) j))], ⟨rfl, by simp only [bx_uu]⟩, by rw [← hV0, ← hF]; exact h⟩) dX6_cell_79
set_option maxHeartbeats 4000000 in
set_option maxRecDepth 100000 in
theorem metX6_cellB2 (l : Launch) (G : xG) (hG : xGood G) (b : Nat → Nat) (i : Nat → Int32) (j : Nat → Int64) (p : Nat) (hp : p < 3) (y z u v : Int32) (hu : u < 0) : xWm l G yX6_cell (Cond.code yX6_cell cX6_cell 6 (some .int)) { frames := 2, locals := 46, cells := 0, slots := 0 } [.ref (b 0), .int (nI p), .int y, .int z, .int u, .int v] [(b 0, .inr (5, mF b i j))] (fun v w' => v = some (.int 0) ∧ w' = [(b 0, .inr (5, mF b (va_up i 0 1) j))]) (fun _ _ => False) := by
  intro V hV
  refine xMet_of RX6 hG rfl (by decide) (Nat.le_of_ble_eq_true rfl) fun C hC hQ hX hl hg _ => ?_
  subst hl hg
  obtain ⟨V0, hV0⟩ : ∃ V0, V0 = V := ⟨_, rfl⟩
  obtain ⟨F, hF⟩ : ∃ F, F = xF [(b 0, .inr (5, mF b i j))] := ⟨_, rfl⟩
  refine rn.mono (J := xSt F V0 [(b 0, .inr (5, mF b i j))]) (fun V9 h => by rw [h, hV0, hF]; exact hV.st) ?_
  show rn C (xSt F V0 [(b 0, .inr (5, mF b i j))]) 0 0 0 [(0, .ref (b 0)), (1, .int (nI p)), (2, .int y), (3, .int z), (4, .int u), (5, .int v)] []
  refine r_aload_n hC 0 dX6_cell_0 rfl 1 rfl ?_
  refine r_iload_n hC 1 dX6_cell_1 rfl 2 rfl ?_
  refine r_invVw hC kX6 (b 0) [.int (nI p)] [] mVX6_noBody q2996 0 rfl (metX6_noBody0 _ _ hG b _ _ p (by omega)) [0] [] rfl rfl rfl rfl (by decide) ⟨rfl, rfl⟩ 0 0 rfl rfl (Nat.le_of_ble_eq_true rfl) (Nat.le_of_ble_eq_true rfl) rfl (Nat.le_of_ble_eq_true rfl) dX6_cell_2 5 rfl (fun v1 w2 h3 => ?_) (fun _ _ h => h.elim)
  obtain ⟨rfl, rfl⟩ := h3
  show rn C (xSt F V0 [(b 0, .inr (5, mF b (va_up i 0 0) j))]) 0 0 5 [(0, .ref (b 0)), (1, .int (nI p)), (2, .int y), (3, .int z), (4, .int u), (5, .int v)] [.int 0]
  refine r_ifne hC 78 dX6_cell_5 (by decide) 8 rfl (fun h => absurd h (by decide)) (fun _ => ?_)
  refine r_aload_n hC 0 dX6_cell_8 rfl 9 rfl ?_
  refine r_iload hC 4 dX6_cell_9 rfl 11 rfl ?_
  refine r_iflt hC 31 dX6_cell_11 (by decide) 14 rfl (fun _ => ?_) (fun h => absurd (hu) h)
  refine r_iconst hC 0 dX6_cell_31 ic_0 32 rfl ?_
  refine r_iconst hC 1 dX6_cell_32 ic_1 33 rfl ?_
  refine r_invVw hC kX6 (b 0) [.int 0, .int 1] [] mVX6_fails q2894 0 rfl (metX6_fails0 _ _ hG b _ _ 1) [0] [] rfl rfl rfl rfl (by decide) ⟨rfl, rfl⟩ 0 0 rfl rfl (Nat.le_of_ble_eq_true rfl) (Nat.le_of_ble_eq_true rfl) rfl (Nat.le_of_ble_eq_true rfl) dX6_cell_33 36 rfl (fun v4 w5 h6 => ?_) (fun _ _ h => h.elim)
  obtain ⟨rfl, rfl⟩ := h6
  show rn C (xSt F V0 [(b 0, .inr (5, mF b (va_up (va_up i 0 0) 0 1) j))]) 0 0 36 [(0, .ref (b 0)), (1, .int (nI p)), (2, .int y), (3, .int z), (4, .int u), (5, .int v)] [.int 1]
  refine r_ifne hC 78 dX6_cell_36 (by decide) 39 rfl (fun _ => ?_) (fun h => absurd h (by decide))
  refine r_iconst hC 0 dX6_cell_78 ic_0 79 rfl ?_
  exact r_iret hC (Nat.le_of_ble_eq_true rfl) (Nat.le_of_ble_eq_true rfl) (fun V9 h => hQ _ _ ⟨[(b 0, .inr (5, mF b (va_up (va_up i 0 0) 0 1) j))], ⟨rfl, by simp only [bx_uu]⟩, by rw [← hV0, ← hF]; exact h⟩) dX6_cell_79
set_option maxHeartbeats 4000000 in
set_option maxRecDepth 100000 in
theorem metX6_cellB3 (l : Launch) (G : xG) (hG : xGood G) (b : Nat → Nat) (i : Nat → Int32) (j : Nat → Int64) (p : Nat) (hp : p < 3) (y z u v : Int32) (hu : ¬ u < 0) (hv : bI (m_in v.toInt64 0 2) = 0) : xWm l G yX6_cell (Cond.code yX6_cell cX6_cell 6 (some .int)) { frames := 2, locals := 46, cells := 0, slots := 0 } [.ref (b 0), .int (nI p), .int y, .int z, .int u, .int v] [(b 0, .inr (5, mF b i j))] (fun v w' => v = some (.int 0) ∧ w' = [(b 0, .inr (5, mF b (va_up i 0 1) j))]) (fun _ _ => False) := by
  intro V hV
  refine xMet_of RX6 hG rfl (by decide) (Nat.le_of_ble_eq_true rfl) fun C hC hQ hX hl hg _ => ?_
  subst hl hg
  obtain ⟨V0, hV0⟩ : ∃ V0, V0 = V := ⟨_, rfl⟩
  obtain ⟨F, hF⟩ : ∃ F, F = xF [(b 0, .inr (5, mF b i j))] := ⟨_, rfl⟩
  refine rn.mono (J := xSt F V0 [(b 0, .inr (5, mF b i j))]) (fun V9 h => by rw [h, hV0, hF]; exact hV.st) ?_
  show rn C (xSt F V0 [(b 0, .inr (5, mF b i j))]) 0 0 0 [(0, .ref (b 0)), (1, .int (nI p)), (2, .int y), (3, .int z), (4, .int u), (5, .int v)] []
  refine r_aload_n hC 0 dX6_cell_0 rfl 1 rfl ?_
  refine r_iload_n hC 1 dX6_cell_1 rfl 2 rfl ?_
  refine r_invVw hC kX6 (b 0) [.int (nI p)] [] mVX6_noBody q2996 0 rfl (metX6_noBody0 _ _ hG b _ _ p (by omega)) [0] [] rfl rfl rfl rfl (by decide) ⟨rfl, rfl⟩ 0 0 rfl rfl (Nat.le_of_ble_eq_true rfl) (Nat.le_of_ble_eq_true rfl) rfl (Nat.le_of_ble_eq_true rfl) dX6_cell_2 5 rfl (fun v1 w2 h3 => ?_) (fun _ _ h => h.elim)
  obtain ⟨rfl, rfl⟩ := h3
  show rn C (xSt F V0 [(b 0, .inr (5, mF b (va_up i 0 0) j))]) 0 0 5 [(0, .ref (b 0)), (1, .int (nI p)), (2, .int y), (3, .int z), (4, .int u), (5, .int v)] [.int 0]
  refine r_ifne hC 78 dX6_cell_5 (by decide) 8 rfl (fun h => absurd h (by decide)) (fun _ => ?_)
  refine r_aload_n hC 0 dX6_cell_8 rfl 9 rfl ?_
  refine r_iload hC 4 dX6_cell_9 rfl 11 rfl ?_
  refine r_iflt hC 31 dX6_cell_11 (by decide) 14 rfl (fun h => absurd h (hu)) (fun _ => ?_)
  refine r_iload hC 5 dX6_cell_14 rfl 16 rfl ?_
  refine r_i2l hC v.toInt64 dX6_cell_16 (rfl) 17 rfl ?_
  refine r_lconst hC 0 dX6_cell_17 lc_0 18 rfl ?_
  refine r_ldc2 hC q2728 dX6_cell_18 21 rfl ?_
  refine r_invSr hC [.long v.toInt64, .long 0, .long 2] (.int 0) mSX6_in q2891 (metX6_inB _ _ hG v.toInt64 0 2 0 (hv)) (fun _ _ => xIn.nil) ⟨rfl, rfl⟩ 0 0 rfl rfl (Nat.le_of_ble_eq_true rfl) (Nat.le_of_ble_eq_true rfl) rfl (Nat.le_of_ble_eq_true rfl) dX6_cell_21 24 rfl ?_
  refine r_ifeq hC 31 dX6_cell_24 (by decide) 27 rfl (fun _ => ?_) (fun h => absurd h (by decide))
  refine r_iconst hC 0 dX6_cell_31 ic_0 32 rfl ?_
  refine r_iconst hC 1 dX6_cell_32 ic_1 33 rfl ?_
  refine r_invVw hC kX6 (b 0) [.int 0, .int 1] [] mVX6_fails q2894 0 rfl (metX6_fails0 _ _ hG b _ _ 1) [0] [] rfl rfl rfl rfl (by decide) ⟨rfl, rfl⟩ 0 0 rfl rfl (Nat.le_of_ble_eq_true rfl) (Nat.le_of_ble_eq_true rfl) rfl (Nat.le_of_ble_eq_true rfl) dX6_cell_33 36 rfl (fun v4 w5 h6 => ?_) (fun _ _ h => h.elim)
  obtain ⟨rfl, rfl⟩ := h6
  show rn C (xSt F V0 [(b 0, .inr (5, mF b (va_up (va_up i 0 0) 0 1) j))]) 0 0 36 [(0, .ref (b 0)), (1, .int (nI p)), (2, .int y), (3, .int z), (4, .int u), (5, .int v)] [.int 1]
  refine r_ifne hC 78 dX6_cell_36 (by decide) 39 rfl (fun _ => ?_) (fun h => absurd h (by decide))
  refine r_iconst hC 0 dX6_cell_78 ic_0 79 rfl ?_
  exact r_iret hC (Nat.le_of_ble_eq_true rfl) (Nat.le_of_ble_eq_true rfl) (fun V9 h => hQ _ _ ⟨[(b 0, .inr (5, mF b (va_up (va_up i 0 0) 0 1) j))], ⟨rfl, by simp only [bx_uu]⟩, by rw [← hV0, ← hF]; exact h⟩) dX6_cell_79
set_option maxHeartbeats 4000000 in
set_option maxRecDepth 100000 in
theorem metX6_cellC1 (l : Launch) (G : xG) (hG : xGood G) (b : Nat → Nat) (i : Nat → Int32) (j : Nat → Int64) (p : Nat) (hp : p < 3) (y z u v : Int32) (hu : ¬ u < 0) (hv : bI (m_in v.toInt64 0 2) = 1) (hy : bI (m_in y.toInt64 0 300) = 0) : xWm l G yX6_cell (Cond.code yX6_cell cX6_cell 6 (some .int)) { frames := 2, locals := 46, cells := 0, slots := 0 } [.ref (b 0), .int (nI p), .int y, .int z, .int u, .int v] [(b 0, .inr (5, mF b i j))] (fun v w' => v = some (.int 0) ∧ w' = [(b 0, .inr (5, mF b (va_up i 0 2) j))]) (fun _ _ => False) := by
  intro V hV
  refine xMet_of RX6 hG rfl (by decide) (Nat.le_of_ble_eq_true rfl) fun C hC hQ hX hl hg _ => ?_
  subst hl hg
  obtain ⟨V0, hV0⟩ : ∃ V0, V0 = V := ⟨_, rfl⟩
  obtain ⟨F, hF⟩ : ∃ F, F = xF [(b 0, .inr (5, mF b i j))] := ⟨_, rfl⟩
  refine rn.mono (J := xSt F V0 [(b 0, .inr (5, mF b i j))]) (fun V9 h => by rw [h, hV0, hF]; exact hV.st) ?_
  show rn C (xSt F V0 [(b 0, .inr (5, mF b i j))]) 0 0 0 [(0, .ref (b 0)), (1, .int (nI p)), (2, .int y), (3, .int z), (4, .int u), (5, .int v)] []
  refine r_aload_n hC 0 dX6_cell_0 rfl 1 rfl ?_
  refine r_iload_n hC 1 dX6_cell_1 rfl 2 rfl ?_
  refine r_invVw hC kX6 (b 0) [.int (nI p)] [] mVX6_noBody q2996 0 rfl (metX6_noBody0 _ _ hG b _ _ p (by omega)) [0] [] rfl rfl rfl rfl (by decide) ⟨rfl, rfl⟩ 0 0 rfl rfl (Nat.le_of_ble_eq_true rfl) (Nat.le_of_ble_eq_true rfl) rfl (Nat.le_of_ble_eq_true rfl) dX6_cell_2 5 rfl (fun v1 w2 h3 => ?_) (fun _ _ h => h.elim)
  obtain ⟨rfl, rfl⟩ := h3
  show rn C (xSt F V0 [(b 0, .inr (5, mF b (va_up i 0 0) j))]) 0 0 5 [(0, .ref (b 0)), (1, .int (nI p)), (2, .int y), (3, .int z), (4, .int u), (5, .int v)] [.int 0]
  refine r_ifne hC 78 dX6_cell_5 (by decide) 8 rfl (fun h => absurd h (by decide)) (fun _ => ?_)
  refine r_aload_n hC 0 dX6_cell_8 rfl 9 rfl ?_
  refine r_iload hC 4 dX6_cell_9 rfl 11 rfl ?_
  refine r_iflt hC 31 dX6_cell_11 (by decide) 14 rfl (fun h => absurd h (hu)) (fun _ => ?_)
  refine r_iload hC 5 dX6_cell_14 rfl 16 rfl ?_
  refine r_i2l hC v.toInt64 dX6_cell_16 (rfl) 17 rfl ?_
  refine r_lconst hC 0 dX6_cell_17 lc_0 18 rfl ?_
  refine r_ldc2 hC q2728 dX6_cell_18 21 rfl ?_
  refine r_invSr hC [.long v.toInt64, .long 0, .long 2] (.int 1) mSX6_in q2891 (metX6_inB _ _ hG v.toInt64 0 2 1 (hv)) (fun _ _ => xIn.nil) ⟨rfl, rfl⟩ 0 0 rfl rfl (Nat.le_of_ble_eq_true rfl) (Nat.le_of_ble_eq_true rfl) rfl (Nat.le_of_ble_eq_true rfl) dX6_cell_21 24 rfl ?_
  refine r_ifeq hC 31 dX6_cell_24 (by decide) 27 rfl (fun h => absurd h (by decide)) (fun _ => ?_)
  refine r_iconst hC 1 dX6_cell_27 ic_1 28 rfl ?_
  refine r_goto hC 32 dX6_cell_28 (by decide) ?_
  refine r_iconst hC 1 dX6_cell_32 ic_1 33 rfl ?_
  refine r_invVr hC kX6 (b 0) [.int 1, .int 1] (.int 0) mVX6_fails q2894 (fun _ h => h.get 0 rfl) (metX6_fails1 _ _ hG b _ _ 1) (fun _ h => h.in.sub [0] rfl rfl) ⟨rfl, rfl⟩ 0 0 rfl rfl (Nat.le_of_ble_eq_true rfl) (Nat.le_of_ble_eq_true rfl) rfl (Nat.le_of_ble_eq_true rfl) dX6_cell_33 36 rfl ?_
  refine r_ifne hC 78 dX6_cell_36 (by decide) 39 rfl (fun h => absurd h (by decide)) (fun _ => ?_)
  refine r_aload_n hC 0 dX6_cell_39 rfl 40 rfl ?_
  refine r_iload_n hC 2 dX6_cell_40 rfl 41 rfl ?_
  refine r_i2l hC y.toInt64 dX6_cell_41 (rfl) 42 rfl ?_
  refine r_lconst hC 0 dX6_cell_42 lc_0 43 rfl ?_
  refine r_ldc2 hC q3174 dX6_cell_43 46 rfl ?_
  refine r_invSr hC [.long y.toInt64, .long 0, .long 300] (.int 0) mSX6_in q2891 (metX6_inB _ _ hG y.toInt64 0 300 0 (hy)) (fun _ _ => xIn.nil) ⟨rfl, rfl⟩ 0 0 rfl rfl (Nat.le_of_ble_eq_true rfl) (Nat.le_of_ble_eq_true rfl) rfl (Nat.le_of_ble_eq_true rfl) dX6_cell_46 49 rfl ?_
  refine r_ifeq hC 70 dX6_cell_49 (by decide) 52 rfl (fun _ => ?_) (fun h => absurd h (by decide))
  refine r_iconst hC 0 dX6_cell_70 ic_0 71 rfl ?_
  refine r_iconst hC 2 dX6_cell_71 ic_2 72 rfl ?_
  refine r_invVw hC kX6 (b 0) [.int 0, .int 2] [] mVX6_fails q2894 0 rfl (metX6_fails0 _ _ hG b _ _ 2) [0] [] rfl rfl rfl rfl (by decide) ⟨rfl, rfl⟩ 0 0 rfl rfl (Nat.le_of_ble_eq_true rfl) (Nat.le_of_ble_eq_true rfl) rfl (Nat.le_of_ble_eq_true rfl) dX6_cell_72 75 rfl (fun v4 w5 h6 => ?_) (fun _ _ h => h.elim)
  obtain ⟨rfl, rfl⟩ := h6
  show rn C (xSt F V0 [(b 0, .inr (5, mF b (va_up (va_up i 0 0) 0 2) j))]) 0 0 75 [(0, .ref (b 0)), (1, .int (nI p)), (2, .int y), (3, .int z), (4, .int u), (5, .int v)] [.int 1]
  refine r_ifeq hC 80 dX6_cell_75 (by decide) 78 rfl (fun h => absurd h (by decide)) (fun _ => ?_)
  refine r_iconst hC 0 dX6_cell_78 ic_0 79 rfl ?_
  exact r_iret hC (Nat.le_of_ble_eq_true rfl) (Nat.le_of_ble_eq_true rfl) (fun V9 h => hQ _ _ ⟨[(b 0, .inr (5, mF b (va_up (va_up i 0 0) 0 2) j))], ⟨rfl, by simp only [bx_uu]⟩, by rw [← hV0, ← hF]; exact h⟩) dX6_cell_79
set_option maxHeartbeats 4000000 in
set_option maxRecDepth 100000 in
theorem metX6_cellC2 (l : Launch) (G : xG) (hG : xGood G) (b : Nat → Nat) (i : Nat → Int32) (j : Nat → Int64) (p : Nat) (hp : p < 3) (y z u v : Int32) (hu : ¬ u < 0) (hv : bI (m_in v.toInt64 0 2) = 1) (hy : bI (m_in y.toInt64 0 300) = 1) (hz : bI (m_in z.toInt64 1000 100000) = 0) : xWm l G yX6_cell (Cond.code yX6_cell cX6_cell 6 (some .int)) { frames := 2, locals := 46, cells := 0, slots := 0 } [.ref (b 0), .int (nI p), .int y, .int z, .int u, .int v] [(b 0, .inr (5, mF b i j))] (fun v w' => v = some (.int 0) ∧ w' = [(b 0, .inr (5, mF b (va_up i 0 2) j))]) (fun _ _ => False) := by
  intro V hV
  refine xMet_of RX6 hG rfl (by decide) (Nat.le_of_ble_eq_true rfl) fun C hC hQ hX hl hg _ => ?_
  subst hl hg
  obtain ⟨V0, hV0⟩ : ∃ V0, V0 = V := ⟨_, rfl⟩
  obtain ⟨F, hF⟩ : ∃ F, F = xF [(b 0, .inr (5, mF b i j))] := ⟨_, rfl⟩
  refine rn.mono (J := xSt F V0 [(b 0, .inr (5, mF b i j))]) (fun V9 h => by rw [h, hV0, hF]; exact hV.st) ?_
  show rn C (xSt F V0 [(b 0, .inr (5, mF b i j))]) 0 0 0 [(0, .ref (b 0)), (1, .int (nI p)), (2, .int y), (3, .int z), (4, .int u), (5, .int v)] []
  refine r_aload_n hC 0 dX6_cell_0 rfl 1 rfl ?_
  refine r_iload_n hC 1 dX6_cell_1 rfl 2 rfl ?_
  refine r_invVw hC kX6 (b 0) [.int (nI p)] [] mVX6_noBody q2996 0 rfl (metX6_noBody0 _ _ hG b _ _ p (by omega)) [0] [] rfl rfl rfl rfl (by decide) ⟨rfl, rfl⟩ 0 0 rfl rfl (Nat.le_of_ble_eq_true rfl) (Nat.le_of_ble_eq_true rfl) rfl (Nat.le_of_ble_eq_true rfl) dX6_cell_2 5 rfl (fun v1 w2 h3 => ?_) (fun _ _ h => h.elim)
  obtain ⟨rfl, rfl⟩ := h3
  show rn C (xSt F V0 [(b 0, .inr (5, mF b (va_up i 0 0) j))]) 0 0 5 [(0, .ref (b 0)), (1, .int (nI p)), (2, .int y), (3, .int z), (4, .int u), (5, .int v)] [.int 0]
  refine r_ifne hC 78 dX6_cell_5 (by decide) 8 rfl (fun h => absurd h (by decide)) (fun _ => ?_)
  refine r_aload_n hC 0 dX6_cell_8 rfl 9 rfl ?_
  refine r_iload hC 4 dX6_cell_9 rfl 11 rfl ?_
  refine r_iflt hC 31 dX6_cell_11 (by decide) 14 rfl (fun h => absurd h (hu)) (fun _ => ?_)
  refine r_iload hC 5 dX6_cell_14 rfl 16 rfl ?_
  refine r_i2l hC v.toInt64 dX6_cell_16 (rfl) 17 rfl ?_
  refine r_lconst hC 0 dX6_cell_17 lc_0 18 rfl ?_
  refine r_ldc2 hC q2728 dX6_cell_18 21 rfl ?_
  refine r_invSr hC [.long v.toInt64, .long 0, .long 2] (.int 1) mSX6_in q2891 (metX6_inB _ _ hG v.toInt64 0 2 1 (hv)) (fun _ _ => xIn.nil) ⟨rfl, rfl⟩ 0 0 rfl rfl (Nat.le_of_ble_eq_true rfl) (Nat.le_of_ble_eq_true rfl) rfl (Nat.le_of_ble_eq_true rfl) dX6_cell_21 24 rfl ?_
  refine r_ifeq hC 31 dX6_cell_24 (by decide) 27 rfl (fun h => absurd h (by decide)) (fun _ => ?_)
  refine r_iconst hC 1 dX6_cell_27 ic_1 28 rfl ?_
  refine r_goto hC 32 dX6_cell_28 (by decide) ?_
  refine r_iconst hC 1 dX6_cell_32 ic_1 33 rfl ?_
  refine r_invVr hC kX6 (b 0) [.int 1, .int 1] (.int 0) mVX6_fails q2894 (fun _ h => h.get 0 rfl) (metX6_fails1 _ _ hG b _ _ 1) (fun _ h => h.in.sub [0] rfl rfl) ⟨rfl, rfl⟩ 0 0 rfl rfl (Nat.le_of_ble_eq_true rfl) (Nat.le_of_ble_eq_true rfl) rfl (Nat.le_of_ble_eq_true rfl) dX6_cell_33 36 rfl ?_
  refine r_ifne hC 78 dX6_cell_36 (by decide) 39 rfl (fun h => absurd h (by decide)) (fun _ => ?_)
  refine r_aload_n hC 0 dX6_cell_39 rfl 40 rfl ?_
  refine r_iload_n hC 2 dX6_cell_40 rfl 41 rfl ?_
  refine r_i2l hC y.toInt64 dX6_cell_41 (rfl) 42 rfl ?_
  refine r_lconst hC 0 dX6_cell_42 lc_0 43 rfl ?_
  refine r_ldc2 hC q3174 dX6_cell_43 46 rfl ?_
  refine r_invSr hC [.long y.toInt64, .long 0, .long 300] (.int 1) mSX6_in q2891 (metX6_inB _ _ hG y.toInt64 0 300 1 (hy)) (fun _ _ => xIn.nil) ⟨rfl, rfl⟩ 0 0 rfl rfl (Nat.le_of_ble_eq_true rfl) (Nat.le_of_ble_eq_true rfl) rfl (Nat.le_of_ble_eq_true rfl) dX6_cell_46 49 rfl ?_
  refine r_ifeq hC 70 dX6_cell_49 (by decide) 52 rfl (fun h => absurd h (by decide)) (fun _ => ?_)
  refine r_iload_n hC 3 dX6_cell_52 rfl 53 rfl ?_
  refine r_i2l hC z.toInt64 dX6_cell_53 (rfl) 54 rfl ?_
  refine r_ldc2 hC q2708 dX6_cell_54 57 rfl ?_
  refine r_ldc2 hC q2983 dX6_cell_57 60 rfl ?_
  refine r_invSr hC [.long z.toInt64, .long 1000, .long 100000] (.int 0) mSX6_in q2891 (metX6_inB _ _ hG z.toInt64 1000 100000 0 (hz)) (fun _ _ => xIn.nil) ⟨rfl, rfl⟩ 0 0 rfl rfl (Nat.le_of_ble_eq_true rfl) (Nat.le_of_ble_eq_true rfl) rfl (Nat.le_of_ble_eq_true rfl) dX6_cell_60 63 rfl ?_
  refine r_ifeq hC 70 dX6_cell_63 (by decide) 66 rfl (fun _ => ?_) (fun h => absurd h (by decide))
  refine r_iconst hC 0 dX6_cell_70 ic_0 71 rfl ?_
  refine r_iconst hC 2 dX6_cell_71 ic_2 72 rfl ?_
  refine r_invVw hC kX6 (b 0) [.int 0, .int 2] [] mVX6_fails q2894 0 rfl (metX6_fails0 _ _ hG b _ _ 2) [0] [] rfl rfl rfl rfl (by decide) ⟨rfl, rfl⟩ 0 0 rfl rfl (Nat.le_of_ble_eq_true rfl) (Nat.le_of_ble_eq_true rfl) rfl (Nat.le_of_ble_eq_true rfl) dX6_cell_72 75 rfl (fun v4 w5 h6 => ?_) (fun _ _ h => h.elim)
  obtain ⟨rfl, rfl⟩ := h6
  show rn C (xSt F V0 [(b 0, .inr (5, mF b (va_up (va_up i 0 0) 0 2) j))]) 0 0 75 [(0, .ref (b 0)), (1, .int (nI p)), (2, .int y), (3, .int z), (4, .int u), (5, .int v)] [.int 1]
  refine r_ifeq hC 80 dX6_cell_75 (by decide) 78 rfl (fun h => absurd h (by decide)) (fun _ => ?_)
  refine r_iconst hC 0 dX6_cell_78 ic_0 79 rfl ?_
  exact r_iret hC (Nat.le_of_ble_eq_true rfl) (Nat.le_of_ble_eq_true rfl) (fun V9 h => hQ _ _ ⟨[(b 0, .inr (5, mF b (va_up (va_up i 0 0) 0 2) j))], ⟨rfl, by simp only [bx_uu]⟩, by rw [← hV0, ← hF]; exact h⟩) dX6_cell_79
