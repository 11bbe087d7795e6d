/-! ===== an array's content may be told otherwise where it says the same ===== -/
set_option maxRecDepth 100000
theorem xRep.recell {G : xG} {V : xV} {H : Heap} (h : xRep G V H) {a : Nat} {e e' : xE} (ha : V.2 a = some e) (hx : ∀ H, xat G a e H → xat G a e' H) : xRep G (xset V a e') H :=
  h.set ha rfl (fun _ _ => rfl) (hx H (h.at ha))
theorem arrV_congr {cA : ClassId} {N : Nat} {f g : Nat → Value} (h : ∀ j, j < N → f j = g j) : arrV cA N f = arrV cA N g := by
  unfold arrV
  congr 1
  apply Array.ext
  · simp
  · intro i h1 h2
    simp at h1
    simp [h i h1]
theorem rn_cellJ {C : xC} {I J : xV → Prop} {k n pc : Nat} {lv : List (Nat × Value)} {st : List Value} {a N : Nat} {f g : Nat → Int64} (hI : ∀ V, I V → V.2 a = some (.inl (1, N, .inr (.inl f)))) (hfg : ∀ j, j < N → f j = g j) (hJ : ∀ V, I V → J (xset V a (.inl (1, N, .inr (.inl g))))) (kk : rn C J k n pc lv st) : rn C I k n pc lv st := by
  obtain ⟨p, l, e, R, s, m, args, below, meth, c, G, nL, Q, X⟩ := C
  intro V H locs ls hV hR hL hl
  refine kk _ H locs ls (hJ V hV) (hR.recell (hI V hV) fun H h => ?_) hL hl
  have h : H[a]? = some (vp_cell (G.2.2.1 1) (N, .inr (.inl f))) := h
  show H[a]? = some (vp_cell (G.2.2.1 1) (N, .inr (.inl g)))
  rw [h, vp_cell_l, vp_cell_l, arrV_congr (fun j hj => by rw [hfg j hj])]
theorem rn_cellI {C : xC} {I J : xV → Prop} {k n pc : Nat} {lv : List (Nat × Value)} {st : List Value} {a t N : Nat} {f g : Nat → Int32} (hI : ∀ V, I V → V.2 a = some (.inl (t, N, .inl f))) (hfg : ∀ j, j < N → f j = g j) (hJ : ∀ V, I V → J (xset V a (.inl (t, N, .inl g)))) (kk : rn C J k n pc lv st) : rn C I k n pc lv st := by
  obtain ⟨p, l, e, R, s, m, args, below, meth, c, G, nL, Q, X⟩ := C
  intro V H locs ls hV hR hL hl
  refine kk _ H locs ls (hJ V hV) (hR.recell (hI V hV) fun H h => ?_) hL hl
  have h : H[a]? = some (vp_cell (G.2.2.1 t) (N, .inl f)) := h
  show H[a]? = some (vp_cell (G.2.2.1 t) (N, .inl g))
  rw [h, vp_cell_i, vp_cell_i, arrV_congr (fun j hj => by rw [hfg j hj])]
theorem rn_cellQ {C : xC} {I J : xV → Prop} {k n pc : Nat} {lv : List (Nat × Value)} {st : List Value} {a t N : Nat} {f g : Nat → Option Nat} (hI : ∀ V, I V → V.2 a = some (.inl (t, N, .inr (.inr (.inr (.inr f)))))) (hfg : ∀ j, j < N → f j = g j) (hJ : ∀ V, I V → J (xset V a (.inl (t, N, .inr (.inr (.inr (.inr g))))))) (kk : rn C J k n pc lv st) : rn C I k n pc lv st := by
  obtain ⟨p, l, e, R, s, m, args, below, meth, c, G, nL, Q, X⟩ := C
  intro V H locs ls hV hR hL hl
  refine kk _ H locs ls (hJ V hV) (hR.recell (hI V hV) fun H h => ?_) hL hl
  have h : H[a]? = some (vp_cell (G.2.2.1 t) (N, .inr (.inr (.inr (.inr f))))) := h
  show H[a]? = some (vp_cell (G.2.2.1 t) (N, .inr (.inr (.inr (.inr g)))))
  rw [h, vp_cell_q, vp_cell_q, arrV_congr (fun j hj => by rw [hfg j hj])]
theorem cpy_0 {α : Type} (f g : Nat → α) (sp dp : Nat) : va_cpy f g sp dp 0 = g := by
  funext j; unfold va_cpy; rw [if_neg (by omega)]
theorem cpy_s {α : Type} (f g : Nat → α) (sp dp n : Nat) : va_up (va_cpy f g sp dp n) (dp + n) (f (sp + n)) = va_cpy f g sp dp (n + 1) := by
  funext j
  unfold va_up va_cpy
  by_cases h : j = dp + n
  · subst h; rw [if_pos rfl, if_pos (by omega)]; congr 1; omega
  · rw [if_neg h]
    by_cases h2 : dp ≤ j ∧ j < dp + n
    · rw [if_pos h2, if_pos (by omega)]
    · rw [if_neg h2, if_neg (by omega)]
theorem up_same {α : Type} (f : Nat → α) (k : Nat) (v : α) : va_up f k v k = v := if_pos rfl
theorem up_ne {α : Type} {f : Nat → α} {k j : Nat} {v : α} (h : j ≠ k) : va_up f k v j = f j := if_neg h
/-- the long forms of numbers -/
theorem l_ti (x y : Int64) (h : x = y) : x.toInt = y.toInt := by rw [h]
theorem cpy_step {α : Type} {f g : Nat → α} {sp dp n i : Nat} {v : α} (hi : i = dp + n) (hv : v = f (sp + n)) : va_up (va_cpy f g sp dp n) i v = va_cpy f g sp dp (n + 1) := by
  subst hi hv
  exact cpy_s f g sp dp n
theorem cpy_out {α : Type} {f g : Nat → α} {sp dp n j : Nat} (h : j < dp ∨ dp + n ≤ j) : va_cpy f g sp dp n j = g j := by
  unfold va_cpy
  rw [if_neg (by omega)]
theorem cpy_in {α : Type} {f g : Nat → α} {sp dp n j : Nat} (h : dp ≤ j) (h2 : j < dp + n) : va_cpy f g sp dp n j = f (sp + (j - dp)) := by
  unfold va_cpy
  rw [if_pos (by omega)]
theorem r_eqi {C : xC} {I : xV → Prop} {k n pc : Nat} {lv : List (Nat × Value)} {st : List Value} {x y : Int32} (h : x = y) (kk : rn C I k n pc lv (.int y :: st)) : rn C I k n pc lv (.int x :: st) := by rw [h]; exact kk
theorem r_eql {C : xC} {I : xV → Prop} {k n pc : Nat} {lv : List (Nat × Value)} {st : List Value} {x y : Int64} (h : x = y) (kk : rn C I k n pc lv (.long y :: st)) : rn C I k n pc lv (.long x :: st) := by rw [h]; exact kk
