/-! ===== reading what is not owned ===== -/
set_option maxRecDepth 100000
/-- the heap is still V0, which has the cells ws; P is known of it -/
def xRq (ws : xW) (P : xV → Prop) (V0 V : xV) : Prop := V = V0 ∧ xIn ws V0 ∧ P V0
def xRmP (P : xV → Prop) (l : Launch) (G : xG) (y : MethodName) (w : Cond) (rm : Room) (As : List Value) (wc : xW) (r : Option Value) : Prop := ∀ V, P V → xIn wc V → xMet l G y [w] rm As V (fun v V' => v = r ∧ V' = V) (fun _ _ => False)
theorem xRq.get {ws : xW} {P : xV → Prop} {V0 V : xV} (h : xRq ws P V0 V) (i : Nat) {a : Nat} {e : xE} (hi : ws[i]? = some (a, e)) : V.2 a = some e := by
  rw [h.1]; exact (h.2.1.1 i _ hi).1
theorem xRq.in {ws : xW} {P : xV → Prop} {V0 V : xV} (h : xRq ws P V0 V) : xIn ws V := by rw [h.1]; exact h.2.1
theorem xRq.p {ws : xW} {P : xV → Prop} {V0 V : xV} (h : xRq ws P V0 V) : P V := by rw [h.1]; exact h.2.2
theorem xRq.at {ws : xW} {P : xV → Prop} {V0 V : xV} (h : xRq ws P V0 V) {a : Nat} {e : xE} (hp : ∀ V, P V → V.2 a = some e) : V.2 a = some e := hp V h.p
theorem xRq.ne {ws : xW} {P : xV → Prop} {V0 V : xV} (h : xRq ws P V0 V) (i j : Nat) {p q : Nat × xE} (hi : ws[i]? = some p) (hj : ws[j]? = some q) (hne : i ≠ j) : p.1 ≠ q.1 := fun e => hne (h.2.1.2 i j p q hi hj e)
