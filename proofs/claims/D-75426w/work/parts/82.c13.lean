/-! ===== shared cells; Arrays.copyOf ===== -/
set_option maxRecDepth 100000
/-- a contract with a premise on the heap at the start: what is read and not owned -/
def xWmP (P : xV → Prop) (l : Launch) (G : xG) (y : MethodName) (w : Cond) (rm : Room) (As : List Value) (wc : xW) (Q : Option Value → xW → Prop) (X : Nat → xW → Prop) : Prop := ∀ V, P V → xIn wc V → xMet l G y [w] rm As V (fun v V' => ∃ w', Q v w' ∧ xSt (xF wc) V w' V') (fun q V' => ∃ w', X q w' ∧ xSt (xF wc) V w' V')
/-- what f holds below m are objects of class ci, none of them at an address of own -/
def xSh (ci : Nat) (own : List Nat) (f : Nat → Option Nat) (m : Nat) (V : xV) : Prop := ∀ j x, j < m → f j = some x → x < V.1 ∧ x ∉ own ∧ ∃ fs, V.2 x = some (.inr (ci, fs))
theorem xSt.old {F : Nat → Prop} {V0 V : xV} {ws : xW} (h : xSt F V0 ws V) {a : Nat} {e : xE} (h0 : V0.2 a = some e) (hlt : a < V0.1) (hF : ¬ F a) : V.2 a = some e := by
  rw [← h0]
  exact h.2.2.2 a hlt hF
theorem xF_not {ws : xW} {x : Nat} (h : x ∉ ws.map (fun q => q.1)) : ¬ xF ws x := by
  rintro ⟨i, e, hi⟩
  exact h (List.mem_map.mpr ⟨(x, e), List.mem_of_getElem? hi, rfl⟩)
set_option maxHeartbeats 4000000 in
set_option maxRecDepth 100000 in
theorem metJ12_copyOf2 (l : Launch) (G : xG) (hG : xGood G) (e mi : Nat) (f : Nat → Option Nat) (hM : va_Mi "[Ljava/lang/Object;" mi G.1) : xWmP (xSh 12 [e] f 17) l G yJ12_copyOf_2 (Cond.code yJ12_copyOf_2 cJ12_copyOf_2 4 (some (.array (.object "java/lang/Object")))) { frames := 1, locals := 60, cells := 1, slots := 36 } [.ref e, .int 36, .ref mi] [(e, .inl (3, 17, .inr (.inr (.inr (.inr f)))))] (fun v w' => ∃ q : Nat, v = some (.ref q) ∧ w' = [(e, .inl (3, 17, .inr (.inr (.inr (.inr f))))), (q, .inl (3, 36, .inr (.inr (.inr (.inr (va_cpy f nQ 0 0 17))))))]) (fun _ _ => False) := by
  intro V hP hV
  refine xMet_ofT RJ12 hG rfl (by decide) (Nat.le_of_ble_eq_true rfl) fun C hC hQ hX hl hg _ hTab => ?_
  subst hl hg
  obtain ⟨V0, hV0⟩ : ∃ V0, V0 = V := ⟨_, rfl⟩
  obtain ⟨F, hF⟩ : ∃ F, F = xF [(e, .inl (3, 17, .inr (.inr (.inr (.inr f)))))] := ⟨_, rfl⟩
  rw [← hV0] at hP
  refine rn.mono (J := xSt F V0 [(e, .inl (3, 17, .inr (.inr (.inr (.inr f)))))]) (fun V9 h => by rw [h, hV0, hF]; exact hV.st) ?_
  show rn C (xSt F V0 [(e, .inl (3, 17, .inr (.inr (.inr (.inr f)))))]) 0 0 0 [(0, .ref e), (1, .int 36), (2, .ref mi)] []
  refine r_aload_n hC 2 dJ12_copyOf_2_0 rfl 1 rfl ?_
  refine r_ldcM hC hM q839 dJ12_copyOf_2_1 3 rfl ?_
  refine r_acne (rx := (some mi)) (ry := (some mi)) hC 13 dJ12_copyOf_2_3 (by decide) 6 rfl (fun h => absurd rfl h) (fun _ => ?_)
  refine r_iload_n hC 1 dJ12_copyOf_2_6 rfl 7 rfl ?_
  refine r_anew (J := fun q1 => xSt F V0 [(e, .inl (3, 17, .inr (.inr (.inr (.inr f))))), (q1, .inl (3, 36, .inr (.inr (.inr (.inr nQ)))))]) hC hG (.object "java/lang/Object") 3 36 q840 q237 rfl rfl rfl (Nat.le_of_ble_eq_true rfl) (Nat.le_of_ble_eq_true rfl) (Nat.le_of_ble_eq_true rfl) dJ12_copyOf_2_7 (fun _ h => h.push _) 10 rfl (fun q1 => ?_)
  show rn C (xSt F V0 [(e, .inl (3, 17, .inr (.inr (.inr (.inr f))))), (q1, .inl (3, 36, .inr (.inr (.inr (.inr nQ)))))]) 1 36 10 [(0, .ref e), (1, .int 36), (2, .ref mi)] [.ref q1]
  refine r_goto hC 24 dJ12_copyOf_2_10 (by decide) ?_
  refine r_astore_n hC 3 [(3, .ref q1), (0, .ref e), (1, .int 36), (2, .ref mi)] dJ12_copyOf_2_24 rfl (Nat.le_of_ble_eq_true rfl) rfl 25 rfl ?_
  refine r_aload_n hC 1 dJ12_copyOf_2_25 rfl 26 rfl ?_
  refine r_iconst hC 0 dJ12_copyOf_2_26 ic_0 27 rfl ?_
  refine r_aload_n hC 0 dJ12_copyOf_2_27 rfl 28 rfl ?_
  refine r_iconst hC 0 dJ12_copyOf_2_28 ic_0 29 rfl ?_
  refine r_aload_n hC 1 dJ12_copyOf_2_29 rfl 30 rfl ?_
  refine r_alen hC 17 (t := 3) rfl (fun _ h => h.get 0 rfl) rfl dJ12_copyOf_2_30 31 rfl ?_
  refine r_iload_n hC 2 dJ12_copyOf_2_31 rfl 32 rfl ?_
  refine xCall.r (r := some (.int (x_min 17 36))) (r_cS hC [.int 17, .int 36] mSJ4_min q841 (fun V9 h9 => (metJ4_min _ _ hG 17 36) V9 xIn.nil) ⟨rfl, rfl⟩ (Nat.le_of_ble_eq_true rfl) (Nat.le_of_ble_eq_true rfl) rfl (Nat.le_of_ble_eq_true rfl) dJ12_copyOf_2_32) 1 36 35 rfl rfl rfl ?_
  refine r_eqi (y := 17) (by decide) ?_
  refine r_copyQ (J := xSt F V0 [(e, .inl (3, 17, .inr (.inr (.inr (.inr f))))), (q1, .inl (3, 36, .inr (.inr (.inr (.inr (va_cpy f nQ 0 0 17))))))]) hC 0 0 17 (t := 3) rfl q844 (fun _ h => h.get 0 rfl) (fun _ h => h.get 1 rfl) (Nat.le_of_ble_eq_true rfl) (Nat.le_of_ble_eq_true rfl) (Nat.le_of_ble_eq_true rfl) (Nat.le_of_ble_eq_true rfl) (fun j9 x9 hj hx => xStor.obj hG kX14 q3407 (fun V9 h9 => by obtain ⟨h1, h2, fs9, h3⟩ := hP _ x9 hj (by simpa using hx); exact ⟨fs9, h9.old h3 h1 (by rw [hF]; exact xF_not (by simpa using h2))⟩)) (Nat.le_of_ble_eq_true rfl) (Nat.le_of_ble_eq_true rfl) (Nat.le_of_ble_eq_true rfl) dJ12_copyOf_2_35 (fun _ h => h.set 1 _ rfl) 38 rfl ?_
  refine r_aload_n hC 0 dJ12_copyOf_2_38 rfl 39 rfl ?_
  exact r_aret hC (v := (some q1)) (Or.inr ⟨_, rfl⟩) (Nat.le_of_ble_eq_true rfl) (Nat.le_of_ble_eq_true rfl) (fun V9 h => hQ _ _ ⟨[(e, .inl (3, 17, .inr (.inr (.inr (.inr f))))), (q1, .inl (3, 36, .inr (.inr (.inr (.inr (va_cpy f nQ 0 0 17))))))], ⟨q1, rfl, rfl⟩, by rw [← hV0, ← hF]; exact h⟩) dJ12_copyOf_2_39
set_option maxHeartbeats 4000000 in
set_option maxRecDepth 100000 in
theorem metJ12_copyOf (l : Launch) (G : xG) (hG : xGood G) (e mi : Nat) (f : Nat → Option Nat) (hM : va_Mi "[Ljava/lang/Object;" mi G.1) : xWmP (xSh 12 [e] f 17) l G yJ12_copyOf (Cond.code yJ12_copyOf cJ12_copyOf 2 (some (.array (.object "java/lang/Object")))) { frames := 2, locals := 83, cells := 1, slots := 36 } [.ref e, .int 36] [(e, .inl (3, 17, .inr (.inr (.inr (.inr f)))))] (fun v w' => ∃ q : Nat, v = some (.ref q) ∧ w' = [(e, .inl (3, 17, .inr (.inr (.inr (.inr f))))), (q, .inl (3, 36, .inr (.inr (.inr (.inr (va_cpy f nQ 0 0 17))))))]) (fun _ _ => False) := by
  intro V hP hV
  refine xMet_ofT RJ12 hG rfl (by decide) (Nat.le_of_ble_eq_true rfl) fun C hC hQ hX hl hg _ hTab => ?_
  subst hl hg
  obtain ⟨V0, hV0⟩ : ∃ V0, V0 = V := ⟨_, rfl⟩
  obtain ⟨F, hF⟩ : ∃ F, F = xF [(e, .inl (3, 17, .inr (.inr (.inr (.inr f)))))] := ⟨_, rfl⟩
  rw [← hV0] at hP
  refine rn.mono (J := xSt F V0 [(e, .inl (3, 17, .inr (.inr (.inr (.inr f)))))]) (fun V9 h => by rw [h, hV0, hF]; exact hV.st) ?_
  show rn C (xSt F V0 [(e, .inl (3, 17, .inr (.inr (.inr (.inr f)))))]) 0 0 0 [(0, .ref e), (1, .int 36)] []
  refine r_aload_n hC 0 dJ12_copyOf_0 rfl 1 rfl ?_
  refine r_iload_n hC 1 dJ12_copyOf_1 rfl 2 rfl ?_
  refine r_aload_n hC 0 dJ12_copyOf_2 rfl 3 rfl ?_
  refine r_getC hC hG hM q799 (fun _ h => h.get 0 rfl) (Nat.le_of_ble_eq_true rfl) (Nat.le_of_ble_eq_true rfl) (Nat.le_of_ble_eq_true rfl) dJ12_copyOf_3 6 rfl ?_
  refine xCall.w (wr := []) (r_cS hC [.ref e, .int 36, .ref mi] mSJ12_copyOf_2 q836 (fun V9 h9 => (metJ12_copyOf2 _ _ hG e mi f hM) V9 (fun j9 x9 hj hx => by obtain ⟨h1, h2, fs9, h3⟩ := hP j9 x9 hj hx; exact ⟨Nat.lt_of_lt_of_le h1 h9.2.2.1, h2, fs9, h9.old h3 h1 (by rw [hF]; exact xF_not (by simpa using h2))⟩) (h9.in.sub [0] rfl rfl)) ⟨rfl, rfl⟩ (Nat.le_of_ble_eq_true rfl) (Nat.le_of_ble_eq_true rfl) rfl (Nat.le_of_ble_eq_true rfl) dJ12_copyOf_6) [0] [] rfl rfl rfl (by decide) 1 36 9 rfl rfl rfl (fun v2 w3 h4 => ?_) (fun _ _ h => h.elim)
  obtain ⟨q1, rfl, rfl⟩ := h4
  show rn C (xSt F V0 [(e, .inl (3, 17, .inr (.inr (.inr (.inr f))))), (q1, .inl (3, 36, .inr (.inr (.inr (.inr (va_cpy f nQ 0 0 17))))))]) 1 36 9 [(0, .ref e), (1, .int 36)] [.ref q1]
  exact r_aret hC (v := (some q1)) (Or.inr ⟨_, rfl⟩) (Nat.le_of_ble_eq_true rfl) (Nat.le_of_ble_eq_true rfl) (fun V9 h => hQ _ _ ⟨[(e, .inl (3, 17, .inr (.inr (.inr (.inr f))))), (q1, .inl (3, 36, .inr (.inr (.inr (.inr (va_cpy f nQ 0 0 17))))))], ⟨q1, rfl, rfl⟩, by rw [← hV0, ← hF]; exact h⟩) dJ12_copyOf_9
