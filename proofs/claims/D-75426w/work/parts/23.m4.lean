/-! ===== the reference: copies, steps ===== -/
set_option maxRecDepth 100000
theorem mOK_kick {t r : Nat → Int64} {hf bk : Bool} (h : mOK r) : mOK (kickQ t r hf bk) := by
  unfold mOK kickQ
  simp only [va_up]
  exact h
theorem mOK_drift {t r : Nat → Int64} {hf bk : Bool} (h : mOK r) : mOK (driftQ t r hf bk) := by
  unfold mOK driftQ
  simp only [va_up]
  exact h
def partA (t r : Nat → Int64) (c : Int32) (bk : Bool) : Nat → Int64 := if c = 0 then kickQ t r false bk else if c = 2 then kickQ t r true bk else if c = 1 then driftQ t r false bk else driftQ t r true bk
def partO (t : Nat → Int64) (sc : Int64) (bk : Bool) (i : Nat) (r : Nat → Int64) : Option (Nat → Int64) := if partQ sc i = -1 then some r else if isInQ (partA t r (partQ sc i) bk) then some (partA t r (partQ sc i) bk) else none
def clockQ (r : Nat → Int64) (bk : Bool) : Int64 := r 0 + (if bk then -1 else 1)
/-- a step of the reference: the row behind it, if it is possible -/
def stepQ (t r : Nat → Int64) (bk : Bool) : Option (Nat → Int64) :=
  if m_in (clockQ r bk) (-1000000) 1000000 then
    (match partO t (r 1) bk (if bk then 2 else 0) r with
    | none => none
    | some r1 => match partO t (r 1) bk 1 r1 with
      | none => none
      | some r2 => match partO t (r 1) bk (if bk then 0 else 2) r2 with
        | none => none
        | some r3 => some (va_up r3 0 (clockQ r bk)))
  else none
theorem cpy_back {h0 r : Nat → Int64} {j : Nat} (h : ∀ j, ¬ j < 21 → r j = h0 j) : va_cpy h0 r 0 0 21 j = h0 j := by
  by_cases h21 : j < 21
  · rw [cpy_in (by omega) (by omega)]; congr 1; omega
  · rw [cpy_out (by omega)]; exact h j h21
theorem kick_off {t r : Nat → Int64} {hf bk : Bool} {j : Nat} (h : ¬ j < 21) : kickQ t r hf bk j = r j := by
  unfold kickQ
  rw [up_ne (by omega), up_ne (by omega), up_ne (by omega), up_ne (by omega), up_ne (by omega), up_ne (by omega)]
theorem drift_off {t r : Nat → Int64} {hf bk : Bool} {j : Nat} (h : ¬ j < 21) : driftQ t r hf bk j = r j := by
  unfold driftQ
  rw [up_ne (by omega), up_ne (by omega), up_ne (by omega), up_ne (by omega), up_ne (by omega), up_ne (by omega)]
theorem kick_lo {t r : Nat → Int64} {hf bk : Bool} {j : Nat} (h : j < 9) : kickQ t r hf bk j = r j := by
  unfold kickQ
  rw [up_ne (by omega), up_ne (by omega), up_ne (by omega), up_ne (by omega), up_ne (by omega), up_ne (by omega)]
theorem drift_lo {t r : Nat → Int64} {hf bk : Bool} {j : Nat} (h : j < 7) : driftQ t r hf bk j = r j := by
  unfold driftQ
  rw [up_ne (by omega), up_ne (by omega), up_ne (by omega), up_ne (by omega), up_ne (by omega), up_ne (by omega)]
theorem kick_1 {t r : Nat → Int64} {hf bk : Bool} : kickQ t r hf bk 1 = r 1 := kick_lo (by omega)
theorem drift_1 {t r : Nat → Int64} {hf bk : Bool} : driftQ t r hf bk 1 = r 1 := drift_lo (by omega)
theorem partA_0 {t r : Nat → Int64} {bk : Bool} : partA t r 0 bk = kickQ t r false bk := if_pos rfl
theorem partA_2 {t r : Nat → Int64} {bk : Bool} : partA t r 2 bk = kickQ t r true bk := by unfold partA; rw [if_neg (by decide), if_pos rfl]
theorem partA_1 {t r : Nat → Int64} {bk : Bool} : partA t r 1 bk = driftQ t r false bk := by unfold partA; rw [if_neg (by decide), if_neg (by decide), if_pos rfl]
theorem partA_3 {t r : Nat → Int64} {bk : Bool} : partA t r 3 bk = driftQ t r true bk := by unfold partA; rw [if_neg (by decide), if_neg (by decide), if_neg (by decide)]
theorem partO_skip {t r : Nat → Int64} {sc : Int64} {bk : Bool} {i : Nat} (h : partQ sc i = -1) : partO t sc bk i r = some r := by unfold partO; rw [if_pos h]
theorem partO_ok {t r r' : Nat → Int64} {sc : Int64} {bk : Bool} {i : Nat} {c : Int32} (h : partQ sc i = c) (hc : ¬ c = -1) (e : partA t r c bk = r') (hi : isInQ r' = true) : partO t sc bk i r = some r' := by unfold partO; rw [h, if_neg hc, e, if_pos hi]
theorem partO_no {t r r' : Nat → Int64} {sc : Int64} {bk : Bool} {i : Nat} {c : Int32} (h : partQ sc i = c) (hc : ¬ c = -1) (e : partA t r c bk = r') (hi : isInQ r' = false) : partO t sc bk i r = none := by unfold partO; rw [h, if_neg hc, e, if_neg (by rw [hi]; decide)]
theorem stepQ_ok {t r r1 r2 r3 : Nat → Int64} {bk : Bool} (h : m_in (clockQ r bk) (-1000000) 1000000 = true) (h1 : partO t (r 1) bk (if bk then 2 else 0) r = some r1) (h2 : partO t (r 1) bk 1 r1 = some r2) (h3 : partO t (r 1) bk (if bk then 0 else 2) r2 = some r3) : stepQ t r bk = some (va_up r3 0 (clockQ r bk)) := by
  unfold stepQ; rw [if_pos h, h1]; dsimp only; rw [h2]; dsimp only; rw [h3]
theorem stepQ_n0 {t r : Nat → Int64} {bk : Bool} (h : m_in (clockQ r bk) (-1000000) 1000000 = false) : stepQ t r bk = none := by
  unfold stepQ; rw [if_neg (by rw [h]; decide)]
theorem stepQ_n1 {t r : Nat → Int64} {bk : Bool} (h : m_in (clockQ r bk) (-1000000) 1000000 = true) (h1 : partO t (r 1) bk (if bk then 2 else 0) r = none) : stepQ t r bk = none := by
  unfold stepQ; rw [if_pos h, h1]
theorem stepQ_n2 {t r r1 : Nat → Int64} {bk : Bool} (h : m_in (clockQ r bk) (-1000000) 1000000 = true) (h1 : partO t (r 1) bk (if bk then 2 else 0) r = some r1) (h2 : partO t (r 1) bk 1 r1 = none) : stepQ t r bk = none := by
  unfold stepQ; rw [if_pos h, h1]; dsimp only; rw [h2]
theorem stepQ_n3 {t r r1 r2 : Nat → Int64} {bk : Bool} (h : m_in (clockQ r bk) (-1000000) 1000000 = true) (h1 : partO t (r 1) bk (if bk then 2 else 0) r = some r1) (h2 : partO t (r 1) bk 1 r1 = some r2) (h3 : partO t (r 1) bk (if bk then 0 else 2) r2 = none) : stepQ t r bk = none := by
  unfold stepQ; rw [if_pos h, h1]; dsimp only; rw [h2]; dsimp only; rw [h3]
set_option maxHeartbeats 4000000 in
set_option maxRecDepth 100000 in
theorem lpX6_copy {C : xC} {F : Nat → Prop} {V0 : xV} {k n : Nat} {rm : Room} (hC : xCtx C RX6 cX6_copy 3 none rm) (a d : Nat) (r q : Nat → Int64) (kx : rn C (xSt F V0 [(a, .inl (1, 111, .inr (.inl r))), (d, .inl (1, 111, .inr (.inl (va_cpy r q 0 0 111))))]) k n 20 [(0, .ref a), (1, .ref d)] []) : ∀ m c : Nat, c + m = 111 → rn C (xSt F V0 [(a, .inl (1, 111, .inr (.inl r))), (d, .inl (1, 111, .inr (.inl (va_cpy r q 0 0 c))))]) k n 2 [(2, .int (nI c)), (0, .ref a), (1, .ref d)] [] := by
  intro m
  induction m with
  | zero =>
    intro c hc
    have hc : c = 111 := by omega
    subst hc
    refine r_iload_n hC 0 dX6_copy_2 rfl 3 rfl ?_
    refine r_bipush hC 111 dX6_copy_3 bp_111 5 rfl ?_
    refine r_icge hC 20 dX6_copy_5 (by decide) 8 rfl (fun _ => ?_) (fun h => absurd (Int32.le_refl _) h)
    refine rn.sub (lv' := [(0, .ref a), (1, .ref d)]) [1, 2] rfl ?_
    exact kx
  | succ m ih =>
    intro c hc
    refine r_iload_n hC 0 dX6_copy_2 rfl 3 rfl ?_
    refine r_bipush hC 111 dX6_copy_3 bp_111 5 rfl ?_
    refine r_icge hC 20 dX6_copy_5 (by decide) 8 rfl (fun h => absurd h (nI_ge (a := c) (b := 111) (by omega) (by decide))) (fun _ => ?_)
    refine r_aload_n hC 2 dX6_copy_8 rfl 9 rfl ?_
    refine r_iload_n hC 0 dX6_copy_9 rfl 10 rfl ?_
    refine r_aload_n hC 1 dX6_copy_10 rfl 11 rfl ?_
    refine r_iload_n hC 0 dX6_copy_11 rfl 12 rfl ?_
    refine r_lald hC c (xix_n c (by omega) (Nat.le_of_ble_eq_true rfl)) (fun _ h => h.get 0 rfl) (r c) (rfl) dX6_copy_12 13 rfl ?_
    refine r_last (J := xSt F V0 [(a, .inl (1, 111, .inr (.inl r))), (d, .inl (1, 111, .inr (.inl (va_up (va_cpy r q 0 0 c) c (r c)))))]) hC c (xix_n c (by omega) (Nat.le_of_ble_eq_true rfl)) (fun _ h => h.get 1 rfl) dX6_copy_13 (fun _ h => h.set 1 _ rfl) 14 rfl ?_
    refine r_iinc hC (nI (c + 1)) 2 0 [(2, .int (nI (c + 1))), (0, .ref a), (1, .ref d)] dX6_copy_14 rfl (nI_add c 1) (Nat.le_of_ble_eq_true rfl) rfl 17 rfl ?_
    refine r_goto hC 2 dX6_copy_17 (by decide) ?_
    rw [show va_up (va_cpy r q 0 0 c) c (r c) = va_cpy r q 0 0 (c + 1) from cpy_step (by omega) (by rw [Nat.zero_add])]
    refine rn.sub (lv' := [(2, .int (nI (c + 1))), (0, .ref a), (1, .ref d)]) [0, 1, 2] rfl ?_
    exact ih (c + 1) (by omega)
set_option maxHeartbeats 4000000 in
set_option maxRecDepth 100000 in
theorem metX6_copy (l : Launch) (G : xG) (hG : xGood G) (a d : Nat) (r q : Nat → Int64) : xWm l G yX6_copy (Cond.code yX6_copy cX6_copy 3 none) { frames := 0, locals := 0, cells := 0, slots := 0 } [.ref a, .ref d] [(a, .inl (1, 111, .inr (.inl r))), (d, .inl (1, 111, .inr (.inl q)))] (fun v w' => v = none ∧ w' = [(a, .inl (1, 111, .inr (.inl r))), (d, .inl (1, 111, .inr (.inl r)))]) (fun _ _ => False) := by
  intro V hV
  refine xMet_of RX6 hG rfl (by decide) (Nat.le_of_ble_eq_true rfl) fun C hC hQ hX hl hg _ => ?_
  subst hl hg
  obtain ⟨V0, hV0⟩ : ∃ V0, V0 = V := ⟨_, rfl⟩
  obtain ⟨F, hF⟩ : ∃ F, F = xF [(a, .inl (1, 111, .inr (.inl r))), (d, .inl (1, 111, .inr (.inl q)))] := ⟨_, rfl⟩
  refine rn.mono (J := xSt F V0 [(a, .inl (1, 111, .inr (.inl r))), (d, .inl (1, 111, .inr (.inl q)))]) (fun V9 h => by rw [h, hV0, hF]; exact hV.st) ?_
  show rn C (xSt F V0 [(a, .inl (1, 111, .inr (.inl r))), (d, .inl (1, 111, .inr (.inl q)))]) 0 0 0 [(0, .ref a), (1, .ref d)] []
  refine r_iconst hC 0 dX6_copy_0 ic_0 1 rfl ?_
  refine r_istore_n hC 2 [(2, .int 0), (0, .ref a), (1, .ref d)] dX6_copy_1 rfl (Nat.le_of_ble_eq_true rfl) rfl 2 rfl ?_
  refine rn.sub (lv' := [(2, .int 0), (0, .ref a), (1, .ref d)]) [0, 1, 2] rfl ?_
  refine rn.mono (J := xSt F V0 [(a, .inl (1, 111, .inr (.inl r))), (d, .inl (1, 111, .inr (.inl (va_cpy r q 0 0 0))))]) (fun _ h => by rw [cpy_0]; exact h) ?_
  refine lpX6_copy hC a d r q ?_ 111 0 rfl
  refine rn_cellJ (J := xSt F V0 [(a, .inl (1, 111, .inr (.inl r))), (d, .inl (1, 111, .inr (.inl r)))]) (fun _ h => h.get 1 rfl) (fun j hj => (cpy_in (by omega) (by omega)).trans (by congr 1; omega)) (fun _ h => h.set 1 _ rfl) ?_
  exact r_vret hC (Nat.le_of_ble_eq_true rfl) (Nat.le_of_ble_eq_true rfl) (fun V9 h => hQ _ _ ⟨[(a, .inl (1, 111, .inr (.inl r))), (d, .inl (1, 111, .inr (.inl r)))], ⟨rfl, rfl⟩, by rw [← hV0, ← hF]; exact h⟩) dX6_copy_20
set_option maxHeartbeats 4000000 in
set_option maxRecDepth 100000 in
theorem lpX6_steps_a {C : xC} {F : Nat → Prop} {V0 : xV} {k n : Nat} {rm : Room} (hC : xCtx C RX6 cX6_steps 8 (some .boolean) rm) (b : Nat → Nat) (i : Nat → Int32) (j : Nat → Int64) (t : Nat → Int64) (a : Nat) (r : Nat → Int64) (g h0 : Nat → Int64) (ck : Int64) (zb : Int32) (kx : rn C (xSt F V0 [(b 0, .inr (5, mF b i j)), (b 7, .inl (1, 5, .inr (.inl t))), (a, .inl (1, 111, .inr (.inl r))), (b 23, .inl (1, 6, .inr (.inl g))), (b 24, .inl (1, 21, .inr (.inl (va_cpy r h0 0 0 21))))]) k n 58 [(3, .long ck), (0, .ref (b 0)), (1, .ref a), (2, .int zb)] []) : ∀ m c : Nat, c + m = 21 → rn C (xSt F V0 [(b 0, .inr (5, mF b i j)), (b 7, .inl (1, 5, .inr (.inl t))), (a, .inl (1, 111, .inr (.inl r))), (b 23, .inl (1, 6, .inr (.inl g))), (b 24, .inl (1, 21, .inr (.inl (va_cpy r h0 0 0 c))))]) k n 34 [(5, .int (nI c)), (3, .long ck), (0, .ref (b 0)), (1, .ref a), (2, .int zb)] [] := by
  intro m
  induction m with
  | zero =>
    intro c hc
    have hc : c = 21 := by omega
    subst hc
    refine r_iload hC 0 dX6_steps_34 rfl 36 rfl ?_
    refine r_bipush hC 21 dX6_steps_36 bp_21 38 rfl ?_
    refine r_icge hC 58 dX6_steps_38 (by decide) 41 rfl (fun _ => ?_) (fun h => absurd (Int32.le_refl _) h)
    refine rn.sub (lv' := [(3, .long ck), (0, .ref (b 0)), (1, .ref a), (2, .int zb)]) [1, 2, 3, 4] rfl ?_
    exact kx
  | succ m ih =>
    intro c hc
    refine r_iload hC 0 dX6_steps_34 rfl 36 rfl ?_
    refine r_bipush hC 21 dX6_steps_36 bp_21 38 rfl ?_
    refine r_icge hC 58 dX6_steps_38 (by decide) 41 rfl (fun h => absurd h (nI_ge (a := c) (b := 21) (by omega) (by decide))) (fun _ => ?_)
    refine r_aload_n hC 2 dX6_steps_41 rfl 42 rfl ?_
    refine r_get (v := .ref (b 24)) hC kX6 24 rfl q2777 (fun _ h => h.get 0 rfl) rfl dX6_steps_42 45 rfl ?_
    refine r_iload hC 0 dX6_steps_45 rfl 47 rfl ?_
    refine r_aload_n hC 3 dX6_steps_47 rfl 48 rfl ?_
    refine r_iload hC 0 dX6_steps_48 rfl 50 rfl ?_
    refine r_lald hC c (xix_n c (by omega) (Nat.le_of_ble_eq_true rfl)) (fun _ h => h.get 2 rfl) (r c) (rfl) dX6_steps_50 51 rfl ?_
    refine r_last (J := xSt F V0 [(b 0, .inr (5, mF b i j)), (b 7, .inl (1, 5, .inr (.inl t))), (a, .inl (1, 111, .inr (.inl r))), (b 23, .inl (1, 6, .inr (.inl g))), (b 24, .inl (1, 21, .inr (.inl (va_up (va_cpy r h0 0 0 c) c (r c)))))]) hC c (xix_n c (by omega) (Nat.le_of_ble_eq_true rfl)) (fun _ h => h.get 4 rfl) dX6_steps_51 (fun _ h => h.set 4 _ rfl) 52 rfl ?_
    refine r_iinc hC (nI (c + 1)) 5 0 [(5, .int (nI (c + 1))), (3, .long ck), (0, .ref (b 0)), (1, .ref a), (2, .int zb)] dX6_steps_52 rfl (nI_add c 1) (Nat.le_of_ble_eq_true rfl) rfl 55 rfl ?_
    refine r_goto hC 34 dX6_steps_55 (by decide) ?_
    rw [show va_up (va_cpy r h0 0 0 c) c (r c) = va_cpy r h0 0 0 (c + 1) from cpy_step (by omega) (by rw [Nat.zero_add])]
    refine rn.sub (lv' := [(5, .int (nI (c + 1))), (3, .long ck), (0, .ref (b 0)), (1, .ref a), (2, .int zb)]) [0, 1, 2, 3, 4] rfl ?_
    exact ih (c + 1) (by omega)
set_option maxHeartbeats 4000000 in
set_option maxRecDepth 100000 in
theorem lpX6_steps_b {C : xC} {F : Nat → Prop} {V0 : xV} {k n : Nat} {rm : Room} (hC : xCtx C RX6 cX6_steps 8 (some .boolean) rm) (b : Nat → Nat) (i : Nat → Int32) (j : Nat → Int64) (t : Nat → Int64) (a : Nat) (r : Nat → Int64) (g h0 : Nat → Int64) (z : Int32) (hz : z = 0) (kx : rn C (xSt F V0 [(b 0, .inr (5, mF b i j)), (b 7, .inl (1, 5, .inr (.inl t))), (a, .inl (1, 111, .inr (.inl (va_cpy h0 r 0 0 21)))), (b 23, .inl (1, 6, .inr (.inl g))), (b 24, .inl (1, 21, .inr (.inl h0)))]) k n 202 [(5, .int z), (0, .ref (b 0)), (1, .ref a)] []) : ∀ m c : Nat, c + m = 21 → rn C (xSt F V0 [(b 0, .inr (5, mF b i j)), (b 7, .inl (1, 5, .inr (.inl t))), (a, .inl (1, 111, .inr (.inl (va_cpy h0 r 0 0 c)))), (b 23, .inl (1, 6, .inr (.inl g))), (b 24, .inl (1, 21, .inr (.inl h0)))]) k n 173 [(6, .int (nI c)), (5, .int z), (0, .ref (b 0)), (1, .ref a)] [] := by
  intro m
  induction m with
  | zero =>
    intro c hc
    have hc : c = 21 := by omega
    subst hc
    refine r_iload hC 0 dX6_steps_173 rfl 175 rfl ?_
    refine r_bipush hC 21 dX6_steps_175 bp_21 177 rfl ?_
    refine r_icge hC 202 dX6_steps_177 (by decide) 180 rfl (fun _ => ?_) (fun h => absurd (Int32.le_refl _) h)
    refine rn.sub (lv' := [(5, .int z), (0, .ref (b 0)), (1, .ref a)]) [1, 2, 3] rfl ?_
    exact kx
  | succ m ih =>
    intro c hc
    refine r_iload hC 0 dX6_steps_173 rfl 175 rfl ?_
    refine r_bipush hC 21 dX6_steps_175 bp_21 177 rfl ?_
    refine r_icge hC 202 dX6_steps_177 (by decide) 180 rfl (fun h => absurd h (nI_ge (a := c) (b := 21) (by omega) (by decide))) (fun _ => ?_)
    refine r_iload hC 1 dX6_steps_180 rfl 182 rfl ?_
    refine r_ifne hC 202 dX6_steps_182 (by decide) 185 rfl (fun h => absurd (hz) h) (fun _ => ?_)
    refine r_aload_n hC 3 dX6_steps_185 rfl 186 rfl ?_
    refine r_iload hC 0 dX6_steps_186 rfl 188 rfl ?_
    refine r_aload_n hC 2 dX6_steps_188 rfl 189 rfl ?_
    refine r_get (v := .ref (b 24)) hC kX6 24 rfl q2777 (fun _ h => h.get 0 rfl) rfl dX6_steps_189 192 rfl ?_
    refine r_iload hC 0 dX6_steps_192 rfl 194 rfl ?_
    refine r_lald hC c (xix_n c (by omega) (Nat.le_of_ble_eq_true rfl)) (fun _ h => h.get 4 rfl) (h0 c) (rfl) dX6_steps_194 195 rfl ?_
    refine r_last (J := xSt F V0 [(b 0, .inr (5, mF b i j)), (b 7, .inl (1, 5, .inr (.inl t))), (a, .inl (1, 111, .inr (.inl (va_up (va_cpy h0 r 0 0 c) c (h0 c))))), (b 23, .inl (1, 6, .inr (.inl g))), (b 24, .inl (1, 21, .inr (.inl h0)))]) hC c (xix_n c (by omega) (Nat.le_of_ble_eq_true rfl)) (fun _ h => h.get 2 rfl) dX6_steps_195 (fun _ h => h.set 2 _ rfl) 196 rfl ?_
    refine r_iinc hC (nI (c + 1)) 6 0 [(6, .int (nI (c + 1))), (5, .int z), (0, .ref (b 0)), (1, .ref a)] dX6_steps_196 rfl (nI_add c 1) (Nat.le_of_ble_eq_true rfl) rfl 199 rfl ?_
    refine r_goto hC 173 dX6_steps_199 (by decide) ?_
    rw [show va_up (va_cpy h0 r 0 0 c) c (h0 c) = va_cpy h0 r 0 0 (c + 1) from cpy_step (by omega) (by rw [Nat.zero_add])]
    refine rn.sub (lv' := [(6, .int (nI (c + 1))), (5, .int z), (0, .ref (b 0)), (1, .ref a)]) [0, 1, 2, 3] rfl ?_
    exact ih (c + 1) (by omega)
set_option maxHeartbeats 4000000 in
set_option maxRecDepth 100000 in
theorem metX6_steps00 (l : Launch) (G : xG) (hG : xGood G) (b : Nat → Nat) (i : Nat → Int32) (j : Nat → Int64) (t : Nat → Int64) (a : Nat) (r : Nat → Int64) (g h0 : Nat → Int64) (ht : tOK t) (hm : mOK r) (hs : r 1 = 0) : xWm l G yX6_steps (Cond.code yX6_steps cX6_steps 8 (some .boolean)) { frames := 6, locals := 151, cells := 0, slots := 0 } [.ref (b 0), .ref a, .int 0] [(b 0, .inr (5, mF b i j)), (b 7, .inl (1, 5, .inr (.inl t))), (a, .inl (1, 111, .inr (.inl r))), (b 23, .inl (1, 6, .inr (.inl g))), (b 24, .inl (1, 21, .inr (.inl h0)))] (fun v w' => ∃ g' h' : Nat → Int64, v = some (.int (bI (stepQ t r false).isSome)) ∧ w' = [(b 0, .inr (5, mF b i j)), (b 7, .inl (1, 5, .inr (.inl t))), (a, .inl (1, 111, .inr (.inl ((stepQ t r false).getD r)))), (b 23, .inl (1, 6, .inr (.inl g'))), (b 24, .inl (1, 21, .inr (.inl h')))]) (fun _ _ => False) := by
  intro V hV
  refine xMet_of RX6 hG rfl (by decide) (Nat.le_of_ble_eq_true rfl) fun C hC hQ hX hl hg _ => ?_
  subst hl hg
  obtain ⟨V0, hV0⟩ : ∃ V0, V0 = V := ⟨_, rfl⟩
  obtain ⟨F, hF⟩ : ∃ F, F = xF [(b 0, .inr (5, mF b i j)), (b 7, .inl (1, 5, .inr (.inl t))), (a, .inl (1, 111, .inr (.inl r))), (b 23, .inl (1, 6, .inr (.inl g))), (b 24, .inl (1, 21, .inr (.inl h0)))] := ⟨_, rfl⟩
  refine rn.mono (J := xSt F V0 [(b 0, .inr (5, mF b i j)), (b 7, .inl (1, 5, .inr (.inl t))), (a, .inl (1, 111, .inr (.inl r))), (b 23, .inl (1, 6, .inr (.inl g))), (b 24, .inl (1, 21, .inr (.inl h0)))]) (fun V9 h => by rw [h, hV0, hF]; exact hV.st) ?_
  show rn C (xSt F V0 [(b 0, .inr (5, mF b i j)), (b 7, .inl (1, 5, .inr (.inl t))), (a, .inl (1, 111, .inr (.inl r))), (b 23, .inl (1, 6, .inr (.inl g))), (b 24, .inl (1, 21, .inr (.inl h0)))]) 0 0 0 [(0, .ref (b 0)), (1, .ref a), (2, .int 0)] []
  refine r_aload_n hC 1 dX6_steps_0 rfl 1 rfl ?_
  refine r_iconst hC 0 dX6_steps_1 ic_0 2 rfl ?_
  refine r_lald hC 0 (xix_n 0 (Nat.le_of_ble_eq_true rfl) (Nat.le_of_ble_eq_true rfl)) (fun _ h => h.get 2 rfl) (r 0) (rfl) dX6_steps_2 3 rfl ?_
  refine r_iload_n hC 2 dX6_steps_3 rfl 4 rfl ?_
  refine r_ifeq hC 13 dX6_steps_4 (by decide) 7 rfl (fun _ => ?_) (fun h => absurd h (by decide))
  refine r_lconst hC 1 dX6_steps_13 lc_1 14 rfl ?_
  refine r_ladd hC (clockQ r false) dX6_steps_14  (rfl) 15 rfl ?_
  refine r_lstore_n hC 3 [(3, .long (clockQ r false)), (0, .ref (b 0)), (1, .ref a), (2, .int 0)] dX6_steps_15 rfl (Nat.le_of_ble_eq_true rfl) rfl 16 rfl ?_
  refine r_lload_n hC 0 dX6_steps_16 rfl 17 rfl ?_
  refine r_ldc2 hC q3083 dX6_steps_17 20 rfl ?_
  refine r_ldc2 hC q3084 dX6_steps_20 23 rfl ?_
  refine r_invSr hC [.long (clockQ r false), .long (-1000000), .long 1000000] (.int (bI (m_in (clockQ r false) (-1000000) 1000000))) mSX6_in q2891 (metX6_in _ _ hG (clockQ r false) (-1000000) 1000000) (fun _ _ => xIn.nil) ⟨rfl, rfl⟩ 0 0 rfl rfl (Nat.le_of_ble_eq_true rfl) (Nat.le_of_ble_eq_true rfl) rfl (Nat.le_of_ble_eq_true rfl) dX6_steps_23 26 rfl ?_
  refine r_ifne hC 31 dX6_steps_26 (by decide) 29 rfl (fun c1 => ?_) (fun c1 => ?_)
  · skip
    refine r_iconst hC 0 dX6_steps_31 ic_0 32 rfl ?_
    refine r_istore hC 5 [(5, .int 0), (3, .long (clockQ r false)), (0, .ref (b 0)), (1, .ref a), (2, .int 0)] dX6_steps_32 (Nat.le_of_ble_eq_true rfl) rfl 34 rfl ?_
    refine rn.sub (lv' := [(5, .int 0), (3, .long (clockQ r false)), (0, .ref (b 0)), (1, .ref a), (2, .int 0)]) [0, 1, 2, 3, 4] rfl ?_
    refine rn.mono (J := xSt F V0 [(b 0, .inr (5, mF b i j)), (b 7, .inl (1, 5, .inr (.inl t))), (a, .inl (1, 111, .inr (.inl r))), (b 23, .inl (1, 6, .inr (.inl g))), (b 24, .inl (1, 21, .inr (.inl (va_cpy r h0 0 0 0))))]) (fun _ h => by rw [cpy_0]; exact h) ?_
    refine lpX6_steps_a hC b i j t a r g h0 (clockQ r false) 0 ?_ 21 0 rfl
    refine rn_cellJ (J := xSt F V0 [(b 0, .inr (5, mF b i j)), (b 7, .inl (1, 5, .inr (.inl t))), (a, .inl (1, 111, .inr (.inl r))), (b 23, .inl (1, 6, .inr (.inl g))), (b 24, .inl (1, 21, .inr (.inl r)))]) (fun _ h => h.get 4 rfl) (fun j hj => (cpy_in (by omega) (by omega)).trans (by congr 1; omega)) (fun _ h => h.set 4 _ rfl) ?_
    refine r_iconst hC 1 dX6_steps_58 ic_1 59 rfl ?_
    refine r_istore hC 5 [(5, .int 1), (3, .long (clockQ r false)), (0, .ref (b 0)), (1, .ref a), (2, .int 0)] dX6_steps_59 (Nat.le_of_ble_eq_true rfl) rfl 61 rfl ?_
    refine r_iconst hC 0 dX6_steps_61 ic_0 62 rfl ?_
    refine r_istore hC 6 [(6, .int 0), (5, .int 1), (3, .long (clockQ r false)), (0, .ref (b 0)), (1, .ref a), (2, .int 0)] dX6_steps_62 (Nat.le_of_ble_eq_true rfl) rfl 64 rfl ?_
    refine r_iload hC 0 dX6_steps_64 rfl 66 rfl ?_
    refine r_iconst hC 3 dX6_steps_66 ic_3 67 rfl ?_
    refine r_icge hC 161 dX6_steps_67 (by decide) 70 rfl (fun h => absurd h (by decide)) (fun _ => ?_)
    refine r_iload hC 1 dX6_steps_70 rfl 72 rfl ?_
    refine r_ifeq hC 161 dX6_steps_72 (by decide) 75 rfl (fun h => absurd h (by decide)) (fun _ => ?_)
    refine r_aload_n hC 4 dX6_steps_75 rfl 76 rfl ?_
    refine r_iconst hC 1 dX6_steps_76 ic_1 77 rfl ?_
    refine r_lald hC 1 (xix_n 1 (Nat.le_of_ble_eq_true rfl) (Nat.le_of_ble_eq_true rfl)) (fun _ h => h.get 2 rfl) (r 1) (rfl) dX6_steps_77 78 rfl ?_
    refine r_iload_n hC 5 dX6_steps_78 rfl 79 rfl ?_
    refine r_ifeq hC 89 dX6_steps_79 (by decide) 82 rfl (fun _ => ?_) (fun h => absurd h (by decide))
    refine r_iload hC 0 dX6_steps_89 rfl 91 rfl ?_
    refine r_invSr hC [.long (r 1), .int 0] (.int 0) mSX6_partOf q3085 (metX6_partOf0 _ _ hG (r 1) 0 (by simp [partQ, kick_1, drift_1, hs])) (fun _ _ => xIn.nil) ⟨rfl, rfl⟩ 0 0 rfl rfl (Nat.le_of_ble_eq_true rfl) (Nat.le_of_ble_eq_true rfl) rfl (Nat.le_of_ble_eq_true rfl) dX6_steps_91 94 rfl ?_
    refine r_istore hC 7 [(7, .int 0), (6, .int 0), (5, .int 1), (3, .long (clockQ r false)), (0, .ref (b 0)), (1, .ref a), (2, .int 0)] dX6_steps_94 (Nat.le_of_ble_eq_true rfl) rfl 96 rfl ?_
    refine r_iload hC 0 dX6_steps_96 rfl 98 rfl ?_
    refine r_iconst hC (-1) dX6_steps_98 ic_m1 99 rfl ?_
    refine r_icne hC 105 dX6_steps_99 (by decide) 102 rfl (fun _ => ?_) (fun h => absurd h (by decide))
    refine r_iload hC 0 dX6_steps_105 rfl 107 rfl ?_
    refine r_iconst hC 2 dX6_steps_107 ic_2 108 rfl ?_
    refine r_irem hC 0 dX6_steps_108 (by decide) (by decide) 109 rfl ?_
    refine r_ifne hC 132 dX6_steps_109 (by decide) 112 rfl (fun h => absurd h (by decide)) (fun _ => ?_)
    refine r_aload_n hC 4 dX6_steps_112 rfl 113 rfl ?_
    refine r_aload_n hC 5 dX6_steps_113 rfl 114 rfl ?_
    refine r_iload hC 0 dX6_steps_114 rfl 116 rfl ?_
    refine r_iconst hC 2 dX6_steps_116 ic_2 117 rfl ?_
    refine r_icne hC 124 dX6_steps_117 (by decide) 120 rfl (fun _ => ?_) (fun h => absurd h (by decide))
    refine r_iconst hC 0 dX6_steps_124 ic_0 125 rfl ?_
    refine r_iload_n hC 6 dX6_steps_125 rfl 126 rfl ?_
    refine r_invVw hC kX6 (b 0) [.ref a, .int 0, .int 0] [(b 24, .inl (1, 21, .inr (.inl r)))] mVX6_kicks q3088 0 rfl (metX6_kicks00 _ _ hG b _ _ _ a _ _ (rowOK_of ht hm)) [0, 1, 2, 3] [4] rfl rfl rfl rfl (by decide) ⟨rfl, rfl⟩ 0 0 rfl rfl (Nat.le_of_ble_eq_true rfl) (Nat.le_of_ble_eq_true rfl) rfl (Nat.le_of_ble_eq_true rfl) dX6_steps_126 129 rfl (fun v3 w4 h5 => ?_) (fun _ _ h => h.elim)
    obtain ⟨g2, rfl, rfl⟩ := h5
    show rn C (xSt F V0 [(b 24, .inl (1, 21, .inr (.inl r))), (b 0, .inr (5, mF b i j)), (b 7, .inl (1, 5, .inr (.inl t))), (a, .inl (1, 111, .inr (.inl (kickQ t r false false)))), (b 23, .inl (1, 6, .inr (.inl g2)))]) 0 0 129 [(7, .int 0), (6, .int 0), (5, .int 1), (3, .long (clockQ r false)), (0, .ref (b 0)), (1, .ref a), (2, .int 0)] []
    refine r_goto hC 149 dX6_steps_129 (by decide) ?_
    refine r_aload_n hC 5 dX6_steps_149 rfl 150 rfl ?_
    refine r_invSr hC [.ref a] (.int (bI (isInQ (kickQ t r false false)))) mSX6_isIn q3096 (metX6_isIn _ _ hG a _) (fun _ h => h.in.sub [3] rfl rfl) ⟨rfl, rfl⟩ 0 0 rfl rfl (Nat.le_of_ble_eq_true rfl) (Nat.le_of_ble_eq_true rfl) rfl (Nat.le_of_ble_eq_true rfl) dX6_steps_150 153 rfl ?_
    refine r_istore hC 5 [(5, .int (bI (isInQ (kickQ t r false false)))), (7, .int 0), (6, .int 0), (3, .long (clockQ r false)), (0, .ref (b 0)), (1, .ref a), (2, .int 0)] dX6_steps_153 (Nat.le_of_ble_eq_true rfl) rfl 155 rfl ?_
    refine r_iinc hC 1 6 2 [(6, .int 1), (5, .int (bI (isInQ (kickQ t r false false)))), (7, .int 0), (3, .long (clockQ r false)), (0, .ref (b 0)), (1, .ref a), (2, .int 0)] dX6_steps_155 rfl (by decide) (Nat.le_of_ble_eq_true rfl) rfl 158 rfl ?_
    refine r_goto hC 64 dX6_steps_158 (by decide) ?_
    refine r_iload hC 0 dX6_steps_64 rfl 66 rfl ?_
    refine r_iconst hC 3 dX6_steps_66 ic_3 67 rfl ?_
    refine r_icge hC 161 dX6_steps_67 (by decide) 70 rfl (fun h => absurd h (by decide)) (fun _ => ?_)
    refine r_iload hC 1 dX6_steps_70 rfl 72 rfl ?_
    refine r_ifeq hC 161 dX6_steps_72 (by decide) 75 rfl (fun c6 => ?_) (fun c6 => ?_)
    · skip
      refine r_iload hC 1 dX6_steps_161 rfl 163 rfl ?_
      refine r_ifeq hC 170 dX6_steps_163 (by decide) 166 rfl (fun _ => ?_) (fun h => absurd (c6) h)
      refine r_iconst hC 0 dX6_steps_170 ic_0 171 rfl ?_
      refine r_istore hC 6 [(6, .int 0), (5, .int (bI (isInQ (kickQ t r false false)))), (7, .int 0), (3, .long (clockQ r false)), (0, .ref (b 0)), (1, .ref a), (2, .int 0)] dX6_steps_171 (Nat.le_of_ble_eq_true rfl) rfl 173 rfl ?_
      refine rn.mono (J := xSt F V0 [(b 0, .inr (5, mF b i j)), (b 7, .inl (1, 5, .inr (.inl t))), (a, .inl (1, 111, .inr (.inl (kickQ t r false false)))), (b 23, .inl (1, 6, .inr (.inl g2))), (b 24, .inl (1, 21, .inr (.inl r)))]) (fun _ h => h.sub [1, 2, 3, 4, 0] rfl rfl) ?_
      refine rn.sub (lv' := [(6, .int 0), (5, .int (bI (isInQ (kickQ t r false false)))), (0, .ref (b 0)), (1, .ref a)]) [0, 1, 4, 5] rfl ?_
      refine rn.mono (J := xSt F V0 [(b 0, .inr (5, mF b i j)), (b 7, .inl (1, 5, .inr (.inl t))), (a, .inl (1, 111, .inr (.inl (va_cpy r (kickQ t r false false) 0 0 0)))), (b 23, .inl (1, 6, .inr (.inl g2))), (b 24, .inl (1, 21, .inr (.inl r)))]) (fun _ h => by rw [cpy_0]; exact h) ?_
      refine lpX6_steps_b hC b i j t a (kickQ t r false false) g2 r (bI (isInQ (kickQ t r false false))) c6 ?_ 21 0 rfl
      refine rn_cellJ (J := xSt F V0 [(b 0, .inr (5, mF b i j)), (b 7, .inl (1, 5, .inr (.inl t))), (a, .inl (1, 111, .inr (.inl r))), (b 23, .inl (1, 6, .inr (.inl g2))), (b 24, .inl (1, 21, .inr (.inl r)))]) (fun _ h => h.get 2 rfl) (fun j hj => cpy_back (by intro j hj; simp only [kick_off hj, drift_off hj])) (fun _ h => h.set 2 _ rfl) ?_
      refine r_iload hC 0 dX6_steps_202 rfl 204 rfl ?_
      have hS : stepQ t r false = none :=
        stepQ_n1 (bI_n0.mp c1) (partO_no (c := 0) (by simp [partQ, hs]) (by decide) partA_0 (bI_0.mp c6))
      exact r_zret hC (bI_nar _) (Nat.le_of_ble_eq_true rfl) (Nat.le_of_ble_eq_true rfl) (fun V9 h => hQ _ _ ⟨[(b 0, .inr (5, mF b i j)), (b 7, .inl (1, 5, .inr (.inl t))), (a, .inl (1, 111, .inr (.inl r))), (b 23, .inl (1, 6, .inr (.inl g2))), (b 24, .inl (1, 21, .inr (.inl r)))], ⟨g2, r, by rw [hS, bI_0.mp c6]; rfl, by rw [hS]; rfl⟩, by rw [← hV0, ← hF]; exact h⟩) dX6_steps_204
    · skip
      refine r_aload_n hC 5 dX6_steps_75 rfl 76 rfl ?_
      refine r_iconst hC 1 dX6_steps_76 ic_1 77 rfl ?_
      refine r_lald hC 1 (xix_n 1 (Nat.le_of_ble_eq_true rfl) (Nat.le_of_ble_eq_true rfl)) (fun _ h => h.get 3 rfl) ((kickQ t r false false) 1) (rfl) dX6_steps_77 78 rfl ?_
      refine r_iload_n hC 6 dX6_steps_78 rfl 79 rfl ?_
      refine r_ifeq hC 89 dX6_steps_79 (by decide) 82 rfl (fun _ => ?_) (fun h => absurd h (by decide))
      refine r_iload hC 0 dX6_steps_89 rfl 91 rfl ?_
      refine r_invSr hC [.long ((kickQ t r false false) 1), .int 1] (.int 1) mSX6_partOf q3085 (metX6_partOf1 _ _ hG ((kickQ t r false false) 1) 1 (by simp [partQ, kick_1, drift_1, hs])) (fun _ _ => xIn.nil) ⟨rfl, rfl⟩ 0 0 rfl rfl (Nat.le_of_ble_eq_true rfl) (Nat.le_of_ble_eq_true rfl) rfl (Nat.le_of_ble_eq_true rfl) dX6_steps_91 94 rfl ?_
      refine r_istore hC 7 [(7, .int 1), (6, .int 1), (5, .int (bI (isInQ (kickQ t r false false)))), (3, .long (clockQ r false)), (0, .ref (b 0)), (1, .ref a), (2, .int 0)] dX6_steps_94 (Nat.le_of_ble_eq_true rfl) rfl 96 rfl ?_
      refine r_iload hC 0 dX6_steps_96 rfl 98 rfl ?_
      refine r_iconst hC (-1) dX6_steps_98 ic_m1 99 rfl ?_
      refine r_icne hC 105 dX6_steps_99 (by decide) 102 rfl (fun _ => ?_) (fun h => absurd h (by decide))
      refine r_iload hC 0 dX6_steps_105 rfl 107 rfl ?_
      refine r_iconst hC 2 dX6_steps_107 ic_2 108 rfl ?_
      refine r_irem hC 1 dX6_steps_108 (by decide) (by decide) 109 rfl ?_
      refine r_ifne hC 132 dX6_steps_109 (by decide) 112 rfl (fun _ => ?_) (fun h => absurd h (by decide))
      refine r_aload_n hC 4 dX6_steps_132 rfl 133 rfl ?_
      refine r_aload_n hC 5 dX6_steps_133 rfl 134 rfl ?_
      refine r_iload hC 0 dX6_steps_134 rfl 136 rfl ?_
      refine r_iconst hC 3 dX6_steps_136 ic_3 137 rfl ?_
      refine r_icne hC 144 dX6_steps_137 (by decide) 140 rfl (fun _ => ?_) (fun h => absurd h (by decide))
      refine r_iconst hC 0 dX6_steps_144 ic_0 145 rfl ?_
      refine r_iload_n hC 6 dX6_steps_145 rfl 146 rfl ?_
      refine r_invVw hC kX6 (b 0) [.ref a, .int 0, .int 0] [(b 24, .inl (1, 21, .inr (.inl r))), (b 23, .inl (1, 6, .inr (.inl g2)))] mVX6_drifts q3092 1 rfl (metX6_drifts00 _ _ hG b _ _ _ a _ (rowOK_of ht (mOK_kick hm))) [1, 2, 3] [0, 4] rfl rfl rfl rfl (by decide) ⟨rfl, rfl⟩ 0 0 rfl rfl (Nat.le_of_ble_eq_true rfl) (Nat.le_of_ble_eq_true rfl) rfl (Nat.le_of_ble_eq_true rfl) dX6_steps_146 149 rfl (fun v8 w9 h10 => ?_) (fun _ _ h => h.elim)
      obtain ⟨rfl, rfl⟩ := h10
      show rn C (xSt F V0 [(b 24, .inl (1, 21, .inr (.inl r))), (b 23, .inl (1, 6, .inr (.inl g2))), (b 0, .inr (5, mF b i j)), (b 7, .inl (1, 5, .inr (.inl t))), (a, .inl (1, 111, .inr (.inl (driftQ t (kickQ t r false false) false false))))]) 0 0 149 [(7, .int 1), (6, .int 1), (5, .int (bI (isInQ (kickQ t r false false)))), (3, .long (clockQ r false)), (0, .ref (b 0)), (1, .ref a), (2, .int 0)] []
      refine r_aload_n hC 5 dX6_steps_149 rfl 150 rfl ?_
      refine r_invSr hC [.ref a] (.int (bI (isInQ (driftQ t (kickQ t r false false) false false)))) mSX6_isIn q3096 (metX6_isIn _ _ hG a _) (fun _ h => h.in.sub [4] rfl rfl) ⟨rfl, rfl⟩ 0 0 rfl rfl (Nat.le_of_ble_eq_true rfl) (Nat.le_of_ble_eq_true rfl) rfl (Nat.le_of_ble_eq_true rfl) dX6_steps_150 153 rfl ?_
      refine r_istore hC 5 [(5, .int (bI (isInQ (driftQ t (kickQ t r false false) false false)))), (7, .int 1), (6, .int 1), (3, .long (clockQ r false)), (0, .ref (b 0)), (1, .ref a), (2, .int 0)] dX6_steps_153 (Nat.le_of_ble_eq_true rfl) rfl 155 rfl ?_
      refine r_iinc hC 2 6 2 [(6, .int 2), (5, .int (bI (isInQ (driftQ t (kickQ t r false false) false false)))), (7, .int 1), (3, .long (clockQ r false)), (0, .ref (b 0)), (1, .ref a), (2, .int 0)] dX6_steps_155 rfl (by decide) (Nat.le_of_ble_eq_true rfl) rfl 158 rfl ?_
      refine r_goto hC 64 dX6_steps_158 (by decide) ?_
      refine r_iload hC 0 dX6_steps_64 rfl 66 rfl ?_
      refine r_iconst hC 3 dX6_steps_66 ic_3 67 rfl ?_
      refine r_icge hC 161 dX6_steps_67 (by decide) 70 rfl (fun h => absurd h (by decide)) (fun _ => ?_)
      refine r_iload hC 1 dX6_steps_70 rfl 72 rfl ?_
      refine r_ifeq hC 161 dX6_steps_72 (by decide) 75 rfl (fun c11 => ?_) (fun c11 => ?_)
      · skip
        refine r_iload hC 1 dX6_steps_161 rfl 163 rfl ?_
        refine r_ifeq hC 170 dX6_steps_163 (by decide) 166 rfl (fun _ => ?_) (fun h => absurd (c11) h)
        refine r_iconst hC 0 dX6_steps_170 ic_0 171 rfl ?_
        refine r_istore hC 6 [(6, .int 0), (5, .int (bI (isInQ (driftQ t (kickQ t r false false) false false)))), (7, .int 1), (3, .long (clockQ r false)), (0, .ref (b 0)), (1, .ref a), (2, .int 0)] dX6_steps_171 (Nat.le_of_ble_eq_true rfl) rfl 173 rfl ?_
        refine rn.mono (J := xSt F V0 [(b 0, .inr (5, mF b i j)), (b 7, .inl (1, 5, .inr (.inl t))), (a, .inl (1, 111, .inr (.inl (driftQ t (kickQ t r false false) false false)))), (b 23, .inl (1, 6, .inr (.inl g2))), (b 24, .inl (1, 21, .inr (.inl r)))]) (fun _ h => h.sub [2, 3, 4, 1, 0] rfl rfl) ?_
        refine rn.sub (lv' := [(6, .int 0), (5, .int (bI (isInQ (driftQ t (kickQ t r false false) false false)))), (0, .ref (b 0)), (1, .ref a)]) [0, 1, 4, 5] rfl ?_
        refine rn.mono (J := xSt F V0 [(b 0, .inr (5, mF b i j)), (b 7, .inl (1, 5, .inr (.inl t))), (a, .inl (1, 111, .inr (.inl (va_cpy r (driftQ t (kickQ t r false false) false false) 0 0 0)))), (b 23, .inl (1, 6, .inr (.inl g2))), (b 24, .inl (1, 21, .inr (.inl r)))]) (fun _ h => by rw [cpy_0]; exact h) ?_
        refine lpX6_steps_b hC b i j t a (driftQ t (kickQ t r false false) false false) g2 r (bI (isInQ (driftQ t (kickQ t r false false) false false))) c11 ?_ 21 0 rfl
        refine rn_cellJ (J := xSt F V0 [(b 0, .inr (5, mF b i j)), (b 7, .inl (1, 5, .inr (.inl t))), (a, .inl (1, 111, .inr (.inl r))), (b 23, .inl (1, 6, .inr (.inl g2))), (b 24, .inl (1, 21, .inr (.inl r)))]) (fun _ h => h.get 2 rfl) (fun j hj => cpy_back (by intro j hj; simp only [kick_off hj, drift_off hj])) (fun _ h => h.set 2 _ rfl) ?_
        refine r_iload hC 0 dX6_steps_202 rfl 204 rfl ?_
        have hS : stepQ t r false = none :=
          stepQ_n2 (bI_n0.mp c1) (partO_ok (c := 0) (by simp [partQ, hs]) (by decide) partA_0 (bI_n0.mp c6)) (partO_no (c := 1) (by simp [partQ, hs]) (by decide) partA_1 (bI_0.mp c11))
        exact r_zret hC (bI_nar _) (Nat.le_of_ble_eq_true rfl) (Nat.le_of_ble_eq_true rfl) (fun V9 h => hQ _ _ ⟨[(b 0, .inr (5, mF b i j)), (b 7, .inl (1, 5, .inr (.inl t))), (a, .inl (1, 111, .inr (.inl r))), (b 23, .inl (1, 6, .inr (.inl g2))), (b 24, .inl (1, 21, .inr (.inl r)))], ⟨g2, r, by rw [hS, bI_0.mp c11]; rfl, by rw [hS]; rfl⟩, by rw [← hV0, ← hF]; exact h⟩) dX6_steps_204
      · skip
        refine r_aload_n hC 5 dX6_steps_75 rfl 76 rfl ?_
        refine r_iconst hC 1 dX6_steps_76 ic_1 77 rfl ?_
        refine r_lald hC 1 (xix_n 1 (Nat.le_of_ble_eq_true rfl) (Nat.le_of_ble_eq_true rfl)) (fun _ h => h.get 4 rfl) ((driftQ t (kickQ t r false false) false false) 1) (rfl) dX6_steps_77 78 rfl ?_
        refine r_iload_n hC 6 dX6_steps_78 rfl 79 rfl ?_
        refine r_ifeq hC 89 dX6_steps_79 (by decide) 82 rfl (fun _ => ?_) (fun h => absurd h (by decide))
        refine r_iload hC 0 dX6_steps_89 rfl 91 rfl ?_
        refine r_invSr hC [.long ((driftQ t (kickQ t r false false) false false) 1), .int 2] (.int (-1)) mSX6_partOf q3085 (metX6_partOf2 _ _ hG ((driftQ t (kickQ t r false false) false false) 1) (-1) (by simp [partQ, kick_1, drift_1, hs])) (fun _ _ => xIn.nil) ⟨rfl, rfl⟩ 0 0 rfl rfl (Nat.le_of_ble_eq_true rfl) (Nat.le_of_ble_eq_true rfl) rfl (Nat.le_of_ble_eq_true rfl) dX6_steps_91 94 rfl ?_
        refine r_istore hC 7 [(7, .int (-1)), (6, .int 2), (5, .int (bI (isInQ (driftQ t (kickQ t r false false) false false)))), (3, .long (clockQ r false)), (0, .ref (b 0)), (1, .ref a), (2, .int 0)] dX6_steps_94 (Nat.le_of_ble_eq_true rfl) rfl 96 rfl ?_
        refine r_iload hC 0 dX6_steps_96 rfl 98 rfl ?_
        refine r_iconst hC (-1) dX6_steps_98 ic_m1 99 rfl ?_
        refine r_icne hC 105 dX6_steps_99 (by decide) 102 rfl (fun h => absurd h (by decide)) (fun _ => ?_)
        refine r_goto hC 155 dX6_steps_102 (by decide) ?_
        refine r_iinc hC 3 6 1 [(6, .int 3), (7, .int (-1)), (5, .int (bI (isInQ (driftQ t (kickQ t r false false) false false)))), (3, .long (clockQ r false)), (0, .ref (b 0)), (1, .ref a), (2, .int 0)] dX6_steps_155 rfl (by decide) (Nat.le_of_ble_eq_true rfl) rfl 158 rfl ?_
        refine r_goto hC 64 dX6_steps_158 (by decide) ?_
        refine r_iload hC 0 dX6_steps_64 rfl 66 rfl ?_
        refine r_iconst hC 3 dX6_steps_66 ic_3 67 rfl ?_
        refine r_icge hC 161 dX6_steps_67 (by decide) 70 rfl (fun _ => ?_) (fun h => absurd h (by decide))
        refine r_iload hC 2 dX6_steps_161 rfl 163 rfl ?_
        refine r_ifeq hC 170 dX6_steps_163 (by decide) 166 rfl (fun h => absurd h (c11)) (fun _ => ?_)
        refine r_aload_n hC 5 dX6_steps_166 rfl 167 rfl ?_
        refine r_iconst hC 0 dX6_steps_167 ic_0 168 rfl ?_
        refine r_lload_n hC 3 dX6_steps_168 rfl 169 rfl ?_
        refine r_last (J := xSt F V0 [(b 24, .inl (1, 21, .inr (.inl r))), (b 23, .inl (1, 6, .inr (.inl g2))), (b 0, .inr (5, mF b i j)), (b 7, .inl (1, 5, .inr (.inl t))), (a, .inl (1, 111, .inr (.inl (va_up (driftQ t (kickQ t r false false) false false) 0 (clockQ r false)))))]) hC 0 (xix_n 0 (Nat.le_of_ble_eq_true rfl) (Nat.le_of_ble_eq_true rfl)) (fun _ h => h.get 4 rfl) dX6_steps_169 (fun _ h => h.set 4 _ rfl) 170 rfl ?_
        generalize hu12 : va_up (driftQ t (kickQ t r false false) false false) 0 (clockQ r false) = u12
        refine r_iconst hC 0 dX6_steps_170 ic_0 171 rfl ?_
        refine r_istore hC 6 [(6, .int 0), (7, .int (-1)), (5, .int (bI (isInQ (driftQ t (kickQ t r false false) false false)))), (3, .long (clockQ r false)), (0, .ref (b 0)), (1, .ref a), (2, .int 0)] dX6_steps_171 (Nat.le_of_ble_eq_true rfl) rfl 173 rfl ?_
        refine r_iload hC 0 dX6_steps_173 rfl 175 rfl ?_
        refine r_bipush hC 21 dX6_steps_175 bp_21 177 rfl ?_
        refine r_icge hC 202 dX6_steps_177 (by decide) 180 rfl (fun h => absurd h (by decide)) (fun _ => ?_)
        refine r_iload hC 2 dX6_steps_180 rfl 182 rfl ?_
        refine r_ifne hC 202 dX6_steps_182 (by decide) 185 rfl (fun _ => ?_) (fun h => absurd h (c11))
        refine r_iload hC 2 dX6_steps_202 rfl 204 rfl ?_
        subst hu12
        have hS : stepQ t r false = some (va_up (driftQ t (kickQ t r false false) false false) 0 (clockQ r false)) :=
          stepQ_ok (bI_n0.mp c1) (partO_ok (c := 0) (by simp [partQ, hs]) (by decide) partA_0 (bI_n0.mp c6)) (partO_ok (c := 1) (by simp [partQ, hs]) (by decide) partA_1 (bI_n0.mp c11)) (partO_skip (by simp [partQ, hs]))
        exact r_zret hC (bI_nar _) (Nat.le_of_ble_eq_true rfl) (Nat.le_of_ble_eq_true rfl) (fun V9 h => hQ _ _ ⟨[(b 0, .inr (5, mF b i j)), (b 7, .inl (1, 5, .inr (.inl t))), (a, .inl (1, 111, .inr (.inl (va_up (driftQ t (kickQ t r false false) false false) 0 (clockQ r false))))), (b 23, .inl (1, 6, .inr (.inl g2))), (b 24, .inl (1, 21, .inr (.inl r)))], ⟨g2, r, by rw [hS, bI_n0.mp c11]; rfl, by rw [hS]; rfl⟩, by rw [← hV0, ← hF]; exact (h.sub [2, 3, 4, 1, 0] rfl rfl)⟩) dX6_steps_204
  · skip
    refine r_iconst hC 0 dX6_steps_29 ic_0 30 rfl ?_
    have hS : stepQ t r false = none :=
      stepQ_n0 (bI_0.mp c1)
    exact r_zret hC (by decide) (Nat.le_of_ble_eq_true rfl) (Nat.le_of_ble_eq_true rfl) (fun V9 h => hQ _ _ ⟨[(b 0, .inr (5, mF b i j)), (b 7, .inl (1, 5, .inr (.inl t))), (a, .inl (1, 111, .inr (.inl r))), (b 23, .inl (1, 6, .inr (.inl g))), (b 24, .inl (1, 21, .inr (.inl h0)))], ⟨g, h0, by rw [hS]; rfl, by rw [hS]; rfl⟩, by rw [← hV0, ← hF]; exact h⟩) dX6_steps_30
set_option maxHeartbeats 4000000 in
set_option maxRecDepth 100000 in
theorem metX6_steps01 (l : Launch) (G : xG) (hG : xGood G) (b : Nat → Nat) (i : Nat → Int32) (j : Nat → Int64) (t : Nat → Int64) (a : Nat) (r : Nat → Int64) (g h0 : Nat → Int64) (ht : tOK t) (hm : mOK r) (hs0 : ¬ r 1 = 0) (hs : r 1 = 1) : xWm l G yX6_steps (Cond.code yX6_steps cX6_steps 8 (some .boolean)) { frames := 6, locals := 151, cells := 0, slots := 0 } [.ref (b 0), .ref a, .int 0] [(b 0, .inr (5, mF b i j)), (b 7, .inl (1, 5, .inr (.inl t))), (a, .inl (1, 111, .inr (.inl r))), (b 23, .inl (1, 6, .inr (.inl g))), (b 24, .inl (1, 21, .inr (.inl h0)))] (fun v w' => ∃ g' h' : Nat → Int64, v = some (.int (bI (stepQ t r false).isSome)) ∧ w' = [(b 0, .inr (5, mF b i j)), (b 7, .inl (1, 5, .inr (.inl t))), (a, .inl (1, 111, .inr (.inl ((stepQ t r false).getD r)))), (b 23, .inl (1, 6, .inr (.inl g'))), (b 24, .inl (1, 21, .inr (.inl h')))]) (fun _ _ => False) := by
  intro V hV
  refine xMet_of RX6 hG rfl (by decide) (Nat.le_of_ble_eq_true rfl) fun C hC hQ hX hl hg _ => ?_
  subst hl hg
  obtain ⟨V0, hV0⟩ : ∃ V0, V0 = V := ⟨_, rfl⟩
  obtain ⟨F, hF⟩ : ∃ F, F = xF [(b 0, .inr (5, mF b i j)), (b 7, .inl (1, 5, .inr (.inl t))), (a, .inl (1, 111, .inr (.inl r))), (b 23, .inl (1, 6, .inr (.inl g))), (b 24, .inl (1, 21, .inr (.inl h0)))] := ⟨_, rfl⟩
  refine rn.mono (J := xSt F V0 [(b 0, .inr (5, mF b i j)), (b 7, .inl (1, 5, .inr (.inl t))), (a, .inl (1, 111, .inr (.inl r))), (b 23, .inl (1, 6, .inr (.inl g))), (b 24, .inl (1, 21, .inr (.inl h0)))]) (fun V9 h => by rw [h, hV0, hF]; exact hV.st) ?_
  show rn C (xSt F V0 [(b 0, .inr (5, mF b i j)), (b 7, .inl (1, 5, .inr (.inl t))), (a, .inl (1, 111, .inr (.inl r))), (b 23, .inl (1, 6, .inr (.inl g))), (b 24, .inl (1, 21, .inr (.inl h0)))]) 0 0 0 [(0, .ref (b 0)), (1, .ref a), (2, .int 0)] []
  refine r_aload_n hC 1 dX6_steps_0 rfl 1 rfl ?_
  refine r_iconst hC 0 dX6_steps_1 ic_0 2 rfl ?_
  refine r_lald hC 0 (xix_n 0 (Nat.le_of_ble_eq_true rfl) (Nat.le_of_ble_eq_true rfl)) (fun _ h => h.get 2 rfl) (r 0) (rfl) dX6_steps_2 3 rfl ?_
  refine r_iload_n hC 2 dX6_steps_3 rfl 4 rfl ?_
  refine r_ifeq hC 13 dX6_steps_4 (by decide) 7 rfl (fun _ => ?_) (fun h => absurd h (by decide))
  refine r_lconst hC 1 dX6_steps_13 lc_1 14 rfl ?_
  refine r_ladd hC (clockQ r false) dX6_steps_14  (rfl) 15 rfl ?_
  refine r_lstore_n hC 3 [(3, .long (clockQ r false)), (0, .ref (b 0)), (1, .ref a), (2, .int 0)] dX6_steps_15 rfl (Nat.le_of_ble_eq_true rfl) rfl 16 rfl ?_
  refine r_lload_n hC 0 dX6_steps_16 rfl 17 rfl ?_
  refine r_ldc2 hC q3083 dX6_steps_17 20 rfl ?_
  refine r_ldc2 hC q3084 dX6_steps_20 23 rfl ?_
  refine r_invSr hC [.long (clockQ r false), .long (-1000000), .long 1000000] (.int (bI (m_in (clockQ r false) (-1000000) 1000000))) mSX6_in q2891 (metX6_in _ _ hG (clockQ r false) (-1000000) 1000000) (fun _ _ => xIn.nil) ⟨rfl, rfl⟩ 0 0 rfl rfl (Nat.le_of_ble_eq_true rfl) (Nat.le_of_ble_eq_true rfl) rfl (Nat.le_of_ble_eq_true rfl) dX6_steps_23 26 rfl ?_
  refine r_ifne hC 31 dX6_steps_26 (by decide) 29 rfl (fun c1 => ?_) (fun c1 => ?_)
  · skip
    refine r_iconst hC 0 dX6_steps_31 ic_0 32 rfl ?_
    refine r_istore hC 5 [(5, .int 0), (3, .long (clockQ r false)), (0, .ref (b 0)), (1, .ref a), (2, .int 0)] dX6_steps_32 (Nat.le_of_ble_eq_true rfl) rfl 34 rfl ?_
    refine rn.sub (lv' := [(5, .int 0), (3, .long (clockQ r false)), (0, .ref (b 0)), (1, .ref a), (2, .int 0)]) [0, 1, 2, 3, 4] rfl ?_
    refine rn.mono (J := xSt F V0 [(b 0, .inr (5, mF b i j)), (b 7, .inl (1, 5, .inr (.inl t))), (a, .inl (1, 111, .inr (.inl r))), (b 23, .inl (1, 6, .inr (.inl g))), (b 24, .inl (1, 21, .inr (.inl (va_cpy r h0 0 0 0))))]) (fun _ h => by rw [cpy_0]; exact h) ?_
    refine lpX6_steps_a hC b i j t a r g h0 (clockQ r false) 0 ?_ 21 0 rfl
    refine rn_cellJ (J := xSt F V0 [(b 0, .inr (5, mF b i j)), (b 7, .inl (1, 5, .inr (.inl t))), (a, .inl (1, 111, .inr (.inl r))), (b 23, .inl (1, 6, .inr (.inl g))), (b 24, .inl (1, 21, .inr (.inl r)))]) (fun _ h => h.get 4 rfl) (fun j hj => (cpy_in (by omega) (by omega)).trans (by congr 1; omega)) (fun _ h => h.set 4 _ rfl) ?_
    refine r_iconst hC 1 dX6_steps_58 ic_1 59 rfl ?_
    refine r_istore hC 5 [(5, .int 1), (3, .long (clockQ r false)), (0, .ref (b 0)), (1, .ref a), (2, .int 0)] dX6_steps_59 (Nat.le_of_ble_eq_true rfl) rfl 61 rfl ?_
    refine r_iconst hC 0 dX6_steps_61 ic_0 62 rfl ?_
    refine r_istore hC 6 [(6, .int 0), (5, .int 1), (3, .long (clockQ r false)), (0, .ref (b 0)), (1, .ref a), (2, .int 0)] dX6_steps_62 (Nat.le_of_ble_eq_true rfl) rfl 64 rfl ?_
    refine r_iload hC 0 dX6_steps_64 rfl 66 rfl ?_
    refine r_iconst hC 3 dX6_steps_66 ic_3 67 rfl ?_
    refine r_icge hC 161 dX6_steps_67 (by decide) 70 rfl (fun h => absurd h (by decide)) (fun _ => ?_)
    refine r_iload hC 1 dX6_steps_70 rfl 72 rfl ?_
    refine r_ifeq hC 161 dX6_steps_72 (by decide) 75 rfl (fun h => absurd h (by decide)) (fun _ => ?_)
    refine r_aload_n hC 4 dX6_steps_75 rfl 76 rfl ?_
    refine r_iconst hC 1 dX6_steps_76 ic_1 77 rfl ?_
    refine r_lald hC 1 (xix_n 1 (Nat.le_of_ble_eq_true rfl) (Nat.le_of_ble_eq_true rfl)) (fun _ h => h.get 2 rfl) (r 1) (rfl) dX6_steps_77 78 rfl ?_
    refine r_iload_n hC 5 dX6_steps_78 rfl 79 rfl ?_
    refine r_ifeq hC 89 dX6_steps_79 (by decide) 82 rfl (fun _ => ?_) (fun h => absurd h (by decide))
    refine r_iload hC 0 dX6_steps_89 rfl 91 rfl ?_
    refine r_invSr hC [.long (r 1), .int 0] (.int 3) mSX6_partOf q3085 (metX6_partOf0 _ _ hG (r 1) 3 (by simp [partQ, kick_1, drift_1, hs0, hs])) (fun _ _ => xIn.nil) ⟨rfl, rfl⟩ 0 0 rfl rfl (Nat.le_of_ble_eq_true rfl) (Nat.le_of_ble_eq_true rfl) rfl (Nat.le_of_ble_eq_true rfl) dX6_steps_91 94 rfl ?_
    refine r_istore hC 7 [(7, .int 3), (6, .int 0), (5, .int 1), (3, .long (clockQ r false)), (0, .ref (b 0)), (1, .ref a), (2, .int 0)] dX6_steps_94 (Nat.le_of_ble_eq_true rfl) rfl 96 rfl ?_
    refine r_iload hC 0 dX6_steps_96 rfl 98 rfl ?_
    refine r_iconst hC (-1) dX6_steps_98 ic_m1 99 rfl ?_
    refine r_icne hC 105 dX6_steps_99 (by decide) 102 rfl (fun _ => ?_) (fun h => absurd h (by decide))
    refine r_iload hC 0 dX6_steps_105 rfl 107 rfl ?_
    refine r_iconst hC 2 dX6_steps_107 ic_2 108 rfl ?_
    refine r_irem hC 1 dX6_steps_108 (by decide) (by decide) 109 rfl ?_
    refine r_ifne hC 132 dX6_steps_109 (by decide) 112 rfl (fun _ => ?_) (fun h => absurd h (by decide))
    refine r_aload_n hC 4 dX6_steps_132 rfl 133 rfl ?_
    refine r_aload_n hC 5 dX6_steps_133 rfl 134 rfl ?_
    refine r_iload hC 0 dX6_steps_134 rfl 136 rfl ?_
    refine r_iconst hC 3 dX6_steps_136 ic_3 137 rfl ?_
    refine r_icne hC 144 dX6_steps_137 (by decide) 140 rfl (fun h => absurd h (by decide)) (fun _ => ?_)
    refine r_iconst hC 1 dX6_steps_140 ic_1 141 rfl ?_
    refine r_goto hC 145 dX6_steps_141 (by decide) ?_
    refine r_iload_n hC 6 dX6_steps_145 rfl 146 rfl ?_
    refine r_invVw hC kX6 (b 0) [.ref a, .int 1, .int 0] [(b 23, .inl (1, 6, .inr (.inl g))), (b 24, .inl (1, 21, .inr (.inl r)))] mVX6_drifts q3092 0 rfl (metX6_drifts10 _ _ hG b _ _ _ a _ (rowOK_of ht hm)) [0, 1, 2] [3, 4] rfl rfl rfl rfl (by decide) ⟨rfl, rfl⟩ 0 0 rfl rfl (Nat.le_of_ble_eq_true rfl) (Nat.le_of_ble_eq_true rfl) rfl (Nat.le_of_ble_eq_true rfl) dX6_steps_146 149 rfl (fun v3 w4 h5 => ?_) (fun _ _ h => h.elim)
    obtain ⟨rfl, rfl⟩ := h5
    show rn C (xSt F V0 [(b 23, .inl (1, 6, .inr (.inl g))), (b 24, .inl (1, 21, .inr (.inl r))), (b 0, .inr (5, mF b i j)), (b 7, .inl (1, 5, .inr (.inl t))), (a, .inl (1, 111, .inr (.inl (driftQ t r true false))))]) 0 0 149 [(7, .int 3), (6, .int 0), (5, .int 1), (3, .long (clockQ r false)), (0, .ref (b 0)), (1, .ref a), (2, .int 0)] []
    refine r_aload_n hC 5 dX6_steps_149 rfl 150 rfl ?_
    refine r_invSr hC [.ref a] (.int (bI (isInQ (driftQ t r true false)))) mSX6_isIn q3096 (metX6_isIn _ _ hG a _) (fun _ h => h.in.sub [4] rfl rfl) ⟨rfl, rfl⟩ 0 0 rfl rfl (Nat.le_of_ble_eq_true rfl) (Nat.le_of_ble_eq_true rfl) rfl (Nat.le_of_ble_eq_true rfl) dX6_steps_150 153 rfl ?_
    refine r_istore hC 5 [(5, .int (bI (isInQ (driftQ t r true false)))), (7, .int 3), (6, .int 0), (3, .long (clockQ r false)), (0, .ref (b 0)), (1, .ref a), (2, .int 0)] dX6_steps_153 (Nat.le_of_ble_eq_true rfl) rfl 155 rfl ?_
    refine r_iinc hC 1 6 2 [(6, .int 1), (5, .int (bI (isInQ (driftQ t r true false)))), (7, .int 3), (3, .long (clockQ r false)), (0, .ref (b 0)), (1, .ref a), (2, .int 0)] dX6_steps_155 rfl (by decide) (Nat.le_of_ble_eq_true rfl) rfl 158 rfl ?_
    refine r_goto hC 64 dX6_steps_158 (by decide) ?_
    refine r_iload hC 0 dX6_steps_64 rfl 66 rfl ?_
    refine r_iconst hC 3 dX6_steps_66 ic_3 67 rfl ?_
    refine r_icge hC 161 dX6_steps_67 (by decide) 70 rfl (fun h => absurd h (by decide)) (fun _ => ?_)
    refine r_iload hC 1 dX6_steps_70 rfl 72 rfl ?_
    refine r_ifeq hC 161 dX6_steps_72 (by decide) 75 rfl (fun c6 => ?_) (fun c6 => ?_)
    · skip
      refine r_iload hC 1 dX6_steps_161 rfl 163 rfl ?_
      refine r_ifeq hC 170 dX6_steps_163 (by decide) 166 rfl (fun _ => ?_) (fun h => absurd (c6) h)
      refine r_iconst hC 0 dX6_steps_170 ic_0 171 rfl ?_
      refine r_istore hC 6 [(6, .int 0), (5, .int (bI (isInQ (driftQ t r true false)))), (7, .int 3), (3, .long (clockQ r false)), (0, .ref (b 0)), (1, .ref a), (2, .int 0)] dX6_steps_171 (Nat.le_of_ble_eq_true rfl) rfl 173 rfl ?_
      refine rn.mono (J := xSt F V0 [(b 0, .inr (5, mF b i j)), (b 7, .inl (1, 5, .inr (.inl t))), (a, .inl (1, 111, .inr (.inl (driftQ t r true false)))), (b 23, .inl (1, 6, .inr (.inl g))), (b 24, .inl (1, 21, .inr (.inl r)))]) (fun _ h => h.sub [2, 3, 4, 0, 1] rfl rfl) ?_
      refine rn.sub (lv' := [(6, .int 0), (5, .int (bI (isInQ (driftQ t r true false)))), (0, .ref (b 0)), (1, .ref a)]) [0, 1, 4, 5] rfl ?_
      refine rn.mono (J := xSt F V0 [(b 0, .inr (5, mF b i j)), (b 7, .inl (1, 5, .inr (.inl t))), (a, .inl (1, 111, .inr (.inl (va_cpy r (driftQ t r true false) 0 0 0)))), (b 23, .inl (1, 6, .inr (.inl g))), (b 24, .inl (1, 21, .inr (.inl r)))]) (fun _ h => by rw [cpy_0]; exact h) ?_
      refine lpX6_steps_b hC b i j t a (driftQ t r true false) g r (bI (isInQ (driftQ t r true false))) c6 ?_ 21 0 rfl
      refine rn_cellJ (J := xSt F V0 [(b 0, .inr (5, mF b i j)), (b 7, .inl (1, 5, .inr (.inl t))), (a, .inl (1, 111, .inr (.inl r))), (b 23, .inl (1, 6, .inr (.inl g))), (b 24, .inl (1, 21, .inr (.inl r)))]) (fun _ h => h.get 2 rfl) (fun j hj => cpy_back (by intro j hj; simp only [kick_off hj, drift_off hj])) (fun _ h => h.set 2 _ rfl) ?_
      refine r_iload hC 0 dX6_steps_202 rfl 204 rfl ?_
      have hS : stepQ t r false = none :=
        stepQ_n1 (bI_n0.mp c1) (partO_no (c := 3) (by simp [partQ, hs0, hs]) (by decide) partA_3 (bI_0.mp c6))
      exact r_zret hC (bI_nar _) (Nat.le_of_ble_eq_true rfl) (Nat.le_of_ble_eq_true rfl) (fun V9 h => hQ _ _ ⟨[(b 0, .inr (5, mF b i j)), (b 7, .inl (1, 5, .inr (.inl t))), (a, .inl (1, 111, .inr (.inl r))), (b 23, .inl (1, 6, .inr (.inl g))), (b 24, .inl (1, 21, .inr (.inl r)))], ⟨g, r, by rw [hS, bI_0.mp c6]; rfl, by rw [hS]; rfl⟩, by rw [← hV0, ← hF]; exact h⟩) dX6_steps_204
    · skip
      refine r_aload_n hC 5 dX6_steps_75 rfl 76 rfl ?_
      refine r_iconst hC 1 dX6_steps_76 ic_1 77 rfl ?_
      refine r_lald hC 1 (xix_n 1 (Nat.le_of_ble_eq_true rfl) (Nat.le_of_ble_eq_true rfl)) (fun _ h => h.get 4 rfl) ((driftQ t r true false) 1) (rfl) dX6_steps_77 78 rfl ?_
      refine r_iload_n hC 6 dX6_steps_78 rfl 79 rfl ?_
      refine r_ifeq hC 89 dX6_steps_79 (by decide) 82 rfl (fun _ => ?_) (fun h => absurd h (by decide))
      refine r_iload hC 0 dX6_steps_89 rfl 91 rfl ?_
      refine r_invSr hC [.long ((driftQ t r true false) 1), .int 1] (.int 0) mSX6_partOf q3085 (metX6_partOf1 _ _ hG ((driftQ t r true false) 1) 0 (by simp [partQ, kick_1, drift_1, hs0, hs])) (fun _ _ => xIn.nil) ⟨rfl, rfl⟩ 0 0 rfl rfl (Nat.le_of_ble_eq_true rfl) (Nat.le_of_ble_eq_true rfl) rfl (Nat.le_of_ble_eq_true rfl) dX6_steps_91 94 rfl ?_
      refine r_istore hC 7 [(7, .int 0), (6, .int 1), (5, .int (bI (isInQ (driftQ t r true false)))), (3, .long (clockQ r false)), (0, .ref (b 0)), (1, .ref a), (2, .int 0)] dX6_steps_94 (Nat.le_of_ble_eq_true rfl) rfl 96 rfl ?_
      refine r_iload hC 0 dX6_steps_96 rfl 98 rfl ?_
      refine r_iconst hC (-1) dX6_steps_98 ic_m1 99 rfl ?_
      refine r_icne hC 105 dX6_steps_99 (by decide) 102 rfl (fun _ => ?_) (fun h => absurd h (by decide))
      refine r_iload hC 0 dX6_steps_105 rfl 107 rfl ?_
      refine r_iconst hC 2 dX6_steps_107 ic_2 108 rfl ?_
      refine r_irem hC 0 dX6_steps_108 (by decide) (by decide) 109 rfl ?_
      refine r_ifne hC 132 dX6_steps_109 (by decide) 112 rfl (fun h => absurd h (by decide)) (fun _ => ?_)
      refine r_aload_n hC 4 dX6_steps_112 rfl 113 rfl ?_
      refine r_aload_n hC 5 dX6_steps_113 rfl 114 rfl ?_
      refine r_iload hC 0 dX6_steps_114 rfl 116 rfl ?_
      refine r_iconst hC 2 dX6_steps_116 ic_2 117 rfl ?_
      refine r_icne hC 124 dX6_steps_117 (by decide) 120 rfl (fun _ => ?_) (fun h => absurd h (by decide))
      refine r_iconst hC 0 dX6_steps_124 ic_0 125 rfl ?_
      refine r_iload_n hC 6 dX6_steps_125 rfl 126 rfl ?_
      refine r_invVw hC kX6 (b 0) [.ref a, .int 0, .int 0] [(b 24, .inl (1, 21, .inr (.inl r)))] mVX6_kicks q3088 2 rfl (metX6_kicks00 _ _ hG b _ _ _ a _ _ (rowOK_of ht (mOK_drift hm))) [2, 3, 4, 0] [1] rfl rfl rfl rfl (by decide) ⟨rfl, rfl⟩ 0 0 rfl rfl (Nat.le_of_ble_eq_true rfl) (Nat.le_of_ble_eq_true rfl) rfl (Nat.le_of_ble_eq_true rfl) dX6_steps_126 129 rfl (fun v8 w9 h10 => ?_) (fun _ _ h => h.elim)
      obtain ⟨g7, rfl, rfl⟩ := h10
      show rn C (xSt F V0 [(b 24, .inl (1, 21, .inr (.inl r))), (b 0, .inr (5, mF b i j)), (b 7, .inl (1, 5, .inr (.inl t))), (a, .inl (1, 111, .inr (.inl (kickQ t (driftQ t r true false) false false)))), (b 23, .inl (1, 6, .inr (.inl g7)))]) 0 0 129 [(7, .int 0), (6, .int 1), (5, .int (bI (isInQ (driftQ t r true false)))), (3, .long (clockQ r false)), (0, .ref (b 0)), (1, .ref a), (2, .int 0)] []
      refine r_goto hC 149 dX6_steps_129 (by decide) ?_
      refine r_aload_n hC 5 dX6_steps_149 rfl 150 rfl ?_
      refine r_invSr hC [.ref a] (.int (bI (isInQ (kickQ t (driftQ t r true false) false false)))) mSX6_isIn q3096 (metX6_isIn _ _ hG a _) (fun _ h => h.in.sub [3] rfl rfl) ⟨rfl, rfl⟩ 0 0 rfl rfl (Nat.le_of_ble_eq_true rfl) (Nat.le_of_ble_eq_true rfl) rfl (Nat.le_of_ble_eq_true rfl) dX6_steps_150 153 rfl ?_
      refine r_istore hC 5 [(5, .int (bI (isInQ (kickQ t (driftQ t r true false) false false)))), (7, .int 0), (6, .int 1), (3, .long (clockQ r false)), (0, .ref (b 0)), (1, .ref a), (2, .int 0)] dX6_steps_153 (Nat.le_of_ble_eq_true rfl) rfl 155 rfl ?_
      refine r_iinc hC 2 6 2 [(6, .int 2), (5, .int (bI (isInQ (kickQ t (driftQ t r true false) false false)))), (7, .int 0), (3, .long (clockQ r false)), (0, .ref (b 0)), (1, .ref a), (2, .int 0)] dX6_steps_155 rfl (by decide) (Nat.le_of_ble_eq_true rfl) rfl 158 rfl ?_
      refine r_goto hC 64 dX6_steps_158 (by decide) ?_
      refine r_iload hC 0 dX6_steps_64 rfl 66 rfl ?_
      refine r_iconst hC 3 dX6_steps_66 ic_3 67 rfl ?_
      refine r_icge hC 161 dX6_steps_67 (by decide) 70 rfl (fun h => absurd h (by decide)) (fun _ => ?_)
      refine r_iload hC 1 dX6_steps_70 rfl 72 rfl ?_
      refine r_ifeq hC 161 dX6_steps_72 (by decide) 75 rfl (fun c11 => ?_) (fun c11 => ?_)
      · skip
        refine r_iload hC 1 dX6_steps_161 rfl 163 rfl ?_
        refine r_ifeq hC 170 dX6_steps_163 (by decide) 166 rfl (fun _ => ?_) (fun h => absurd (c11) h)
        refine r_iconst hC 0 dX6_steps_170 ic_0 171 rfl ?_
        refine r_istore hC 6 [(6, .int 0), (5, .int (bI (isInQ (kickQ t (driftQ t r true false) false false)))), (7, .int 0), (3, .long (clockQ r false)), (0, .ref (b 0)), (1, .ref a), (2, .int 0)] dX6_steps_171 (Nat.le_of_ble_eq_true rfl) rfl 173 rfl ?_
        refine rn.mono (J := xSt F V0 [(b 0, .inr (5, mF b i j)), (b 7, .inl (1, 5, .inr (.inl t))), (a, .inl (1, 111, .inr (.inl (kickQ t (driftQ t r true false) false false)))), (b 23, .inl (1, 6, .inr (.inl g7))), (b 24, .inl (1, 21, .inr (.inl r)))]) (fun _ h => h.sub [1, 2, 3, 4, 0] rfl rfl) ?_
        refine rn.sub (lv' := [(6, .int 0), (5, .int (bI (isInQ (kickQ t (driftQ t r true false) false false)))), (0, .ref (b 0)), (1, .ref a)]) [0, 1, 4, 5] rfl ?_
        refine rn.mono (J := xSt F V0 [(b 0, .inr (5, mF b i j)), (b 7, .inl (1, 5, .inr (.inl t))), (a, .inl (1, 111, .inr (.inl (va_cpy r (kickQ t (driftQ t r true false) false false) 0 0 0)))), (b 23, .inl (1, 6, .inr (.inl g7))), (b 24, .inl (1, 21, .inr (.inl r)))]) (fun _ h => by rw [cpy_0]; exact h) ?_
        refine lpX6_steps_b hC b i j t a (kickQ t (driftQ t r true false) false false) g7 r (bI (isInQ (kickQ t (driftQ t r true false) false false))) c11 ?_ 21 0 rfl
        refine rn_cellJ (J := xSt F V0 [(b 0, .inr (5, mF b i j)), (b 7, .inl (1, 5, .inr (.inl t))), (a, .inl (1, 111, .inr (.inl r))), (b 23, .inl (1, 6, .inr (.inl g7))), (b 24, .inl (1, 21, .inr (.inl r)))]) (fun _ h => h.get 2 rfl) (fun j hj => cpy_back (by intro j hj; simp only [kick_off hj, drift_off hj])) (fun _ h => h.set 2 _ rfl) ?_
        refine r_iload hC 0 dX6_steps_202 rfl 204 rfl ?_
        have hS : stepQ t r false = none :=
          stepQ_n2 (bI_n0.mp c1) (partO_ok (c := 3) (by simp [partQ, hs0, hs]) (by decide) partA_3 (bI_n0.mp c6)) (partO_no (c := 0) (by simp [partQ, hs0, hs]) (by decide) partA_0 (bI_0.mp c11))
        exact r_zret hC (bI_nar _) (Nat.le_of_ble_eq_true rfl) (Nat.le_of_ble_eq_true rfl) (fun V9 h => hQ _ _ ⟨[(b 0, .inr (5, mF b i j)), (b 7, .inl (1, 5, .inr (.inl t))), (a, .inl (1, 111, .inr (.inl r))), (b 23, .inl (1, 6, .inr (.inl g7))), (b 24, .inl (1, 21, .inr (.inl r)))], ⟨g7, r, by rw [hS, bI_0.mp c11]; rfl, by rw [hS]; rfl⟩, by rw [← hV0, ← hF]; exact h⟩) dX6_steps_204
      · skip
        refine r_aload_n hC 5 dX6_steps_75 rfl 76 rfl ?_
        refine r_iconst hC 1 dX6_steps_76 ic_1 77 rfl ?_
        refine r_lald hC 1 (xix_n 1 (Nat.le_of_ble_eq_true rfl) (Nat.le_of_ble_eq_true rfl)) (fun _ h => h.get 3 rfl) ((kickQ t (driftQ t r true false) false false) 1) (rfl) dX6_steps_77 78 rfl ?_
        refine r_iload_n hC 6 dX6_steps_78 rfl 79 rfl ?_
        refine r_ifeq hC 89 dX6_steps_79 (by decide) 82 rfl (fun _ => ?_) (fun h => absurd h (by decide))
        refine r_iload hC 0 dX6_steps_89 rfl 91 rfl ?_
        refine r_invSr hC [.long ((kickQ t (driftQ t r true false) false false) 1), .int 2] (.int 3) mSX6_partOf q3085 (metX6_partOf2 _ _ hG ((kickQ t (driftQ t r true false) false false) 1) 3 (by simp [partQ, kick_1, drift_1, hs0, hs])) (fun _ _ => xIn.nil) ⟨rfl, rfl⟩ 0 0 rfl rfl (Nat.le_of_ble_eq_true rfl) (Nat.le_of_ble_eq_true rfl) rfl (Nat.le_of_ble_eq_true rfl) dX6_steps_91 94 rfl ?_
        refine r_istore hC 7 [(7, .int 3), (6, .int 2), (5, .int (bI (isInQ (kickQ t (driftQ t r true false) false false)))), (3, .long (clockQ r false)), (0, .ref (b 0)), (1, .ref a), (2, .int 0)] dX6_steps_94 (Nat.le_of_ble_eq_true rfl) rfl 96 rfl ?_
        refine r_iload hC 0 dX6_steps_96 rfl 98 rfl ?_
        refine r_iconst hC (-1) dX6_steps_98 ic_m1 99 rfl ?_
        refine r_icne hC 105 dX6_steps_99 (by decide) 102 rfl (fun _ => ?_) (fun h => absurd h (by decide))
        refine r_iload hC 0 dX6_steps_105 rfl 107 rfl ?_
        refine r_iconst hC 2 dX6_steps_107 ic_2 108 rfl ?_
        refine r_irem hC 1 dX6_steps_108 (by decide) (by decide) 109 rfl ?_
        refine r_ifne hC 132 dX6_steps_109 (by decide) 112 rfl (fun _ => ?_) (fun h => absurd h (by decide))
        refine r_aload_n hC 4 dX6_steps_132 rfl 133 rfl ?_
        refine r_aload_n hC 5 dX6_steps_133 rfl 134 rfl ?_
        refine r_iload hC 0 dX6_steps_134 rfl 136 rfl ?_
        refine r_iconst hC 3 dX6_steps_136 ic_3 137 rfl ?_
        refine r_icne hC 144 dX6_steps_137 (by decide) 140 rfl (fun h => absurd h (by decide)) (fun _ => ?_)
        refine r_iconst hC 1 dX6_steps_140 ic_1 141 rfl ?_
        refine r_goto hC 145 dX6_steps_141 (by decide) ?_
        refine r_iload_n hC 6 dX6_steps_145 rfl 146 rfl ?_
        refine r_invVw hC kX6 (b 0) [.ref a, .int 1, .int 0] [(b 24, .inl (1, 21, .inr (.inl r))), (b 23, .inl (1, 6, .inr (.inl g7)))] mVX6_drifts q3092 1 rfl (metX6_drifts10 _ _ hG b _ _ _ a _ (rowOK_of ht (mOK_kick (mOK_drift hm)))) [1, 2, 3] [0, 4] rfl rfl rfl rfl (by decide) ⟨rfl, rfl⟩ 0 0 rfl rfl (Nat.le_of_ble_eq_true rfl) (Nat.le_of_ble_eq_true rfl) rfl (Nat.le_of_ble_eq_true rfl) dX6_steps_146 149 rfl (fun v13 w14 h15 => ?_) (fun _ _ h => h.elim)
        obtain ⟨rfl, rfl⟩ := h15
        show rn C (xSt F V0 [(b 24, .inl (1, 21, .inr (.inl r))), (b 23, .inl (1, 6, .inr (.inl g7))), (b 0, .inr (5, mF b i j)), (b 7, .inl (1, 5, .inr (.inl t))), (a, .inl (1, 111, .inr (.inl (driftQ t (kickQ t (driftQ t r true false) false false) true false))))]) 0 0 149 [(7, .int 3), (6, .int 2), (5, .int (bI (isInQ (kickQ t (driftQ t r true false) false false)))), (3, .long (clockQ r false)), (0, .ref (b 0)), (1, .ref a), (2, .int 0)] []
        refine r_aload_n hC 5 dX6_steps_149 rfl 150 rfl ?_
        refine r_invSr hC [.ref a] (.int (bI (isInQ (driftQ t (kickQ t (driftQ t r true false) false false) true false)))) mSX6_isIn q3096 (metX6_isIn _ _ hG a _) (fun _ h => h.in.sub [4] rfl rfl) ⟨rfl, rfl⟩ 0 0 rfl rfl (Nat.le_of_ble_eq_true rfl) (Nat.le_of_ble_eq_true rfl) rfl (Nat.le_of_ble_eq_true rfl) dX6_steps_150 153 rfl ?_
        refine r_istore hC 5 [(5, .int (bI (isInQ (driftQ t (kickQ t (driftQ t r true false) false false) true false)))), (7, .int 3), (6, .int 2), (3, .long (clockQ r false)), (0, .ref (b 0)), (1, .ref a), (2, .int 0)] dX6_steps_153 (Nat.le_of_ble_eq_true rfl) rfl 155 rfl ?_
        refine r_iinc hC 3 6 2 [(6, .int 3), (5, .int (bI (isInQ (driftQ t (kickQ t (driftQ t r true false) false false) true false)))), (7, .int 3), (3, .long (clockQ r false)), (0, .ref (b 0)), (1, .ref a), (2, .int 0)] dX6_steps_155 rfl (by decide) (Nat.le_of_ble_eq_true rfl) rfl 158 rfl ?_
        refine r_goto hC 64 dX6_steps_158 (by decide) ?_
        refine r_iload hC 0 dX6_steps_64 rfl 66 rfl ?_
        refine r_iconst hC 3 dX6_steps_66 ic_3 67 rfl ?_
        refine r_icge hC 161 dX6_steps_67 (by decide) 70 rfl (fun _ => ?_) (fun h => absurd h (by decide))
        refine r_iload hC 1 dX6_steps_161 rfl 163 rfl ?_
        refine r_ifeq hC 170 dX6_steps_163 (by decide) 166 rfl (fun c16 => ?_) (fun c16 => ?_)
        · skip
          refine r_iconst hC 0 dX6_steps_170 ic_0 171 rfl ?_
          refine r_istore hC 6 [(6, .int 0), (5, .int (bI (isInQ (driftQ t (kickQ t (driftQ t r true false) false false) true false)))), (7, .int 3), (3, .long (clockQ r false)), (0, .ref (b 0)), (1, .ref a), (2, .int 0)] dX6_steps_171 (Nat.le_of_ble_eq_true rfl) rfl 173 rfl ?_
          refine rn.mono (J := xSt F V0 [(b 0, .inr (5, mF b i j)), (b 7, .inl (1, 5, .inr (.inl t))), (a, .inl (1, 111, .inr (.inl (driftQ t (kickQ t (driftQ t r true false) false false) true false)))), (b 23, .inl (1, 6, .inr (.inl g7))), (b 24, .inl (1, 21, .inr (.inl r)))]) (fun _ h => h.sub [2, 3, 4, 1, 0] rfl rfl) ?_
          refine rn.sub (lv' := [(6, .int 0), (5, .int (bI (isInQ (driftQ t (kickQ t (driftQ t r true false) false false) true false)))), (0, .ref (b 0)), (1, .ref a)]) [0, 1, 4, 5] rfl ?_
          refine rn.mono (J := xSt F V0 [(b 0, .inr (5, mF b i j)), (b 7, .inl (1, 5, .inr (.inl t))), (a, .inl (1, 111, .inr (.inl (va_cpy r (driftQ t (kickQ t (driftQ t r true false) false false) true false) 0 0 0)))), (b 23, .inl (1, 6, .inr (.inl g7))), (b 24, .inl (1, 21, .inr (.inl r)))]) (fun _ h => by rw [cpy_0]; exact h) ?_
          refine lpX6_steps_b hC b i j t a (driftQ t (kickQ t (driftQ t r true false) false false) true false) g7 r (bI (isInQ (driftQ t (kickQ t (driftQ t r true false) false false) true false))) c16 ?_ 21 0 rfl
          refine rn_cellJ (J := xSt F V0 [(b 0, .inr (5, mF b i j)), (b 7, .inl (1, 5, .inr (.inl t))), (a, .inl (1, 111, .inr (.inl r))), (b 23, .inl (1, 6, .inr (.inl g7))), (b 24, .inl (1, 21, .inr (.inl r)))]) (fun _ h => h.get 2 rfl) (fun j hj => cpy_back (by intro j hj; simp only [kick_off hj, drift_off hj])) (fun _ h => h.set 2 _ rfl) ?_
          refine r_iload hC 0 dX6_steps_202 rfl 204 rfl ?_
          have hS : stepQ t r false = none :=
            stepQ_n3 (bI_n0.mp c1) (partO_ok (c := 3) (by simp [partQ, hs0, hs]) (by decide) partA_3 (bI_n0.mp c6)) (partO_ok (c := 0) (by simp [partQ, hs0, hs]) (by decide) partA_0 (bI_n0.mp c11)) (partO_no (c := 3) (by simp [partQ, hs0, hs]) (by decide) partA_3 (bI_0.mp c16))
          exact r_zret hC (bI_nar _) (Nat.le_of_ble_eq_true rfl) (Nat.le_of_ble_eq_true rfl) (fun V9 h => hQ _ _ ⟨[(b 0, .inr (5, mF b i j)), (b 7, .inl (1, 5, .inr (.inl t))), (a, .inl (1, 111, .inr (.inl r))), (b 23, .inl (1, 6, .inr (.inl g7))), (b 24, .inl (1, 21, .inr (.inl r)))], ⟨g7, r, by rw [hS, bI_0.mp c16]; rfl, by rw [hS]; rfl⟩, by rw [← hV0, ← hF]; exact h⟩) dX6_steps_204
        · skip
          refine r_aload_n hC 5 dX6_steps_166 rfl 167 rfl ?_
          refine r_iconst hC 0 dX6_steps_167 ic_0 168 rfl ?_
          refine r_lload_n hC 3 dX6_steps_168 rfl 169 rfl ?_
          refine r_last (J := xSt F V0 [(b 24, .inl (1, 21, .inr (.inl r))), (b 23, .inl (1, 6, .inr (.inl g7))), (b 0, .inr (5, mF b i j)), (b 7, .inl (1, 5, .inr (.inl t))), (a, .inl (1, 111, .inr (.inl (va_up (driftQ t (kickQ t (driftQ t r true false) false false) true false) 0 (clockQ r false)))))]) hC 0 (xix_n 0 (Nat.le_of_ble_eq_true rfl) (Nat.le_of_ble_eq_true rfl)) (fun _ h => h.get 4 rfl) dX6_steps_169 (fun _ h => h.set 4 _ rfl) 170 rfl ?_
          generalize hu17 : va_up (driftQ t (kickQ t (driftQ t r true false) false false) true false) 0 (clockQ r false) = u17
          refine r_iconst hC 0 dX6_steps_170 ic_0 171 rfl ?_
          refine r_istore hC 6 [(6, .int 0), (5, .int (bI (isInQ (driftQ t (kickQ t (driftQ t r true false) false false) true false)))), (7, .int 3), (3, .long (clockQ r false)), (0, .ref (b 0)), (1, .ref a), (2, .int 0)] dX6_steps_171 (Nat.le_of_ble_eq_true rfl) rfl 173 rfl ?_
          refine r_iload hC 0 dX6_steps_173 rfl 175 rfl ?_
          refine r_bipush hC 21 dX6_steps_175 bp_21 177 rfl ?_
          refine r_icge hC 202 dX6_steps_177 (by decide) 180 rfl (fun h => absurd h (by decide)) (fun _ => ?_)
          refine r_iload hC 1 dX6_steps_180 rfl 182 rfl ?_
          refine r_ifne hC 202 dX6_steps_182 (by decide) 185 rfl (fun _ => ?_) (fun h => absurd h (c16))
          refine r_iload hC 1 dX6_steps_202 rfl 204 rfl ?_
          subst hu17
          have hS : stepQ t r false = some (va_up (driftQ t (kickQ t (driftQ t r true false) false false) true false) 0 (clockQ r false)) :=
            stepQ_ok (bI_n0.mp c1) (partO_ok (c := 3) (by simp [partQ, hs0, hs]) (by decide) partA_3 (bI_n0.mp c6)) (partO_ok (c := 0) (by simp [partQ, hs0, hs]) (by decide) partA_0 (bI_n0.mp c11)) (partO_ok (c := 3) (by simp [partQ, hs0, hs]) (by decide) partA_3 (bI_n0.mp c16))
          exact r_zret hC (bI_nar _) (Nat.le_of_ble_eq_true rfl) (Nat.le_of_ble_eq_true rfl) (fun V9 h => hQ _ _ ⟨[(b 0, .inr (5, mF b i j)), (b 7, .inl (1, 5, .inr (.inl t))), (a, .inl (1, 111, .inr (.inl (va_up (driftQ t (kickQ t (driftQ t r true false) false false) true false) 0 (clockQ r false))))), (b 23, .inl (1, 6, .inr (.inl g7))), (b 24, .inl (1, 21, .inr (.inl r)))], ⟨g7, r, by rw [hS, bI_n0.mp c16]; rfl, by rw [hS]; rfl⟩, by rw [← hV0, ← hF]; exact (h.sub [2, 3, 4, 1, 0] rfl rfl)⟩) dX6_steps_204
  · skip
    refine r_iconst hC 0 dX6_steps_29 ic_0 30 rfl ?_
    have hS : stepQ t r false = none :=
      stepQ_n0 (bI_0.mp c1)
    exact r_zret hC (by decide) (Nat.le_of_ble_eq_true rfl) (Nat.le_of_ble_eq_true rfl) (fun V9 h => hQ _ _ ⟨[(b 0, .inr (5, mF b i j)), (b 7, .inl (1, 5, .inr (.inl t))), (a, .inl (1, 111, .inr (.inl r))), (b 23, .inl (1, 6, .inr (.inl g))), (b 24, .inl (1, 21, .inr (.inl h0)))], ⟨g, h0, by rw [hS]; rfl, by rw [hS]; rfl⟩, by rw [← hV0, ← hF]; exact h⟩) dX6_steps_30
set_option maxHeartbeats 4000000 in
set_option maxRecDepth 100000 in
theorem metX6_steps02 (l : Launch) (G : xG) (hG : xGood G) (b : Nat → Nat) (i : Nat → Int32) (j : Nat → Int64) (t : Nat → Int64) (a : Nat) (r : Nat → Int64) (g h0 : Nat → Int64) (ht : tOK t) (hm : mOK r) (hs0 : ¬ r 1 = 0) (hs : ¬ r 1 = 1) : xWm l G yX6_steps (Cond.code yX6_steps cX6_steps 8 (some .boolean)) { frames := 6, locals := 151, cells := 0, slots := 0 } [.ref (b 0), .ref a, .int 0] [(b 0, .inr (5, mF b i j)), (b 7, .inl (1, 5, .inr (.inl t))), (a, .inl (1, 111, .inr (.inl r))), (b 23, .inl (1, 6, .inr (.inl g))), (b 24, .inl (1, 21, .inr (.inl h0)))] (fun v w' => ∃ g' h' : Nat → Int64, v = some (.int (bI (stepQ t r false).isSome)) ∧ w' = [(b 0, .inr (5, mF b i j)), (b 7, .inl (1, 5, .inr (.inl t))), (a, .inl (1, 111, .inr (.inl ((stepQ t r false).getD r)))), (b 23, .inl (1, 6, .inr (.inl g'))), (b 24, .inl (1, 21, .inr (.inl h')))]) (fun _ _ => False) := by
  intro V hV
  refine xMet_of RX6 hG rfl (by decide) (Nat.le_of_ble_eq_true rfl) fun C hC hQ hX hl hg _ => ?_
  subst hl hg
  obtain ⟨V0, hV0⟩ : ∃ V0, V0 = V := ⟨_, rfl⟩
  obtain ⟨F, hF⟩ : ∃ F, F = xF [(b 0, .inr (5, mF b i j)), (b 7, .inl (1, 5, .inr (.inl t))), (a, .inl (1, 111, .inr (.inl r))), (b 23, .inl (1, 6, .inr (.inl g))), (b 24, .inl (1, 21, .inr (.inl h0)))] := ⟨_, rfl⟩
  refine rn.mono (J := xSt F V0 [(b 0, .inr (5, mF b i j)), (b 7, .inl (1, 5, .inr (.inl t))), (a, .inl (1, 111, .inr (.inl r))), (b 23, .inl (1, 6, .inr (.inl g))), (b 24, .inl (1, 21, .inr (.inl h0)))]) (fun V9 h => by rw [h, hV0, hF]; exact hV.st) ?_
  show rn C (xSt F V0 [(b 0, .inr (5, mF b i j)), (b 7, .inl (1, 5, .inr (.inl t))), (a, .inl (1, 111, .inr (.inl r))), (b 23, .inl (1, 6, .inr (.inl g))), (b 24, .inl (1, 21, .inr (.inl h0)))]) 0 0 0 [(0, .ref (b 0)), (1, .ref a), (2, .int 0)] []
  refine r_aload_n hC 1 dX6_steps_0 rfl 1 rfl ?_
  refine r_iconst hC 0 dX6_steps_1 ic_0 2 rfl ?_
  refine r_lald hC 0 (xix_n 0 (Nat.le_of_ble_eq_true rfl) (Nat.le_of_ble_eq_true rfl)) (fun _ h => h.get 2 rfl) (r 0) (rfl) dX6_steps_2 3 rfl ?_
  refine r_iload_n hC 2 dX6_steps_3 rfl 4 rfl ?_
  refine r_ifeq hC 13 dX6_steps_4 (by decide) 7 rfl (fun _ => ?_) (fun h => absurd h (by decide))
  refine r_lconst hC 1 dX6_steps_13 lc_1 14 rfl ?_
  refine r_ladd hC (clockQ r false) dX6_steps_14  (rfl) 15 rfl ?_
  refine r_lstore_n hC 3 [(3, .long (clockQ r false)), (0, .ref (b 0)), (1, .ref a), (2, .int 0)] dX6_steps_15 rfl (Nat.le_of_ble_eq_true rfl) rfl 16 rfl ?_
  refine r_lload_n hC 0 dX6_steps_16 rfl 17 rfl ?_
  refine r_ldc2 hC q3083 dX6_steps_17 20 rfl ?_
  refine r_ldc2 hC q3084 dX6_steps_20 23 rfl ?_
  refine r_invSr hC [.long (clockQ r false), .long (-1000000), .long 1000000] (.int (bI (m_in (clockQ r false) (-1000000) 1000000))) mSX6_in q2891 (metX6_in _ _ hG (clockQ r false) (-1000000) 1000000) (fun _ _ => xIn.nil) ⟨rfl, rfl⟩ 0 0 rfl rfl (Nat.le_of_ble_eq_true rfl) (Nat.le_of_ble_eq_true rfl) rfl (Nat.le_of_ble_eq_true rfl) dX6_steps_23 26 rfl ?_
  refine r_ifne hC 31 dX6_steps_26 (by decide) 29 rfl (fun c1 => ?_) (fun c1 => ?_)
  · skip
    refine r_iconst hC 0 dX6_steps_31 ic_0 32 rfl ?_
    refine r_istore hC 5 [(5, .int 0), (3, .long (clockQ r false)), (0, .ref (b 0)), (1, .ref a), (2, .int 0)] dX6_steps_32 (Nat.le_of_ble_eq_true rfl) rfl 34 rfl ?_
    refine rn.sub (lv' := [(5, .int 0), (3, .long (clockQ r false)), (0, .ref (b 0)), (1, .ref a), (2, .int 0)]) [0, 1, 2, 3, 4] rfl ?_
    refine rn.mono (J := xSt F V0 [(b 0, .inr (5, mF b i j)), (b 7, .inl (1, 5, .inr (.inl t))), (a, .inl (1, 111, .inr (.inl r))), (b 23, .inl (1, 6, .inr (.inl g))), (b 24, .inl (1, 21, .inr (.inl (va_cpy r h0 0 0 0))))]) (fun _ h => by rw [cpy_0]; exact h) ?_
    refine lpX6_steps_a hC b i j t a r g h0 (clockQ r false) 0 ?_ 21 0 rfl
    refine rn_cellJ (J := xSt F V0 [(b 0, .inr (5, mF b i j)), (b 7, .inl (1, 5, .inr (.inl t))), (a, .inl (1, 111, .inr (.inl r))), (b 23, .inl (1, 6, .inr (.inl g))), (b 24, .inl (1, 21, .inr (.inl r)))]) (fun _ h => h.get 4 rfl) (fun j hj => (cpy_in (by omega) (by omega)).trans (by congr 1; omega)) (fun _ h => h.set 4 _ rfl) ?_
    refine r_iconst hC 1 dX6_steps_58 ic_1 59 rfl ?_
    refine r_istore hC 5 [(5, .int 1), (3, .long (clockQ r false)), (0, .ref (b 0)), (1, .ref a), (2, .int 0)] dX6_steps_59 (Nat.le_of_ble_eq_true rfl) rfl 61 rfl ?_
    refine r_iconst hC 0 dX6_steps_61 ic_0 62 rfl ?_
    refine r_istore hC 6 [(6, .int 0), (5, .int 1), (3, .long (clockQ r false)), (0, .ref (b 0)), (1, .ref a), (2, .int 0)] dX6_steps_62 (Nat.le_of_ble_eq_true rfl) rfl 64 rfl ?_
    refine r_iload hC 0 dX6_steps_64 rfl 66 rfl ?_
    refine r_iconst hC 3 dX6_steps_66 ic_3 67 rfl ?_
    refine r_icge hC 161 dX6_steps_67 (by decide) 70 rfl (fun h => absurd h (by decide)) (fun _ => ?_)
    refine r_iload hC 1 dX6_steps_70 rfl 72 rfl ?_
    refine r_ifeq hC 161 dX6_steps_72 (by decide) 75 rfl (fun h => absurd h (by decide)) (fun _ => ?_)
    refine r_aload_n hC 4 dX6_steps_75 rfl 76 rfl ?_
    refine r_iconst hC 1 dX6_steps_76 ic_1 77 rfl ?_
    refine r_lald hC 1 (xix_n 1 (Nat.le_of_ble_eq_true rfl) (Nat.le_of_ble_eq_true rfl)) (fun _ h => h.get 2 rfl) (r 1) (rfl) dX6_steps_77 78 rfl ?_
    refine r_iload_n hC 5 dX6_steps_78 rfl 79 rfl ?_
    refine r_ifeq hC 89 dX6_steps_79 (by decide) 82 rfl (fun _ => ?_) (fun h => absurd h (by decide))
    refine r_iload hC 0 dX6_steps_89 rfl 91 rfl ?_
    refine r_invSr hC [.long (r 1), .int 0] (.int 2) mSX6_partOf q3085 (metX6_partOf0 _ _ hG (r 1) 2 (by simp [partQ, kick_1, drift_1, hs0, hs])) (fun _ _ => xIn.nil) ⟨rfl, rfl⟩ 0 0 rfl rfl (Nat.le_of_ble_eq_true rfl) (Nat.le_of_ble_eq_true rfl) rfl (Nat.le_of_ble_eq_true rfl) dX6_steps_91 94 rfl ?_
    refine r_istore hC 7 [(7, .int 2), (6, .int 0), (5, .int 1), (3, .long (clockQ r false)), (0, .ref (b 0)), (1, .ref a), (2, .int 0)] dX6_steps_94 (Nat.le_of_ble_eq_true rfl) rfl 96 rfl ?_
    refine r_iload hC 0 dX6_steps_96 rfl 98 rfl ?_
    refine r_iconst hC (-1) dX6_steps_98 ic_m1 99 rfl ?_
    refine r_icne hC 105 dX6_steps_99 (by decide) 102 rfl (fun _ => ?_) (fun h => absurd h (by decide))
    refine r_iload hC 0 dX6_steps_105 rfl 107 rfl ?_
    refine r_iconst hC 2 dX6_steps_107 ic_2 108 rfl ?_
    refine r_irem hC 0 dX6_steps_108 (by decide) (by decide) 109 rfl ?_
    refine r_ifne hC 132 dX6_steps_109 (by decide) 112 rfl (fun h => absurd h (by decide)) (fun _ => ?_)
    refine r_aload_n hC 4 dX6_steps_112 rfl 113 rfl ?_
    refine r_aload_n hC 5 dX6_steps_113 rfl 114 rfl ?_
    refine r_iload hC 0 dX6_steps_114 rfl 116 rfl ?_
    refine r_iconst hC 2 dX6_steps_116 ic_2 117 rfl ?_
    refine r_icne hC 124 dX6_steps_117 (by decide) 120 rfl (fun h => absurd h (by decide)) (fun _ => ?_)
    refine r_iconst hC 1 dX6_steps_120 ic_1 121 rfl ?_
    refine r_goto hC 125 dX6_steps_121 (by decide) ?_
    refine r_iload_n hC 6 dX6_steps_125 rfl 126 rfl ?_
    refine r_invVw hC kX6 (b 0) [.ref a, .int 1, .int 0] [(b 24, .inl (1, 21, .inr (.inl r)))] mVX6_kicks q3088 0 rfl (metX6_kicks10 _ _ hG b _ _ _ a _ _ (rowOK_of ht hm)) [0, 1, 2, 3] [4] rfl rfl rfl rfl (by decide) ⟨rfl, rfl⟩ 0 0 rfl rfl (Nat.le_of_ble_eq_true rfl) (Nat.le_of_ble_eq_true rfl) rfl (Nat.le_of_ble_eq_true rfl) dX6_steps_126 129 rfl (fun v3 w4 h5 => ?_) (fun _ _ h => h.elim)
    obtain ⟨g2, rfl, rfl⟩ := h5
    show rn C (xSt F V0 [(b 24, .inl (1, 21, .inr (.inl r))), (b 0, .inr (5, mF b i j)), (b 7, .inl (1, 5, .inr (.inl t))), (a, .inl (1, 111, .inr (.inl (kickQ t r true false)))), (b 23, .inl (1, 6, .inr (.inl g2)))]) 0 0 129 [(7, .int 2), (6, .int 0), (5, .int 1), (3, .long (clockQ r false)), (0, .ref (b 0)), (1, .ref a), (2, .int 0)] []
    refine r_goto hC 149 dX6_steps_129 (by decide) ?_
    refine r_aload_n hC 5 dX6_steps_149 rfl 150 rfl ?_
    refine r_invSr hC [.ref a] (.int (bI (isInQ (kickQ t r true false)))) mSX6_isIn q3096 (metX6_isIn _ _ hG a _) (fun _ h => h.in.sub [3] rfl rfl) ⟨rfl, rfl⟩ 0 0 rfl rfl (Nat.le_of_ble_eq_true rfl) (Nat.le_of_ble_eq_true rfl) rfl (Nat.le_of_ble_eq_true rfl) dX6_steps_150 153 rfl ?_
    refine r_istore hC 5 [(5, .int (bI (isInQ (kickQ t r true false)))), (7, .int 2), (6, .int 0), (3, .long (clockQ r false)), (0, .ref (b 0)), (1, .ref a), (2, .int 0)] dX6_steps_153 (Nat.le_of_ble_eq_true rfl) rfl 155 rfl ?_
    refine r_iinc hC 1 6 2 [(6, .int 1), (5, .int (bI (isInQ (kickQ t r true false)))), (7, .int 2), (3, .long (clockQ r false)), (0, .ref (b 0)), (1, .ref a), (2, .int 0)] dX6_steps_155 rfl (by decide) (Nat.le_of_ble_eq_true rfl) rfl 158 rfl ?_
    refine r_goto hC 64 dX6_steps_158 (by decide) ?_
    refine r_iload hC 0 dX6_steps_64 rfl 66 rfl ?_
    refine r_iconst hC 3 dX6_steps_66 ic_3 67 rfl ?_
    refine r_icge hC 161 dX6_steps_67 (by decide) 70 rfl (fun h => absurd h (by decide)) (fun _ => ?_)
    refine r_iload hC 1 dX6_steps_70 rfl 72 rfl ?_
    refine r_ifeq hC 161 dX6_steps_72 (by decide) 75 rfl (fun c6 => ?_) (fun c6 => ?_)
    · skip
      refine r_iload hC 1 dX6_steps_161 rfl 163 rfl ?_
      refine r_ifeq hC 170 dX6_steps_163 (by decide) 166 rfl (fun _ => ?_) (fun h => absurd (c6) h)
      refine r_iconst hC 0 dX6_steps_170 ic_0 171 rfl ?_
      refine r_istore hC 6 [(6, .int 0), (5, .int (bI (isInQ (kickQ t r true false)))), (7, .int 2), (3, .long (clockQ r false)), (0, .ref (b 0)), (1, .ref a), (2, .int 0)] dX6_steps_171 (Nat.le_of_ble_eq_true rfl) rfl 173 rfl ?_
      refine rn.mono (J := xSt F V0 [(b 0, .inr (5, mF b i j)), (b 7, .inl (1, 5, .inr (.inl t))), (a, .inl (1, 111, .inr (.inl (kickQ t r true false)))), (b 23, .inl (1, 6, .inr (.inl g2))), (b 24, .inl (1, 21, .inr (.inl r)))]) (fun _ h => h.sub [1, 2, 3, 4, 0] rfl rfl) ?_
      refine rn.sub (lv' := [(6, .int 0), (5, .int (bI (isInQ (kickQ t r true false)))), (0, .ref (b 0)), (1, .ref a)]) [0, 1, 4, 5] rfl ?_
      refine rn.mono (J := xSt F V0 [(b 0, .inr (5, mF b i j)), (b 7, .inl (1, 5, .inr (.inl t))), (a, .inl (1, 111, .inr (.inl (va_cpy r (kickQ t r true false) 0 0 0)))), (b 23, .inl (1, 6, .inr (.inl g2))), (b 24, .inl (1, 21, .inr (.inl r)))]) (fun _ h => by rw [cpy_0]; exact h) ?_
      refine lpX6_steps_b hC b i j t a (kickQ t r true false) g2 r (bI (isInQ (kickQ t r true false))) c6 ?_ 21 0 rfl
      refine rn_cellJ (J := xSt F V0 [(b 0, .inr (5, mF b i j)), (b 7, .inl (1, 5, .inr (.inl t))), (a, .inl (1, 111, .inr (.inl r))), (b 23, .inl (1, 6, .inr (.inl g2))), (b 24, .inl (1, 21, .inr (.inl r)))]) (fun _ h => h.get 2 rfl) (fun j hj => cpy_back (by intro j hj; simp only [kick_off hj, drift_off hj])) (fun _ h => h.set 2 _ rfl) ?_
      refine r_iload hC 0 dX6_steps_202 rfl 204 rfl ?_
      have hS : stepQ t r false = none :=
        stepQ_n1 (bI_n0.mp c1) (partO_no (c := 2) (by simp [partQ, hs0, hs]) (by decide) partA_2 (bI_0.mp c6))
      exact r_zret hC (bI_nar _) (Nat.le_of_ble_eq_true rfl) (Nat.le_of_ble_eq_true rfl) (fun V9 h => hQ _ _ ⟨[(b 0, .inr (5, mF b i j)), (b 7, .inl (1, 5, .inr (.inl t))), (a, .inl (1, 111, .inr (.inl r))), (b 23, .inl (1, 6, .inr (.inl g2))), (b 24, .inl (1, 21, .inr (.inl r)))], ⟨g2, r, by rw [hS, bI_0.mp c6]; rfl, by rw [hS]; rfl⟩, by rw [← hV0, ← hF]; exact h⟩) dX6_steps_204
    · skip
      refine r_aload_n hC 5 dX6_steps_75 rfl 76 rfl ?_
      refine r_iconst hC 1 dX6_steps_76 ic_1 77 rfl ?_
      refine r_lald hC 1 (xix_n 1 (Nat.le_of_ble_eq_true rfl) (Nat.le_of_ble_eq_true rfl)) (fun _ h => h.get 3 rfl) ((kickQ t r true false) 1) (rfl) dX6_steps_77 78 rfl ?_
      refine r_iload_n hC 6 dX6_steps_78 rfl 79 rfl ?_
      refine r_ifeq hC 89 dX6_steps_79 (by decide) 82 rfl (fun _ => ?_) (fun h => absurd h (by decide))
      refine r_iload hC 0 dX6_steps_89 rfl 91 rfl ?_
      refine r_invSr hC [.long ((kickQ t r true false) 1), .int 1] (.int 1) mSX6_partOf q3085 (metX6_partOf1 _ _ hG ((kickQ t r true false) 1) 1 (by simp [partQ, kick_1, drift_1, hs0, hs])) (fun _ _ => xIn.nil) ⟨rfl, rfl⟩ 0 0 rfl rfl (Nat.le_of_ble_eq_true rfl) (Nat.le_of_ble_eq_true rfl) rfl (Nat.le_of_ble_eq_true rfl) dX6_steps_91 94 rfl ?_
      refine r_istore hC 7 [(7, .int 1), (6, .int 1), (5, .int (bI (isInQ (kickQ t r true false)))), (3, .long (clockQ r false)), (0, .ref (b 0)), (1, .ref a), (2, .int 0)] dX6_steps_94 (Nat.le_of_ble_eq_true rfl) rfl 96 rfl ?_
      refine r_iload hC 0 dX6_steps_96 rfl 98 rfl ?_
      refine r_iconst hC (-1) dX6_steps_98 ic_m1 99 rfl ?_
      refine r_icne hC 105 dX6_steps_99 (by decide) 102 rfl (fun _ => ?_) (fun h => absurd h (by decide))
      refine r_iload hC 0 dX6_steps_105 rfl 107 rfl ?_
      refine r_iconst hC 2 dX6_steps_107 ic_2 108 rfl ?_
      refine r_irem hC 1 dX6_steps_108 (by decide) (by decide) 109 rfl ?_
      refine r_ifne hC 132 dX6_steps_109 (by decide) 112 rfl (fun _ => ?_) (fun h => absurd h (by decide))
      refine r_aload_n hC 4 dX6_steps_132 rfl 133 rfl ?_
      refine r_aload_n hC 5 dX6_steps_133 rfl 134 rfl ?_
      refine r_iload hC 0 dX6_steps_134 rfl 136 rfl ?_
      refine r_iconst hC 3 dX6_steps_136 ic_3 137 rfl ?_
      refine r_icne hC 144 dX6_steps_137 (by decide) 140 rfl (fun _ => ?_) (fun h => absurd h (by decide))
      refine r_iconst hC 0 dX6_steps_144 ic_0 145 rfl ?_
      refine r_iload_n hC 6 dX6_steps_145 rfl 146 rfl ?_
      refine r_invVw hC kX6 (b 0) [.ref a, .int 0, .int 0] [(b 24, .inl (1, 21, .inr (.inl r))), (b 23, .inl (1, 6, .inr (.inl g2)))] mVX6_drifts q3092 1 rfl (metX6_drifts00 _ _ hG b _ _ _ a _ (rowOK_of ht (mOK_kick hm))) [1, 2, 3] [0, 4] rfl rfl rfl rfl (by decide) ⟨rfl, rfl⟩ 0 0 rfl rfl (Nat.le_of_ble_eq_true rfl) (Nat.le_of_ble_eq_true rfl) rfl (Nat.le_of_ble_eq_true rfl) dX6_steps_146 149 rfl (fun v8 w9 h10 => ?_) (fun _ _ h => h.elim)
      obtain ⟨rfl, rfl⟩ := h10
      show rn C (xSt F V0 [(b 24, .inl (1, 21, .inr (.inl r))), (b 23, .inl (1, 6, .inr (.inl g2))), (b 0, .inr (5, mF b i j)), (b 7, .inl (1, 5, .inr (.inl t))), (a, .inl (1, 111, .inr (.inl (driftQ t (kickQ t r true false) false false))))]) 0 0 149 [(7, .int 1), (6, .int 1), (5, .int (bI (isInQ (kickQ t r true false)))), (3, .long (clockQ r false)), (0, .ref (b 0)), (1, .ref a), (2, .int 0)] []
      refine r_aload_n hC 5 dX6_steps_149 rfl 150 rfl ?_
      refine r_invSr hC [.ref a] (.int (bI (isInQ (driftQ t (kickQ t r true false) false false)))) mSX6_isIn q3096 (metX6_isIn _ _ hG a _) (fun _ h => h.in.sub [4] rfl rfl) ⟨rfl, rfl⟩ 0 0 rfl rfl (Nat.le_of_ble_eq_true rfl) (Nat.le_of_ble_eq_true rfl) rfl (Nat.le_of_ble_eq_true rfl) dX6_steps_150 153 rfl ?_
      refine r_istore hC 5 [(5, .int (bI (isInQ (driftQ t (kickQ t r true false) false false)))), (7, .int 1), (6, .int 1), (3, .long (clockQ r false)), (0, .ref (b 0)), (1, .ref a), (2, .int 0)] dX6_steps_153 (Nat.le_of_ble_eq_true rfl) rfl 155 rfl ?_
      refine r_iinc hC 2 6 2 [(6, .int 2), (5, .int (bI (isInQ (driftQ t (kickQ t r true false) false false)))), (7, .int 1), (3, .long (clockQ r false)), (0, .ref (b 0)), (1, .ref a), (2, .int 0)] dX6_steps_155 rfl (by decide) (Nat.le_of_ble_eq_true rfl) rfl 158 rfl ?_
      refine r_goto hC 64 dX6_steps_158 (by decide) ?_
      refine r_iload hC 0 dX6_steps_64 rfl 66 rfl ?_
      refine r_iconst hC 3 dX6_steps_66 ic_3 67 rfl ?_
      refine r_icge hC 161 dX6_steps_67 (by decide) 70 rfl (fun h => absurd h (by decide)) (fun _ => ?_)
      refine r_iload hC 1 dX6_steps_70 rfl 72 rfl ?_
      refine r_ifeq hC 161 dX6_steps_72 (by decide) 75 rfl (fun c11 => ?_) (fun c11 => ?_)
      · skip
        refine r_iload hC 1 dX6_steps_161 rfl 163 rfl ?_
        refine r_ifeq hC 170 dX6_steps_163 (by decide) 166 rfl (fun _ => ?_) (fun h => absurd (c11) h)
        refine r_iconst hC 0 dX6_steps_170 ic_0 171 rfl ?_
        refine r_istore hC 6 [(6, .int 0), (5, .int (bI (isInQ (driftQ t (kickQ t r true false) false false)))), (7, .int 1), (3, .long (clockQ r false)), (0, .ref (b 0)), (1, .ref a), (2, .int 0)] dX6_steps_171 (Nat.le_of_ble_eq_true rfl) rfl 173 rfl ?_
        refine rn.mono (J := xSt F V0 [(b 0, .inr (5, mF b i j)), (b 7, .inl (1, 5, .inr (.inl t))), (a, .inl (1, 111, .inr (.inl (driftQ t (kickQ t r true false) false false)))), (b 23, .inl (1, 6, .inr (.inl g2))), (b 24, .inl (1, 21, .inr (.inl r)))]) (fun _ h => h.sub [2, 3, 4, 1, 0] rfl rfl) ?_
        refine rn.sub (lv' := [(6, .int 0), (5, .int (bI (isInQ (driftQ t (kickQ t r true false) false false)))), (0, .ref (b 0)), (1, .ref a)]) [0, 1, 4, 5] rfl ?_
        refine rn.mono (J := xSt F V0 [(b 0, .inr (5, mF b i j)), (b 7, .inl (1, 5, .inr (.inl t))), (a, .inl (1, 111, .inr (.inl (va_cpy r (driftQ t (kickQ t r true false) false false) 0 0 0)))), (b 23, .inl (1, 6, .inr (.inl g2))), (b 24, .inl (1, 21, .inr (.inl r)))]) (fun _ h => by rw [cpy_0]; exact h) ?_
        refine lpX6_steps_b hC b i j t a (driftQ t (kickQ t r true false) false false) g2 r (bI (isInQ (driftQ t (kickQ t r true false) false false))) c11 ?_ 21 0 rfl
        refine rn_cellJ (J := xSt F V0 [(b 0, .inr (5, mF b i j)), (b 7, .inl (1, 5, .inr (.inl t))), (a, .inl (1, 111, .inr (.inl r))), (b 23, .inl (1, 6, .inr (.inl g2))), (b 24, .inl (1, 21, .inr (.inl r)))]) (fun _ h => h.get 2 rfl) (fun j hj => cpy_back (by intro j hj; simp only [kick_off hj, drift_off hj])) (fun _ h => h.set 2 _ rfl) ?_
        refine r_iload hC 0 dX6_steps_202 rfl 204 rfl ?_
        have hS : stepQ t r false = none :=
          stepQ_n2 (bI_n0.mp c1) (partO_ok (c := 2) (by simp [partQ, hs0, hs]) (by decide) partA_2 (bI_n0.mp c6)) (partO_no (c := 1) (by simp [partQ, hs0, hs]) (by decide) partA_1 (bI_0.mp c11))
        exact r_zret hC (bI_nar _) (Nat.le_of_ble_eq_true rfl) (Nat.le_of_ble_eq_true rfl) (fun V9 h => hQ _ _ ⟨[(b 0, .inr (5, mF b i j)), (b 7, .inl (1, 5, .inr (.inl t))), (a, .inl (1, 111, .inr (.inl r))), (b 23, .inl (1, 6, .inr (.inl g2))), (b 24, .inl (1, 21, .inr (.inl r)))], ⟨g2, r, by rw [hS, bI_0.mp c11]; rfl, by rw [hS]; rfl⟩, by rw [← hV0, ← hF]; exact h⟩) dX6_steps_204
      · skip
        refine r_aload_n hC 5 dX6_steps_75 rfl 76 rfl ?_
        refine r_iconst hC 1 dX6_steps_76 ic_1 77 rfl ?_
        refine r_lald hC 1 (xix_n 1 (Nat.le_of_ble_eq_true rfl) (Nat.le_of_ble_eq_true rfl)) (fun _ h => h.get 4 rfl) ((driftQ t (kickQ t r true false) false false) 1) (rfl) dX6_steps_77 78 rfl ?_
        refine r_iload_n hC 6 dX6_steps_78 rfl 79 rfl ?_
        refine r_ifeq hC 89 dX6_steps_79 (by decide) 82 rfl (fun _ => ?_) (fun h => absurd h (by decide))
        refine r_iload hC 0 dX6_steps_89 rfl 91 rfl ?_
        refine r_invSr hC [.long ((driftQ t (kickQ t r true false) false false) 1), .int 2] (.int 2) mSX6_partOf q3085 (metX6_partOf2 _ _ hG ((driftQ t (kickQ t r true false) false false) 1) 2 (by simp [partQ, kick_1, drift_1, hs0, hs])) (fun _ _ => xIn.nil) ⟨rfl, rfl⟩ 0 0 rfl rfl (Nat.le_of_ble_eq_true rfl) (Nat.le_of_ble_eq_true rfl) rfl (Nat.le_of_ble_eq_true rfl) dX6_steps_91 94 rfl ?_
        refine r_istore hC 7 [(7, .int 2), (6, .int 2), (5, .int (bI (isInQ (driftQ t (kickQ t r true false) false false)))), (3, .long (clockQ r false)), (0, .ref (b 0)), (1, .ref a), (2, .int 0)] dX6_steps_94 (Nat.le_of_ble_eq_true rfl) rfl 96 rfl ?_
        refine r_iload hC 0 dX6_steps_96 rfl 98 rfl ?_
        refine r_iconst hC (-1) dX6_steps_98 ic_m1 99 rfl ?_
        refine r_icne hC 105 dX6_steps_99 (by decide) 102 rfl (fun _ => ?_) (fun h => absurd h (by decide))
        refine r_iload hC 0 dX6_steps_105 rfl 107 rfl ?_
        refine r_iconst hC 2 dX6_steps_107 ic_2 108 rfl ?_
        refine r_irem hC 0 dX6_steps_108 (by decide) (by decide) 109 rfl ?_
        refine r_ifne hC 132 dX6_steps_109 (by decide) 112 rfl (fun h => absurd h (by decide)) (fun _ => ?_)
        refine r_aload_n hC 4 dX6_steps_112 rfl 113 rfl ?_
        refine r_aload_n hC 5 dX6_steps_113 rfl 114 rfl ?_
        refine r_iload hC 0 dX6_steps_114 rfl 116 rfl ?_
        refine r_iconst hC 2 dX6_steps_116 ic_2 117 rfl ?_
        refine r_icne hC 124 dX6_steps_117 (by decide) 120 rfl (fun h => absurd h (by decide)) (fun _ => ?_)
        refine r_iconst hC 1 dX6_steps_120 ic_1 121 rfl ?_
        refine r_goto hC 125 dX6_steps_121 (by decide) ?_
        refine r_iload_n hC 6 dX6_steps_125 rfl 126 rfl ?_
        refine r_invVw hC kX6 (b 0) [.ref a, .int 1, .int 0] [(b 24, .inl (1, 21, .inr (.inl r)))] mVX6_kicks q3088 2 rfl (metX6_kicks10 _ _ hG b _ _ _ a _ _ (rowOK_of ht (mOK_drift (mOK_kick hm)))) [2, 3, 4, 1] [0] rfl rfl rfl rfl (by decide) ⟨rfl, rfl⟩ 0 0 rfl rfl (Nat.le_of_ble_eq_true rfl) (Nat.le_of_ble_eq_true rfl) rfl (Nat.le_of_ble_eq_true rfl) dX6_steps_126 129 rfl (fun v13 w14 h15 => ?_) (fun _ _ h => h.elim)
        obtain ⟨g12, rfl, rfl⟩ := h15
        show rn C (xSt F V0 [(b 24, .inl (1, 21, .inr (.inl r))), (b 0, .inr (5, mF b i j)), (b 7, .inl (1, 5, .inr (.inl t))), (a, .inl (1, 111, .inr (.inl (kickQ t (driftQ t (kickQ t r true false) false false) true false)))), (b 23, .inl (1, 6, .inr (.inl g12)))]) 0 0 129 [(7, .int 2), (6, .int 2), (5, .int (bI (isInQ (driftQ t (kickQ t r true false) false false)))), (3, .long (clockQ r false)), (0, .ref (b 0)), (1, .ref a), (2, .int 0)] []
        refine r_goto hC 149 dX6_steps_129 (by decide) ?_
        refine r_aload_n hC 5 dX6_steps_149 rfl 150 rfl ?_
        refine r_invSr hC [.ref a] (.int (bI (isInQ (kickQ t (driftQ t (kickQ t r true false) false false) true false)))) mSX6_isIn q3096 (metX6_isIn _ _ hG a _) (fun _ h => h.in.sub [3] rfl rfl) ⟨rfl, rfl⟩ 0 0 rfl rfl (Nat.le_of_ble_eq_true rfl) (Nat.le_of_ble_eq_true rfl) rfl (Nat.le_of_ble_eq_true rfl) dX6_steps_150 153 rfl ?_
        refine r_istore hC 5 [(5, .int (bI (isInQ (kickQ t (driftQ t (kickQ t r true false) false false) true false)))), (7, .int 2), (6, .int 2), (3, .long (clockQ r false)), (0, .ref (b 0)), (1, .ref a), (2, .int 0)] dX6_steps_153 (Nat.le_of_ble_eq_true rfl) rfl 155 rfl ?_
        refine r_iinc hC 3 6 2 [(6, .int 3), (5, .int (bI (isInQ (kickQ t (driftQ t (kickQ t r true false) false false) true false)))), (7, .int 2), (3, .long (clockQ r false)), (0, .ref (b 0)), (1, .ref a), (2, .int 0)] dX6_steps_155 rfl (by decide) (Nat.le_of_ble_eq_true rfl) rfl 158 rfl ?_
        refine r_goto hC 64 dX6_steps_158 (by decide) ?_
        refine r_iload hC 0 dX6_steps_64 rfl 66 rfl ?_
        refine r_iconst hC 3 dX6_steps_66 ic_3 67 rfl ?_
        refine r_icge hC 161 dX6_steps_67 (by decide) 70 rfl (fun _ => ?_) (fun h => absurd h (by decide))
        refine r_iload hC 1 dX6_steps_161 rfl 163 rfl ?_
        refine r_ifeq hC 170 dX6_steps_163 (by decide) 166 rfl (fun c16 => ?_) (fun c16 => ?_)
        · skip
          refine r_iconst hC 0 dX6_steps_170 ic_0 171 rfl ?_
          refine r_istore hC 6 [(6, .int 0), (5, .int (bI (isInQ (kickQ t (driftQ t (kickQ t r true false) false false) true false)))), (7, .int 2), (3, .long (clockQ r false)), (0, .ref (b 0)), (1, .ref a), (2, .int 0)] dX6_steps_171 (Nat.le_of_ble_eq_true rfl) rfl 173 rfl ?_
          refine rn.mono (J := xSt F V0 [(b 0, .inr (5, mF b i j)), (b 7, .inl (1, 5, .inr (.inl t))), (a, .inl (1, 111, .inr (.inl (kickQ t (driftQ t (kickQ t r true false) false false) true false)))), (b 23, .inl (1, 6, .inr (.inl g12))), (b 24, .inl (1, 21, .inr (.inl r)))]) (fun _ h => h.sub [1, 2, 3, 4, 0] rfl rfl) ?_
          refine rn.sub (lv' := [(6, .int 0), (5, .int (bI (isInQ (kickQ t (driftQ t (kickQ t r true false) false false) true false)))), (0, .ref (b 0)), (1, .ref a)]) [0, 1, 4, 5] rfl ?_
          refine rn.mono (J := xSt F V0 [(b 0, .inr (5, mF b i j)), (b 7, .inl (1, 5, .inr (.inl t))), (a, .inl (1, 111, .inr (.inl (va_cpy r (kickQ t (driftQ t (kickQ t r true false) false false) true false) 0 0 0)))), (b 23, .inl (1, 6, .inr (.inl g12))), (b 24, .inl (1, 21, .inr (.inl r)))]) (fun _ h => by rw [cpy_0]; exact h) ?_
          refine lpX6_steps_b hC b i j t a (kickQ t (driftQ t (kickQ t r true false) false false) true false) g12 r (bI (isInQ (kickQ t (driftQ t (kickQ t r true false) false false) true false))) c16 ?_ 21 0 rfl
          refine rn_cellJ (J := xSt F V0 [(b 0, .inr (5, mF b i j)), (b 7, .inl (1, 5, .inr (.inl t))), (a, .inl (1, 111, .inr (.inl r))), (b 23, .inl (1, 6, .inr (.inl g12))), (b 24, .inl (1, 21, .inr (.inl r)))]) (fun _ h => h.get 2 rfl) (fun j hj => cpy_back (by intro j hj; simp only [kick_off hj, drift_off hj])) (fun _ h => h.set 2 _ rfl) ?_
          refine r_iload hC 0 dX6_steps_202 rfl 204 rfl ?_
          have hS : stepQ t r false = none :=
            stepQ_n3 (bI_n0.mp c1) (partO_ok (c := 2) (by simp [partQ, hs0, hs]) (by decide) partA_2 (bI_n0.mp c6)) (partO_ok (c := 1) (by simp [partQ, hs0, hs]) (by decide) partA_1 (bI_n0.mp c11)) (partO_no (c := 2) (by simp [partQ, hs0, hs]) (by decide) partA_2 (bI_0.mp c16))
          exact r_zret hC (bI_nar _) (Nat.le_of_ble_eq_true rfl) (Nat.le_of_ble_eq_true rfl) (fun V9 h => hQ _ _ ⟨[(b 0, .inr (5, mF b i j)), (b 7, .inl (1, 5, .inr (.inl t))), (a, .inl (1, 111, .inr (.inl r))), (b 23, .inl (1, 6, .inr (.inl g12))), (b 24, .inl (1, 21, .inr (.inl r)))], ⟨g12, r, by rw [hS, bI_0.mp c16]; rfl, by rw [hS]; rfl⟩, by rw [← hV0, ← hF]; exact h⟩) dX6_steps_204
        · skip
          refine r_aload_n hC 5 dX6_steps_166 rfl 167 rfl ?_
          refine r_iconst hC 0 dX6_steps_167 ic_0 168 rfl ?_
          refine r_lload_n hC 3 dX6_steps_168 rfl 169 rfl ?_
          refine r_last (J := xSt F V0 [(b 24, .inl (1, 21, .inr (.inl r))), (b 0, .inr (5, mF b i j)), (b 7, .inl (1, 5, .inr (.inl t))), (a, .inl (1, 111, .inr (.inl (va_up (kickQ t (driftQ t (kickQ t r true false) false false) true false) 0 (clockQ r false))))), (b 23, .inl (1, 6, .inr (.inl g12)))]) hC 0 (xix_n 0 (Nat.le_of_ble_eq_true rfl) (Nat.le_of_ble_eq_true rfl)) (fun _ h => h.get 3 rfl) dX6_steps_169 (fun _ h => h.set 3 _ rfl) 170 rfl ?_
          generalize hu17 : va_up (kickQ t (driftQ t (kickQ t r true false) false false) true false) 0 (clockQ r false) = u17
          refine r_iconst hC 0 dX6_steps_170 ic_0 171 rfl ?_
          refine r_istore hC 6 [(6, .int 0), (5, .int (bI (isInQ (kickQ t (driftQ t (kickQ t r true false) false false) true false)))), (7, .int 2), (3, .long (clockQ r false)), (0, .ref (b 0)), (1, .ref a), (2, .int 0)] dX6_steps_171 (Nat.le_of_ble_eq_true rfl) rfl 173 rfl ?_
          refine r_iload hC 0 dX6_steps_173 rfl 175 rfl ?_
          refine r_bipush hC 21 dX6_steps_175 bp_21 177 rfl ?_
          refine r_icge hC 202 dX6_steps_177 (by decide) 180 rfl (fun h => absurd h (by decide)) (fun _ => ?_)
          refine r_iload hC 1 dX6_steps_180 rfl 182 rfl ?_
          refine r_ifne hC 202 dX6_steps_182 (by decide) 185 rfl (fun _ => ?_) (fun h => absurd h (c16))
          refine r_iload hC 1 dX6_steps_202 rfl 204 rfl ?_
          subst hu17
          have hS : stepQ t r false = some (va_up (kickQ t (driftQ t (kickQ t r true false) false false) true false) 0 (clockQ r false)) :=
            stepQ_ok (bI_n0.mp c1) (partO_ok (c := 2) (by simp [partQ, hs0, hs]) (by decide) partA_2 (bI_n0.mp c6)) (partO_ok (c := 1) (by simp [partQ, hs0, hs]) (by decide) partA_1 (bI_n0.mp c11)) (partO_ok (c := 2) (by simp [partQ, hs0, hs]) (by decide) partA_2 (bI_n0.mp c16))
          exact r_zret hC (bI_nar _) (Nat.le_of_ble_eq_true rfl) (Nat.le_of_ble_eq_true rfl) (fun V9 h => hQ _ _ ⟨[(b 0, .inr (5, mF b i j)), (b 7, .inl (1, 5, .inr (.inl t))), (a, .inl (1, 111, .inr (.inl (va_up (kickQ t (driftQ t (kickQ t r true false) false false) true false) 0 (clockQ r false))))), (b 23, .inl (1, 6, .inr (.inl g12))), (b 24, .inl (1, 21, .inr (.inl r)))], ⟨g12, r, by rw [hS, bI_n0.mp c16]; rfl, by rw [hS]; rfl⟩, by rw [← hV0, ← hF]; exact (h.sub [1, 2, 3, 4, 0] rfl rfl)⟩) dX6_steps_204
  · skip
    refine r_iconst hC 0 dX6_steps_29 ic_0 30 rfl ?_
    have hS : stepQ t r false = none :=
      stepQ_n0 (bI_0.mp c1)
    exact r_zret hC (by decide) (Nat.le_of_ble_eq_true rfl) (Nat.le_of_ble_eq_true rfl) (fun V9 h => hQ _ _ ⟨[(b 0, .inr (5, mF b i j)), (b 7, .inl (1, 5, .inr (.inl t))), (a, .inl (1, 111, .inr (.inl r))), (b 23, .inl (1, 6, .inr (.inl g))), (b 24, .inl (1, 21, .inr (.inl h0)))], ⟨g, h0, by rw [hS]; rfl, by rw [hS]; rfl⟩, by rw [← hV0, ← hF]; exact h⟩) dX6_steps_30
set_option maxHeartbeats 4000000 in
set_option maxRecDepth 100000 in
theorem metX6_steps10 (l : Launch) (G : xG) (hG : xGood G) (b : Nat → Nat) (i : Nat → Int32) (j : Nat → Int64) (t : Nat → Int64) (a : Nat) (r : Nat → Int64) (g h0 : Nat → Int64) (ht : tOK t) (hm : mOK r) (hs : r 1 = 0) : xWm l G yX6_steps (Cond.code yX6_steps cX6_steps 8 (some .boolean)) { frames := 6, locals := 151, cells := 0, slots := 0 } [.ref (b 0), .ref a, .int 1] [(b 0, .inr (5, mF b i j)), (b 7, .inl (1, 5, .inr (.inl t))), (a, .inl (1, 111, .inr (.inl r))), (b 23, .inl (1, 6, .inr (.inl g))), (b 24, .inl (1, 21, .inr (.inl h0)))] (fun v w' => ∃ g' h' : Nat → Int64, v = some (.int (bI (stepQ t r true).isSome)) ∧ w' = [(b 0, .inr (5, mF b i j)), (b 7, .inl (1, 5, .inr (.inl t))), (a, .inl (1, 111, .inr (.inl ((stepQ t r true).getD r)))), (b 23, .inl (1, 6, .inr (.inl g'))), (b 24, .inl (1, 21, .inr (.inl h')))]) (fun _ _ => False) := by
  intro V hV
  refine xMet_of RX6 hG rfl (by decide) (Nat.le_of_ble_eq_true rfl) fun C hC hQ hX hl hg _ => ?_
  subst hl hg
  obtain ⟨V0, hV0⟩ : ∃ V0, V0 = V := ⟨_, rfl⟩
  obtain ⟨F, hF⟩ : ∃ F, F = xF [(b 0, .inr (5, mF b i j)), (b 7, .inl (1, 5, .inr (.inl t))), (a, .inl (1, 111, .inr (.inl r))), (b 23, .inl (1, 6, .inr (.inl g))), (b 24, .inl (1, 21, .inr (.inl h0)))] := ⟨_, rfl⟩
  refine rn.mono (J := xSt F V0 [(b 0, .inr (5, mF b i j)), (b 7, .inl (1, 5, .inr (.inl t))), (a, .inl (1, 111, .inr (.inl r))), (b 23, .inl (1, 6, .inr (.inl g))), (b 24, .inl (1, 21, .inr (.inl h0)))]) (fun V9 h => by rw [h, hV0, hF]; exact hV.st) ?_
  show rn C (xSt F V0 [(b 0, .inr (5, mF b i j)), (b 7, .inl (1, 5, .inr (.inl t))), (a, .inl (1, 111, .inr (.inl r))), (b 23, .inl (1, 6, .inr (.inl g))), (b 24, .inl (1, 21, .inr (.inl h0)))]) 0 0 0 [(0, .ref (b 0)), (1, .ref a), (2, .int 1)] []
  refine r_aload_n hC 1 dX6_steps_0 rfl 1 rfl ?_
  refine r_iconst hC 0 dX6_steps_1 ic_0 2 rfl ?_
  refine r_lald hC 0 (xix_n 0 (Nat.le_of_ble_eq_true rfl) (Nat.le_of_ble_eq_true rfl)) (fun _ h => h.get 2 rfl) (r 0) (rfl) dX6_steps_2 3 rfl ?_
  refine r_iload_n hC 2 dX6_steps_3 rfl 4 rfl ?_
  refine r_ifeq hC 13 dX6_steps_4 (by decide) 7 rfl (fun h => absurd h (by decide)) (fun _ => ?_)
  refine r_ldc2 hC q3082 dX6_steps_7 10 rfl ?_
  refine r_goto hC 14 dX6_steps_10 (by decide) ?_
  refine r_ladd hC (clockQ r true) dX6_steps_14  (rfl) 15 rfl ?_
  refine r_lstore_n hC 3 [(3, .long (clockQ r true)), (0, .ref (b 0)), (1, .ref a), (2, .int 1)] dX6_steps_15 rfl (Nat.le_of_ble_eq_true rfl) rfl 16 rfl ?_
  refine r_lload_n hC 0 dX6_steps_16 rfl 17 rfl ?_
  refine r_ldc2 hC q3083 dX6_steps_17 20 rfl ?_
  refine r_ldc2 hC q3084 dX6_steps_20 23 rfl ?_
  refine r_invSr hC [.long (clockQ r true), .long (-1000000), .long 1000000] (.int (bI (m_in (clockQ r true) (-1000000) 1000000))) mSX6_in q2891 (metX6_in _ _ hG (clockQ r true) (-1000000) 1000000) (fun _ _ => xIn.nil) ⟨rfl, rfl⟩ 0 0 rfl rfl (Nat.le_of_ble_eq_true rfl) (Nat.le_of_ble_eq_true rfl) rfl (Nat.le_of_ble_eq_true rfl) dX6_steps_23 26 rfl ?_
  refine r_ifne hC 31 dX6_steps_26 (by decide) 29 rfl (fun c1 => ?_) (fun c1 => ?_)
  · skip
    refine r_iconst hC 0 dX6_steps_31 ic_0 32 rfl ?_
    refine r_istore hC 5 [(5, .int 0), (3, .long (clockQ r true)), (0, .ref (b 0)), (1, .ref a), (2, .int 1)] dX6_steps_32 (Nat.le_of_ble_eq_true rfl) rfl 34 rfl ?_
    refine rn.sub (lv' := [(5, .int 0), (3, .long (clockQ r true)), (0, .ref (b 0)), (1, .ref a), (2, .int 1)]) [0, 1, 2, 3, 4] rfl ?_
    refine rn.mono (J := xSt F V0 [(b 0, .inr (5, mF b i j)), (b 7, .inl (1, 5, .inr (.inl t))), (a, .inl (1, 111, .inr (.inl r))), (b 23, .inl (1, 6, .inr (.inl g))), (b 24, .inl (1, 21, .inr (.inl (va_cpy r h0 0 0 0))))]) (fun _ h => by rw [cpy_0]; exact h) ?_
    refine lpX6_steps_a hC b i j t a r g h0 (clockQ r true) 1 ?_ 21 0 rfl
    refine rn_cellJ (J := xSt F V0 [(b 0, .inr (5, mF b i j)), (b 7, .inl (1, 5, .inr (.inl t))), (a, .inl (1, 111, .inr (.inl r))), (b 23, .inl (1, 6, .inr (.inl g))), (b 24, .inl (1, 21, .inr (.inl r)))]) (fun _ h => h.get 4 rfl) (fun j hj => (cpy_in (by omega) (by omega)).trans (by congr 1; omega)) (fun _ h => h.set 4 _ rfl) ?_
    refine r_iconst hC 1 dX6_steps_58 ic_1 59 rfl ?_
    refine r_istore hC 5 [(5, .int 1), (3, .long (clockQ r true)), (0, .ref (b 0)), (1, .ref a), (2, .int 1)] dX6_steps_59 (Nat.le_of_ble_eq_true rfl) rfl 61 rfl ?_
    refine r_iconst hC 0 dX6_steps_61 ic_0 62 rfl ?_
    refine r_istore hC 6 [(6, .int 0), (5, .int 1), (3, .long (clockQ r true)), (0, .ref (b 0)), (1, .ref a), (2, .int 1)] dX6_steps_62 (Nat.le_of_ble_eq_true rfl) rfl 64 rfl ?_
    refine r_iload hC 0 dX6_steps_64 rfl 66 rfl ?_
    refine r_iconst hC 3 dX6_steps_66 ic_3 67 rfl ?_
    refine r_icge hC 161 dX6_steps_67 (by decide) 70 rfl (fun h => absurd h (by decide)) (fun _ => ?_)
    refine r_iload hC 1 dX6_steps_70 rfl 72 rfl ?_
    refine r_ifeq hC 161 dX6_steps_72 (by decide) 75 rfl (fun h => absurd h (by decide)) (fun _ => ?_)
    refine r_aload_n hC 4 dX6_steps_75 rfl 76 rfl ?_
    refine r_iconst hC 1 dX6_steps_76 ic_1 77 rfl ?_
    refine r_lald hC 1 (xix_n 1 (Nat.le_of_ble_eq_true rfl) (Nat.le_of_ble_eq_true rfl)) (fun _ h => h.get 2 rfl) (r 1) (rfl) dX6_steps_77 78 rfl ?_
    refine r_iload_n hC 5 dX6_steps_78 rfl 79 rfl ?_
    refine r_ifeq hC 89 dX6_steps_79 (by decide) 82 rfl (fun h => absurd h (by decide)) (fun _ => ?_)
    refine r_iconst hC 2 dX6_steps_82 ic_2 83 rfl ?_
    refine r_iload hC 0 dX6_steps_83 rfl 85 rfl ?_
    refine r_isub hC 2 dX6_steps_85  (by decide) 86 rfl ?_
    refine r_goto hC 91 dX6_steps_86 (by decide) ?_
    refine r_invSr hC [.long (r 1), .int 2] (.int (-1)) mSX6_partOf q3085 (metX6_partOf2 _ _ hG (r 1) (-1) (by simp [partQ, kick_1, drift_1, hs])) (fun _ _ => xIn.nil) ⟨rfl, rfl⟩ 0 0 rfl rfl (Nat.le_of_ble_eq_true rfl) (Nat.le_of_ble_eq_true rfl) rfl (Nat.le_of_ble_eq_true rfl) dX6_steps_91 94 rfl ?_
    refine r_istore hC 7 [(7, .int (-1)), (6, .int 0), (5, .int 1), (3, .long (clockQ r true)), (0, .ref (b 0)), (1, .ref a), (2, .int 1)] dX6_steps_94 (Nat.le_of_ble_eq_true rfl) rfl 96 rfl ?_
    refine r_iload hC 0 dX6_steps_96 rfl 98 rfl ?_
    refine r_iconst hC (-1) dX6_steps_98 ic_m1 99 rfl ?_
    refine r_icne hC 105 dX6_steps_99 (by decide) 102 rfl (fun h => absurd h (by decide)) (fun _ => ?_)
    refine r_goto hC 155 dX6_steps_102 (by decide) ?_
    refine r_iinc hC 1 6 1 [(6, .int 1), (7, .int (-1)), (5, .int 1), (3, .long (clockQ r true)), (0, .ref (b 0)), (1, .ref a), (2, .int 1)] dX6_steps_155 rfl (by decide) (Nat.le_of_ble_eq_true rfl) rfl 158 rfl ?_
    refine r_goto hC 64 dX6_steps_158 (by decide) ?_
    refine r_iload hC 0 dX6_steps_64 rfl 66 rfl ?_
    refine r_iconst hC 3 dX6_steps_66 ic_3 67 rfl ?_
    refine r_icge hC 161 dX6_steps_67 (by decide) 70 rfl (fun h => absurd h (by decide)) (fun _ => ?_)
    refine r_iload hC 2 dX6_steps_70 rfl 72 rfl ?_
    refine r_ifeq hC 161 dX6_steps_72 (by decide) 75 rfl (fun h => absurd h (by decide)) (fun _ => ?_)
    refine r_aload_n hC 5 dX6_steps_75 rfl 76 rfl ?_
    refine r_iconst hC 1 dX6_steps_76 ic_1 77 rfl ?_
    refine r_lald hC 1 (xix_n 1 (Nat.le_of_ble_eq_true rfl) (Nat.le_of_ble_eq_true rfl)) (fun _ h => h.get 2 rfl) (r 1) (rfl) dX6_steps_77 78 rfl ?_
    refine r_iload_n hC 6 dX6_steps_78 rfl 79 rfl ?_
    refine r_ifeq hC 89 dX6_steps_79 (by decide) 82 rfl (fun h => absurd h (by decide)) (fun _ => ?_)
    refine r_iconst hC 2 dX6_steps_82 ic_2 83 rfl ?_
    refine r_iload hC 0 dX6_steps_83 rfl 85 rfl ?_
    refine r_isub hC 1 dX6_steps_85  (by decide) 86 rfl ?_
    refine r_goto hC 91 dX6_steps_86 (by decide) ?_
    refine r_invSr hC [.long (r 1), .int 1] (.int 1) mSX6_partOf q3085 (metX6_partOf1 _ _ hG (r 1) 1 (by simp [partQ, kick_1, drift_1, hs])) (fun _ _ => xIn.nil) ⟨rfl, rfl⟩ 0 0 rfl rfl (Nat.le_of_ble_eq_true rfl) (Nat.le_of_ble_eq_true rfl) rfl (Nat.le_of_ble_eq_true rfl) dX6_steps_91 94 rfl ?_
    refine r_istore hC 7 [(7, .int 1), (6, .int 1), (5, .int 1), (3, .long (clockQ r true)), (0, .ref (b 0)), (1, .ref a), (2, .int 1)] dX6_steps_94 (Nat.le_of_ble_eq_true rfl) rfl 96 rfl ?_
    refine r_iload hC 0 dX6_steps_96 rfl 98 rfl ?_
    refine r_iconst hC (-1) dX6_steps_98 ic_m1 99 rfl ?_
    refine r_icne hC 105 dX6_steps_99 (by decide) 102 rfl (fun _ => ?_) (fun h => absurd h (by decide))
    refine r_iload hC 0 dX6_steps_105 rfl 107 rfl ?_
    refine r_iconst hC 2 dX6_steps_107 ic_2 108 rfl ?_
    refine r_irem hC 1 dX6_steps_108 (by decide) (by decide) 109 rfl ?_
    refine r_ifne hC 132 dX6_steps_109 (by decide) 112 rfl (fun _ => ?_) (fun h => absurd h (by decide))
    refine r_aload_n hC 4 dX6_steps_132 rfl 133 rfl ?_
    refine r_aload_n hC 5 dX6_steps_133 rfl 134 rfl ?_
    refine r_iload hC 0 dX6_steps_134 rfl 136 rfl ?_
    refine r_iconst hC 3 dX6_steps_136 ic_3 137 rfl ?_
    refine r_icne hC 144 dX6_steps_137 (by decide) 140 rfl (fun _ => ?_) (fun h => absurd h (by decide))
    refine r_iconst hC 0 dX6_steps_144 ic_0 145 rfl ?_
    refine r_iload_n hC 6 dX6_steps_145 rfl 146 rfl ?_
    refine r_invVw hC kX6 (b 0) [.ref a, .int 0, .int 1] [(b 23, .inl (1, 6, .inr (.inl g))), (b 24, .inl (1, 21, .inr (.inl r)))] mVX6_drifts q3092 0 rfl (metX6_drifts01 _ _ hG b _ _ _ a _ (rowOK_of ht hm)) [0, 1, 2] [3, 4] rfl rfl rfl rfl (by decide) ⟨rfl, rfl⟩ 0 0 rfl rfl (Nat.le_of_ble_eq_true rfl) (Nat.le_of_ble_eq_true rfl) rfl (Nat.le_of_ble_eq_true rfl) dX6_steps_146 149 rfl (fun v3 w4 h5 => ?_) (fun _ _ h => h.elim)
    obtain ⟨rfl, rfl⟩ := h5
    show rn C (xSt F V0 [(b 23, .inl (1, 6, .inr (.inl g))), (b 24, .inl (1, 21, .inr (.inl r))), (b 0, .inr (5, mF b i j)), (b 7, .inl (1, 5, .inr (.inl t))), (a, .inl (1, 111, .inr (.inl (driftQ t r false true))))]) 0 0 149 [(7, .int 1), (6, .int 1), (5, .int 1), (3, .long (clockQ r true)), (0, .ref (b 0)), (1, .ref a), (2, .int 1)] []
    refine r_aload_n hC 5 dX6_steps_149 rfl 150 rfl ?_
    refine r_invSr hC [.ref a] (.int (bI (isInQ (driftQ t r false true)))) mSX6_isIn q3096 (metX6_isIn _ _ hG a _) (fun _ h => h.in.sub [4] rfl rfl) ⟨rfl, rfl⟩ 0 0 rfl rfl (Nat.le_of_ble_eq_true rfl) (Nat.le_of_ble_eq_true rfl) rfl (Nat.le_of_ble_eq_true rfl) dX6_steps_150 153 rfl ?_
    refine r_istore hC 5 [(5, .int (bI (isInQ (driftQ t r false true)))), (7, .int 1), (6, .int 1), (3, .long (clockQ r true)), (0, .ref (b 0)), (1, .ref a), (2, .int 1)] dX6_steps_153 (Nat.le_of_ble_eq_true rfl) rfl 155 rfl ?_
    refine r_iinc hC 2 6 2 [(6, .int 2), (5, .int (bI (isInQ (driftQ t r false true)))), (7, .int 1), (3, .long (clockQ r true)), (0, .ref (b 0)), (1, .ref a), (2, .int 1)] dX6_steps_155 rfl (by decide) (Nat.le_of_ble_eq_true rfl) rfl 158 rfl ?_
    refine r_goto hC 64 dX6_steps_158 (by decide) ?_
    refine r_iload hC 0 dX6_steps_64 rfl 66 rfl ?_
    refine r_iconst hC 3 dX6_steps_66 ic_3 67 rfl ?_
    refine r_icge hC 161 dX6_steps_67 (by decide) 70 rfl (fun h => absurd h (by decide)) (fun _ => ?_)
    refine r_iload hC 1 dX6_steps_70 rfl 72 rfl ?_
    refine r_ifeq hC 161 dX6_steps_72 (by decide) 75 rfl (fun c6 => ?_) (fun c6 => ?_)
    · skip
      refine r_iload hC 1 dX6_steps_161 rfl 163 rfl ?_
      refine r_ifeq hC 170 dX6_steps_163 (by decide) 166 rfl (fun _ => ?_) (fun h => absurd (c6) h)
      refine r_iconst hC 0 dX6_steps_170 ic_0 171 rfl ?_
      refine r_istore hC 6 [(6, .int 0), (5, .int (bI (isInQ (driftQ t r false true)))), (7, .int 1), (3, .long (clockQ r true)), (0, .ref (b 0)), (1, .ref a), (2, .int 1)] dX6_steps_171 (Nat.le_of_ble_eq_true rfl) rfl 173 rfl ?_
      refine rn.mono (J := xSt F V0 [(b 0, .inr (5, mF b i j)), (b 7, .inl (1, 5, .inr (.inl t))), (a, .inl (1, 111, .inr (.inl (driftQ t r false true)))), (b 23, .inl (1, 6, .inr (.inl g))), (b 24, .inl (1, 21, .inr (.inl r)))]) (fun _ h => h.sub [2, 3, 4, 0, 1] rfl rfl) ?_
      refine rn.sub (lv' := [(6, .int 0), (5, .int (bI (isInQ (driftQ t r false true)))), (0, .ref (b 0)), (1, .ref a)]) [0, 1, 4, 5] rfl ?_
      refine rn.mono (J := xSt F V0 [(b 0, .inr (5, mF b i j)), (b 7, .inl (1, 5, .inr (.inl t))), (a, .inl (1, 111, .inr (.inl (va_cpy r (driftQ t r false true) 0 0 0)))), (b 23, .inl (1, 6, .inr (.inl g))), (b 24, .inl (1, 21, .inr (.inl r)))]) (fun _ h => by rw [cpy_0]; exact h) ?_
      refine lpX6_steps_b hC b i j t a (driftQ t r false true) g r (bI (isInQ (driftQ t r false true))) c6 ?_ 21 0 rfl
      refine rn_cellJ (J := xSt F V0 [(b 0, .inr (5, mF b i j)), (b 7, .inl (1, 5, .inr (.inl t))), (a, .inl (1, 111, .inr (.inl r))), (b 23, .inl (1, 6, .inr (.inl g))), (b 24, .inl (1, 21, .inr (.inl r)))]) (fun _ h => h.get 2 rfl) (fun j hj => cpy_back (by intro j hj; simp only [kick_off hj, drift_off hj])) (fun _ h => h.set 2 _ rfl) ?_
      refine r_iload hC 0 dX6_steps_202 rfl 204 rfl ?_
      have hS : stepQ t r true = none :=
        stepQ_n2 (bI_n0.mp c1) (partO_skip (by simp [partQ, hs])) (partO_no (c := 1) (by simp [partQ, hs]) (by decide) partA_1 (bI_0.mp c6))
      exact r_zret hC (bI_nar _) (Nat.le_of_ble_eq_true rfl) (Nat.le_of_ble_eq_true rfl) (fun V9 h => hQ _ _ ⟨[(b 0, .inr (5, mF b i j)), (b 7, .inl (1, 5, .inr (.inl t))), (a, .inl (1, 111, .inr (.inl r))), (b 23, .inl (1, 6, .inr (.inl g))), (b 24, .inl (1, 21, .inr (.inl r)))], ⟨g, r, by rw [hS, bI_0.mp c6]; rfl, by rw [hS]; rfl⟩, by rw [← hV0, ← hF]; exact h⟩) dX6_steps_204
    · skip
      refine r_aload_n hC 5 dX6_steps_75 rfl 76 rfl ?_
      refine r_iconst hC 1 dX6_steps_76 ic_1 77 rfl ?_
      refine r_lald hC 1 (xix_n 1 (Nat.le_of_ble_eq_true rfl) (Nat.le_of_ble_eq_true rfl)) (fun _ h => h.get 4 rfl) ((driftQ t r false true) 1) (rfl) dX6_steps_77 78 rfl ?_
      refine r_iload_n hC 6 dX6_steps_78 rfl 79 rfl ?_
      refine r_ifeq hC 89 dX6_steps_79 (by decide) 82 rfl (fun h => absurd h (by decide)) (fun _ => ?_)
      refine r_iconst hC 2 dX6_steps_82 ic_2 83 rfl ?_
      refine r_iload hC 0 dX6_steps_83 rfl 85 rfl ?_
      refine r_isub hC 0 dX6_steps_85  (by decide) 86 rfl ?_
      refine r_goto hC 91 dX6_steps_86 (by decide) ?_
      refine r_invSr hC [.long ((driftQ t r false true) 1), .int 0] (.int 0) mSX6_partOf q3085 (metX6_partOf0 _ _ hG ((driftQ t r false true) 1) 0 (by simp [partQ, kick_1, drift_1, hs])) (fun _ _ => xIn.nil) ⟨rfl, rfl⟩ 0 0 rfl rfl (Nat.le_of_ble_eq_true rfl) (Nat.le_of_ble_eq_true rfl) rfl (Nat.le_of_ble_eq_true rfl) dX6_steps_91 94 rfl ?_
      refine r_istore hC 7 [(7, .int 0), (6, .int 2), (5, .int (bI (isInQ (driftQ t r false true)))), (3, .long (clockQ r true)), (0, .ref (b 0)), (1, .ref a), (2, .int 1)] dX6_steps_94 (Nat.le_of_ble_eq_true rfl) rfl 96 rfl ?_
      refine r_iload hC 0 dX6_steps_96 rfl 98 rfl ?_
      refine r_iconst hC (-1) dX6_steps_98 ic_m1 99 rfl ?_
      refine r_icne hC 105 dX6_steps_99 (by decide) 102 rfl (fun _ => ?_) (fun h => absurd h (by decide))
      refine r_iload hC 0 dX6_steps_105 rfl 107 rfl ?_
      refine r_iconst hC 2 dX6_steps_107 ic_2 108 rfl ?_
      refine r_irem hC 0 dX6_steps_108 (by decide) (by decide) 109 rfl ?_
      refine r_ifne hC 132 dX6_steps_109 (by decide) 112 rfl (fun h => absurd h (by decide)) (fun _ => ?_)
      refine r_aload_n hC 4 dX6_steps_112 rfl 113 rfl ?_
      refine r_aload_n hC 5 dX6_steps_113 rfl 114 rfl ?_
      refine r_iload hC 0 dX6_steps_114 rfl 116 rfl ?_
      refine r_iconst hC 2 dX6_steps_116 ic_2 117 rfl ?_
      refine r_icne hC 124 dX6_steps_117 (by decide) 120 rfl (fun _ => ?_) (fun h => absurd h (by decide))
      refine r_iconst hC 0 dX6_steps_124 ic_0 125 rfl ?_
      refine r_iload_n hC 6 dX6_steps_125 rfl 126 rfl ?_
      refine r_invVw hC kX6 (b 0) [.ref a, .int 0, .int 1] [(b 24, .inl (1, 21, .inr (.inl r)))] mVX6_kicks q3088 2 rfl (metX6_kicks01 _ _ hG b _ _ _ a _ _ (rowOK_of ht (mOK_drift hm))) [2, 3, 4, 0] [1] rfl rfl rfl rfl (by decide) ⟨rfl, rfl⟩ 0 0 rfl rfl (Nat.le_of_ble_eq_true rfl) (Nat.le_of_ble_eq_true rfl) rfl (Nat.le_of_ble_eq_true rfl) dX6_steps_126 129 rfl (fun v8 w9 h10 => ?_) (fun _ _ h => h.elim)
      obtain ⟨g7, rfl, rfl⟩ := h10
      show rn C (xSt F V0 [(b 24, .inl (1, 21, .inr (.inl r))), (b 0, .inr (5, mF b i j)), (b 7, .inl (1, 5, .inr (.inl t))), (a, .inl (1, 111, .inr (.inl (kickQ t (driftQ t r false true) false true)))), (b 23, .inl (1, 6, .inr (.inl g7)))]) 0 0 129 [(7, .int 0), (6, .int 2), (5, .int (bI (isInQ (driftQ t r false true)))), (3, .long (clockQ r true)), (0, .ref (b 0)), (1, .ref a), (2, .int 1)] []
      refine r_goto hC 149 dX6_steps_129 (by decide) ?_
      refine r_aload_n hC 5 dX6_steps_149 rfl 150 rfl ?_
      refine r_invSr hC [.ref a] (.int (bI (isInQ (kickQ t (driftQ t r false true) false true)))) mSX6_isIn q3096 (metX6_isIn _ _ hG a _) (fun _ h => h.in.sub [3] rfl rfl) ⟨rfl, rfl⟩ 0 0 rfl rfl (Nat.le_of_ble_eq_true rfl) (Nat.le_of_ble_eq_true rfl) rfl (Nat.le_of_ble_eq_true rfl) dX6_steps_150 153 rfl ?_
      refine r_istore hC 5 [(5, .int (bI (isInQ (kickQ t (driftQ t r false true) false true)))), (7, .int 0), (6, .int 2), (3, .long (clockQ r true)), (0, .ref (b 0)), (1, .ref a), (2, .int 1)] dX6_steps_153 (Nat.le_of_ble_eq_true rfl) rfl 155 rfl ?_
      refine r_iinc hC 3 6 2 [(6, .int 3), (5, .int (bI (isInQ (kickQ t (driftQ t r false true) false true)))), (7, .int 0), (3, .long (clockQ r true)), (0, .ref (b 0)), (1, .ref a), (2, .int 1)] dX6_steps_155 rfl (by decide) (Nat.le_of_ble_eq_true rfl) rfl 158 rfl ?_
      refine r_goto hC 64 dX6_steps_158 (by decide) ?_
      refine r_iload hC 0 dX6_steps_64 rfl 66 rfl ?_
      refine r_iconst hC 3 dX6_steps_66 ic_3 67 rfl ?_
      refine r_icge hC 161 dX6_steps_67 (by decide) 70 rfl (fun _ => ?_) (fun h => absurd h (by decide))
      refine r_iload hC 1 dX6_steps_161 rfl 163 rfl ?_
      refine r_ifeq hC 170 dX6_steps_163 (by decide) 166 rfl (fun c11 => ?_) (fun c11 => ?_)
      · skip
        refine r_iconst hC 0 dX6_steps_170 ic_0 171 rfl ?_
        refine r_istore hC 6 [(6, .int 0), (5, .int (bI (isInQ (kickQ t (driftQ t r false true) false true)))), (7, .int 0), (3, .long (clockQ r true)), (0, .ref (b 0)), (1, .ref a), (2, .int 1)] dX6_steps_171 (Nat.le_of_ble_eq_true rfl) rfl 173 rfl ?_
        refine rn.mono (J := xSt F V0 [(b 0, .inr (5, mF b i j)), (b 7, .inl (1, 5, .inr (.inl t))), (a, .inl (1, 111, .inr (.inl (kickQ t (driftQ t r false true) false true)))), (b 23, .inl (1, 6, .inr (.inl g7))), (b 24, .inl (1, 21, .inr (.inl r)))]) (fun _ h => h.sub [1, 2, 3, 4, 0] rfl rfl) ?_
        refine rn.sub (lv' := [(6, .int 0), (5, .int (bI (isInQ (kickQ t (driftQ t r false true) false true)))), (0, .ref (b 0)), (1, .ref a)]) [0, 1, 4, 5] rfl ?_
        refine rn.mono (J := xSt F V0 [(b 0, .inr (5, mF b i j)), (b 7, .inl (1, 5, .inr (.inl t))), (a, .inl (1, 111, .inr (.inl (va_cpy r (kickQ t (driftQ t r false true) false true) 0 0 0)))), (b 23, .inl (1, 6, .inr (.inl g7))), (b 24, .inl (1, 21, .inr (.inl r)))]) (fun _ h => by rw [cpy_0]; exact h) ?_
        refine lpX6_steps_b hC b i j t a (kickQ t (driftQ t r false true) false true) g7 r (bI (isInQ (kickQ t (driftQ t r false true) false true))) c11 ?_ 21 0 rfl
        refine rn_cellJ (J := xSt F V0 [(b 0, .inr (5, mF b i j)), (b 7, .inl (1, 5, .inr (.inl t))), (a, .inl (1, 111, .inr (.inl r))), (b 23, .inl (1, 6, .inr (.inl g7))), (b 24, .inl (1, 21, .inr (.inl r)))]) (fun _ h => h.get 2 rfl) (fun j hj => cpy_back (by intro j hj; simp only [kick_off hj, drift_off hj])) (fun _ h => h.set 2 _ rfl) ?_
        refine r_iload hC 0 dX6_steps_202 rfl 204 rfl ?_
        have hS : stepQ t r true = none :=
          stepQ_n3 (bI_n0.mp c1) (partO_skip (by simp [partQ, hs])) (partO_ok (c := 1) (by simp [partQ, hs]) (by decide) partA_1 (bI_n0.mp c6)) (partO_no (c := 0) (by simp [partQ, hs]) (by decide) partA_0 (bI_0.mp c11))
        exact r_zret hC (bI_nar _) (Nat.le_of_ble_eq_true rfl) (Nat.le_of_ble_eq_true rfl) (fun V9 h => hQ _ _ ⟨[(b 0, .inr (5, mF b i j)), (b 7, .inl (1, 5, .inr (.inl t))), (a, .inl (1, 111, .inr (.inl r))), (b 23, .inl (1, 6, .inr (.inl g7))), (b 24, .inl (1, 21, .inr (.inl r)))], ⟨g7, r, by rw [hS, bI_0.mp c11]; rfl, by rw [hS]; rfl⟩, by rw [← hV0, ← hF]; exact h⟩) dX6_steps_204
      · skip
        refine r_aload_n hC 5 dX6_steps_166 rfl 167 rfl ?_
        refine r_iconst hC 0 dX6_steps_167 ic_0 168 rfl ?_
        refine r_lload_n hC 3 dX6_steps_168 rfl 169 rfl ?_
        refine r_last (J := xSt F V0 [(b 24, .inl (1, 21, .inr (.inl r))), (b 0, .inr (5, mF b i j)), (b 7, .inl (1, 5, .inr (.inl t))), (a, .inl (1, 111, .inr (.inl (va_up (kickQ t (driftQ t r false true) false true) 0 (clockQ r true))))), (b 23, .inl (1, 6, .inr (.inl g7)))]) hC 0 (xix_n 0 (Nat.le_of_ble_eq_true rfl) (Nat.le_of_ble_eq_true rfl)) (fun _ h => h.get 3 rfl) dX6_steps_169 (fun _ h => h.set 3 _ rfl) 170 rfl ?_
        generalize hu12 : va_up (kickQ t (driftQ t r false true) false true) 0 (clockQ r true) = u12
        refine r_iconst hC 0 dX6_steps_170 ic_0 171 rfl ?_
        refine r_istore hC 6 [(6, .int 0), (5, .int (bI (isInQ (kickQ t (driftQ t r false true) false true)))), (7, .int 0), (3, .long (clockQ r true)), (0, .ref (b 0)), (1, .ref a), (2, .int 1)] dX6_steps_171 (Nat.le_of_ble_eq_true rfl) rfl 173 rfl ?_
        refine r_iload hC 0 dX6_steps_173 rfl 175 rfl ?_
        refine r_bipush hC 21 dX6_steps_175 bp_21 177 rfl ?_
        refine r_icge hC 202 dX6_steps_177 (by decide) 180 rfl (fun h => absurd h (by decide)) (fun _ => ?_)
        refine r_iload hC 1 dX6_steps_180 rfl 182 rfl ?_
        refine r_ifne hC 202 dX6_steps_182 (by decide) 185 rfl (fun _ => ?_) (fun h => absurd h (c11))
        refine r_iload hC 1 dX6_steps_202 rfl 204 rfl ?_
        subst hu12
        have hS : stepQ t r true = some (va_up (kickQ t (driftQ t r false true) false true) 0 (clockQ r true)) :=
          stepQ_ok (bI_n0.mp c1) (partO_skip (by simp [partQ, hs])) (partO_ok (c := 1) (by simp [partQ, hs]) (by decide) partA_1 (bI_n0.mp c6)) (partO_ok (c := 0) (by simp [partQ, hs]) (by decide) partA_0 (bI_n0.mp c11))
        exact r_zret hC (bI_nar _) (Nat.le_of_ble_eq_true rfl) (Nat.le_of_ble_eq_true rfl) (fun V9 h => hQ _ _ ⟨[(b 0, .inr (5, mF b i j)), (b 7, .inl (1, 5, .inr (.inl t))), (a, .inl (1, 111, .inr (.inl (va_up (kickQ t (driftQ t r false true) false true) 0 (clockQ r true))))), (b 23, .inl (1, 6, .inr (.inl g7))), (b 24, .inl (1, 21, .inr (.inl r)))], ⟨g7, r, by rw [hS, bI_n0.mp c11]; rfl, by rw [hS]; rfl⟩, by rw [← hV0, ← hF]; exact (h.sub [1, 2, 3, 4, 0] rfl rfl)⟩) dX6_steps_204
  · skip
    refine r_iconst hC 0 dX6_steps_29 ic_0 30 rfl ?_
    have hS : stepQ t r true = none :=
      stepQ_n0 (bI_0.mp c1)
    exact r_zret hC (by decide) (Nat.le_of_ble_eq_true rfl) (Nat.le_of_ble_eq_true rfl) (fun V9 h => hQ _ _ ⟨[(b 0, .inr (5, mF b i j)), (b 7, .inl (1, 5, .inr (.inl t))), (a, .inl (1, 111, .inr (.inl r))), (b 23, .inl (1, 6, .inr (.inl g))), (b 24, .inl (1, 21, .inr (.inl h0)))], ⟨g, h0, by rw [hS]; rfl, by rw [hS]; rfl⟩, by rw [← hV0, ← hF]; exact h⟩) dX6_steps_30
set_option maxHeartbeats 4000000 in
set_option maxRecDepth 100000 in
theorem metX6_steps11 (l : Launch) (G : xG) (hG : xGood G) (b : Nat → Nat) (i : Nat → Int32) (j : Nat → Int64) (t : Nat → Int64) (a : Nat) (r : Nat → Int64) (g h0 : Nat → Int64) (ht : tOK t) (hm : mOK r) (hs0 : ¬ r 1 = 0) (hs : r 1 = 1) : xWm l G yX6_steps (Cond.code yX6_steps cX6_steps 8 (some .boolean)) { frames := 6, locals := 151, cells := 0, slots := 0 } [.ref (b 0), .ref a, .int 1] [(b 0, .inr (5, mF b i j)), (b 7, .inl (1, 5, .inr (.inl t))), (a, .inl (1, 111, .inr (.inl r))), (b 23, .inl (1, 6, .inr (.inl g))), (b 24, .inl (1, 21, .inr (.inl h0)))] (fun v w' => ∃ g' h' : Nat → Int64, v = some (.int (bI (stepQ t r true).isSome)) ∧ w' = [(b 0, .inr (5, mF b i j)), (b 7, .inl (1, 5, .inr (.inl t))), (a, .inl (1, 111, .inr (.inl ((stepQ t r true).getD r)))), (b 23, .inl (1, 6, .inr (.inl g'))), (b 24, .inl (1, 21, .inr (.inl h')))]) (fun _ _ => False) := by
  intro V hV
  refine xMet_of RX6 hG rfl (by decide) (Nat.le_of_ble_eq_true rfl) fun C hC hQ hX hl hg _ => ?_
  subst hl hg
  obtain ⟨V0, hV0⟩ : ∃ V0, V0 = V := ⟨_, rfl⟩
  obtain ⟨F, hF⟩ : ∃ F, F = xF [(b 0, .inr (5, mF b i j)), (b 7, .inl (1, 5, .inr (.inl t))), (a, .inl (1, 111, .inr (.inl r))), (b 23, .inl (1, 6, .inr (.inl g))), (b 24, .inl (1, 21, .inr (.inl h0)))] := ⟨_, rfl⟩
  refine rn.mono (J := xSt F V0 [(b 0, .inr (5, mF b i j)), (b 7, .inl (1, 5, .inr (.inl t))), (a, .inl (1, 111, .inr (.inl r))), (b 23, .inl (1, 6, .inr (.inl g))), (b 24, .inl (1, 21, .inr (.inl h0)))]) (fun V9 h => by rw [h, hV0, hF]; exact hV.st) ?_
  show rn C (xSt F V0 [(b 0, .inr (5, mF b i j)), (b 7, .inl (1, 5, .inr (.inl t))), (a, .inl (1, 111, .inr (.inl r))), (b 23, .inl (1, 6, .inr (.inl g))), (b 24, .inl (1, 21, .inr (.inl h0)))]) 0 0 0 [(0, .ref (b 0)), (1, .ref a), (2, .int 1)] []
  refine r_aload_n hC 1 dX6_steps_0 rfl 1 rfl ?_
  refine r_iconst hC 0 dX6_steps_1 ic_0 2 rfl ?_
  refine r_lald hC 0 (xix_n 0 (Nat.le_of_ble_eq_true rfl) (Nat.le_of_ble_eq_true rfl)) (fun _ h => h.get 2 rfl) (r 0) (rfl) dX6_steps_2 3 rfl ?_
  refine r_iload_n hC 2 dX6_steps_3 rfl 4 rfl ?_
  refine r_ifeq hC 13 dX6_steps_4 (by decide) 7 rfl (fun h => absurd h (by decide)) (fun _ => ?_)
  refine r_ldc2 hC q3082 dX6_steps_7 10 rfl ?_
  refine r_goto hC 14 dX6_steps_10 (by decide) ?_
  refine r_ladd hC (clockQ r true) dX6_steps_14  (rfl) 15 rfl ?_
  refine r_lstore_n hC 3 [(3, .long (clockQ r true)), (0, .ref (b 0)), (1, .ref a), (2, .int 1)] dX6_steps_15 rfl (Nat.le_of_ble_eq_true rfl) rfl 16 rfl ?_
  refine r_lload_n hC 0 dX6_steps_16 rfl 17 rfl ?_
  refine r_ldc2 hC q3083 dX6_steps_17 20 rfl ?_
  refine r_ldc2 hC q3084 dX6_steps_20 23 rfl ?_
  refine r_invSr hC [.long (clockQ r true), .long (-1000000), .long 1000000] (.int (bI (m_in (clockQ r true) (-1000000) 1000000))) mSX6_in q2891 (metX6_in _ _ hG (clockQ r true) (-1000000) 1000000) (fun _ _ => xIn.nil) ⟨rfl, rfl⟩ 0 0 rfl rfl (Nat.le_of_ble_eq_true rfl) (Nat.le_of_ble_eq_true rfl) rfl (Nat.le_of_ble_eq_true rfl) dX6_steps_23 26 rfl ?_
  refine r_ifne hC 31 dX6_steps_26 (by decide) 29 rfl (fun c1 => ?_) (fun c1 => ?_)
  · skip
    refine r_iconst hC 0 dX6_steps_31 ic_0 32 rfl ?_
    refine r_istore hC 5 [(5, .int 0), (3, .long (clockQ r true)), (0, .ref (b 0)), (1, .ref a), (2, .int 1)] dX6_steps_32 (Nat.le_of_ble_eq_true rfl) rfl 34 rfl ?_
    refine rn.sub (lv' := [(5, .int 0), (3, .long (clockQ r true)), (0, .ref (b 0)), (1, .ref a), (2, .int 1)]) [0, 1, 2, 3, 4] rfl ?_
    refine rn.mono (J := xSt F V0 [(b 0, .inr (5, mF b i j)), (b 7, .inl (1, 5, .inr (.inl t))), (a, .inl (1, 111, .inr (.inl r))), (b 23, .inl (1, 6, .inr (.inl g))), (b 24, .inl (1, 21, .inr (.inl (va_cpy r h0 0 0 0))))]) (fun _ h => by rw [cpy_0]; exact h) ?_
    refine lpX6_steps_a hC b i j t a r g h0 (clockQ r true) 1 ?_ 21 0 rfl
    refine rn_cellJ (J := xSt F V0 [(b 0, .inr (5, mF b i j)), (b 7, .inl (1, 5, .inr (.inl t))), (a, .inl (1, 111, .inr (.inl r))), (b 23, .inl (1, 6, .inr (.inl g))), (b 24, .inl (1, 21, .inr (.inl r)))]) (fun _ h => h.get 4 rfl) (fun j hj => (cpy_in (by omega) (by omega)).trans (by congr 1; omega)) (fun _ h => h.set 4 _ rfl) ?_
    refine r_iconst hC 1 dX6_steps_58 ic_1 59 rfl ?_
    refine r_istore hC 5 [(5, .int 1), (3, .long (clockQ r true)), (0, .ref (b 0)), (1, .ref a), (2, .int 1)] dX6_steps_59 (Nat.le_of_ble_eq_true rfl) rfl 61 rfl ?_
    refine r_iconst hC 0 dX6_steps_61 ic_0 62 rfl ?_
    refine r_istore hC 6 [(6, .int 0), (5, .int 1), (3, .long (clockQ r true)), (0, .ref (b 0)), (1, .ref a), (2, .int 1)] dX6_steps_62 (Nat.le_of_ble_eq_true rfl) rfl 64 rfl ?_
    refine r_iload hC 0 dX6_steps_64 rfl 66 rfl ?_
    refine r_iconst hC 3 dX6_steps_66 ic_3 67 rfl ?_
    refine r_icge hC 161 dX6_steps_67 (by decide) 70 rfl (fun h => absurd h (by decide)) (fun _ => ?_)
    refine r_iload hC 1 dX6_steps_70 rfl 72 rfl ?_
    refine r_ifeq hC 161 dX6_steps_72 (by decide) 75 rfl (fun h => absurd h (by decide)) (fun _ => ?_)
    refine r_aload_n hC 4 dX6_steps_75 rfl 76 rfl ?_
    refine r_iconst hC 1 dX6_steps_76 ic_1 77 rfl ?_
    refine r_lald hC 1 (xix_n 1 (Nat.le_of_ble_eq_true rfl) (Nat.le_of_ble_eq_true rfl)) (fun _ h => h.get 2 rfl) (r 1) (rfl) dX6_steps_77 78 rfl ?_
    refine r_iload_n hC 5 dX6_steps_78 rfl 79 rfl ?_
    refine r_ifeq hC 89 dX6_steps_79 (by decide) 82 rfl (fun h => absurd h (by decide)) (fun _ => ?_)
    refine r_iconst hC 2 dX6_steps_82 ic_2 83 rfl ?_
    refine r_iload hC 0 dX6_steps_83 rfl 85 rfl ?_
    refine r_isub hC 2 dX6_steps_85  (by decide) 86 rfl ?_
    refine r_goto hC 91 dX6_steps_86 (by decide) ?_
    refine r_invSr hC [.long (r 1), .int 2] (.int 3) mSX6_partOf q3085 (metX6_partOf2 _ _ hG (r 1) 3 (by simp [partQ, kick_1, drift_1, hs0, hs])) (fun _ _ => xIn.nil) ⟨rfl, rfl⟩ 0 0 rfl rfl (Nat.le_of_ble_eq_true rfl) (Nat.le_of_ble_eq_true rfl) rfl (Nat.le_of_ble_eq_true rfl) dX6_steps_91 94 rfl ?_
    refine r_istore hC 7 [(7, .int 3), (6, .int 0), (5, .int 1), (3, .long (clockQ r true)), (0, .ref (b 0)), (1, .ref a), (2, .int 1)] dX6_steps_94 (Nat.le_of_ble_eq_true rfl) rfl 96 rfl ?_
    refine r_iload hC 0 dX6_steps_96 rfl 98 rfl ?_
    refine r_iconst hC (-1) dX6_steps_98 ic_m1 99 rfl ?_
    refine r_icne hC 105 dX6_steps_99 (by decide) 102 rfl (fun _ => ?_) (fun h => absurd h (by decide))
    refine r_iload hC 0 dX6_steps_105 rfl 107 rfl ?_
    refine r_iconst hC 2 dX6_steps_107 ic_2 108 rfl ?_
    refine r_irem hC 1 dX6_steps_108 (by decide) (by decide) 109 rfl ?_
    refine r_ifne hC 132 dX6_steps_109 (by decide) 112 rfl (fun _ => ?_) (fun h => absurd h (by decide))
    refine r_aload_n hC 4 dX6_steps_132 rfl 133 rfl ?_
    refine r_aload_n hC 5 dX6_steps_133 rfl 134 rfl ?_
    refine r_iload hC 0 dX6_steps_134 rfl 136 rfl ?_
    refine r_iconst hC 3 dX6_steps_136 ic_3 137 rfl ?_
    refine r_icne hC 144 dX6_steps_137 (by decide) 140 rfl (fun h => absurd h (by decide)) (fun _ => ?_)
    refine r_iconst hC 1 dX6_steps_140 ic_1 141 rfl ?_
    refine r_goto hC 145 dX6_steps_141 (by decide) ?_
    refine r_iload_n hC 6 dX6_steps_145 rfl 146 rfl ?_
    refine r_invVw hC kX6 (b 0) [.ref a, .int 1, .int 1] [(b 23, .inl (1, 6, .inr (.inl g))), (b 24, .inl (1, 21, .inr (.inl r)))] mVX6_drifts q3092 0 rfl (metX6_drifts11 _ _ hG b _ _ _ a _ (rowOK_of ht hm)) [0, 1, 2] [3, 4] rfl rfl rfl rfl (by decide) ⟨rfl, rfl⟩ 0 0 rfl rfl (Nat.le_of_ble_eq_true rfl) (Nat.le_of_ble_eq_true rfl) rfl (Nat.le_of_ble_eq_true rfl) dX6_steps_146 149 rfl (fun v3 w4 h5 => ?_) (fun _ _ h => h.elim)
    obtain ⟨rfl, rfl⟩ := h5
    show rn C (xSt F V0 [(b 23, .inl (1, 6, .inr (.inl g))), (b 24, .inl (1, 21, .inr (.inl r))), (b 0, .inr (5, mF b i j)), (b 7, .inl (1, 5, .inr (.inl t))), (a, .inl (1, 111, .inr (.inl (driftQ t r true true))))]) 0 0 149 [(7, .int 3), (6, .int 0), (5, .int 1), (3, .long (clockQ r true)), (0, .ref (b 0)), (1, .ref a), (2, .int 1)] []
    refine r_aload_n hC 5 dX6_steps_149 rfl 150 rfl ?_
    refine r_invSr hC [.ref a] (.int (bI (isInQ (driftQ t r true true)))) mSX6_isIn q3096 (metX6_isIn _ _ hG a _) (fun _ h => h.in.sub [4] rfl rfl) ⟨rfl, rfl⟩ 0 0 rfl rfl (Nat.le_of_ble_eq_true rfl) (Nat.le_of_ble_eq_true rfl) rfl (Nat.le_of_ble_eq_true rfl) dX6_steps_150 153 rfl ?_
    refine r_istore hC 5 [(5, .int (bI (isInQ (driftQ t r true true)))), (7, .int 3), (6, .int 0), (3, .long (clockQ r true)), (0, .ref (b 0)), (1, .ref a), (2, .int 1)] dX6_steps_153 (Nat.le_of_ble_eq_true rfl) rfl 155 rfl ?_
    refine r_iinc hC 1 6 2 [(6, .int 1), (5, .int (bI (isInQ (driftQ t r true true)))), (7, .int 3), (3, .long (clockQ r true)), (0, .ref (b 0)), (1, .ref a), (2, .int 1)] dX6_steps_155 rfl (by decide) (Nat.le_of_ble_eq_true rfl) rfl 158 rfl ?_
    refine r_goto hC 64 dX6_steps_158 (by decide) ?_
    refine r_iload hC 0 dX6_steps_64 rfl 66 rfl ?_
    refine r_iconst hC 3 dX6_steps_66 ic_3 67 rfl ?_
    refine r_icge hC 161 dX6_steps_67 (by decide) 70 rfl (fun h => absurd h (by decide)) (fun _ => ?_)
    refine r_iload hC 1 dX6_steps_70 rfl 72 rfl ?_
    refine r_ifeq hC 161 dX6_steps_72 (by decide) 75 rfl (fun c6 => ?_) (fun c6 => ?_)
    · skip
      refine r_iload hC 1 dX6_steps_161 rfl 163 rfl ?_
      refine r_ifeq hC 170 dX6_steps_163 (by decide) 166 rfl (fun _ => ?_) (fun h => absurd (c6) h)
      refine r_iconst hC 0 dX6_steps_170 ic_0 171 rfl ?_
      refine r_istore hC 6 [(6, .int 0), (5, .int (bI (isInQ (driftQ t r true true)))), (7, .int 3), (3, .long (clockQ r true)), (0, .ref (b 0)), (1, .ref a), (2, .int 1)] dX6_steps_171 (Nat.le_of_ble_eq_true rfl) rfl 173 rfl ?_
      refine rn.mono (J := xSt F V0 [(b 0, .inr (5, mF b i j)), (b 7, .inl (1, 5, .inr (.inl t))), (a, .inl (1, 111, .inr (.inl (driftQ t r true true)))), (b 23, .inl (1, 6, .inr (.inl g))), (b 24, .inl (1, 21, .inr (.inl r)))]) (fun _ h => h.sub [2, 3, 4, 0, 1] rfl rfl) ?_
      refine rn.sub (lv' := [(6, .int 0), (5, .int (bI (isInQ (driftQ t r true true)))), (0, .ref (b 0)), (1, .ref a)]) [0, 1, 4, 5] rfl ?_
      refine rn.mono (J := xSt F V0 [(b 0, .inr (5, mF b i j)), (b 7, .inl (1, 5, .inr (.inl t))), (a, .inl (1, 111, .inr (.inl (va_cpy r (driftQ t r true true) 0 0 0)))), (b 23, .inl (1, 6, .inr (.inl g))), (b 24, .inl (1, 21, .inr (.inl r)))]) (fun _ h => by rw [cpy_0]; exact h) ?_
      refine lpX6_steps_b hC b i j t a (driftQ t r true true) g r (bI (isInQ (driftQ t r true true))) c6 ?_ 21 0 rfl
      refine rn_cellJ (J := xSt F V0 [(b 0, .inr (5, mF b i j)), (b 7, .inl (1, 5, .inr (.inl t))), (a, .inl (1, 111, .inr (.inl r))), (b 23, .inl (1, 6, .inr (.inl g))), (b 24, .inl (1, 21, .inr (.inl r)))]) (fun _ h => h.get 2 rfl) (fun j hj => cpy_back (by intro j hj; simp only [kick_off hj, drift_off hj])) (fun _ h => h.set 2 _ rfl) ?_
      refine r_iload hC 0 dX6_steps_202 rfl 204 rfl ?_
      have hS : stepQ t r true = none :=
        stepQ_n1 (bI_n0.mp c1) (partO_no (c := 3) (by simp [partQ, hs0, hs]) (by decide) partA_3 (bI_0.mp c6))
      exact r_zret hC (bI_nar _) (Nat.le_of_ble_eq_true rfl) (Nat.le_of_ble_eq_true rfl) (fun V9 h => hQ _ _ ⟨[(b 0, .inr (5, mF b i j)), (b 7, .inl (1, 5, .inr (.inl t))), (a, .inl (1, 111, .inr (.inl r))), (b 23, .inl (1, 6, .inr (.inl g))), (b 24, .inl (1, 21, .inr (.inl r)))], ⟨g, r, by rw [hS, bI_0.mp c6]; rfl, by rw [hS]; rfl⟩, by rw [← hV0, ← hF]; exact h⟩) dX6_steps_204
    · skip
      refine r_aload_n hC 5 dX6_steps_75 rfl 76 rfl ?_
      refine r_iconst hC 1 dX6_steps_76 ic_1 77 rfl ?_
      refine r_lald hC 1 (xix_n 1 (Nat.le_of_ble_eq_true rfl) (Nat.le_of_ble_eq_true rfl)) (fun _ h => h.get 4 rfl) ((driftQ t r true true) 1) (rfl) dX6_steps_77 78 rfl ?_
      refine r_iload_n hC 6 dX6_steps_78 rfl 79 rfl ?_
      refine r_ifeq hC 89 dX6_steps_79 (by decide) 82 rfl (fun h => absurd h (by decide)) (fun _ => ?_)
      refine r_iconst hC 2 dX6_steps_82 ic_2 83 rfl ?_
      refine r_iload hC 0 dX6_steps_83 rfl 85 rfl ?_
      refine r_isub hC 1 dX6_steps_85  (by decide) 86 rfl ?_
      refine r_goto hC 91 dX6_steps_86 (by decide) ?_
      refine r_invSr hC [.long ((driftQ t r true true) 1), .int 1] (.int 0) mSX6_partOf q3085 (metX6_partOf1 _ _ hG ((driftQ t r true true) 1) 0 (by simp [partQ, kick_1, drift_1, hs0, hs])) (fun _ _ => xIn.nil) ⟨rfl, rfl⟩ 0 0 rfl rfl (Nat.le_of_ble_eq_true rfl) (Nat.le_of_ble_eq_true rfl) rfl (Nat.le_of_ble_eq_true rfl) dX6_steps_91 94 rfl ?_
      refine r_istore hC 7 [(7, .int 0), (6, .int 1), (5, .int (bI (isInQ (driftQ t r true true)))), (3, .long (clockQ r true)), (0, .ref (b 0)), (1, .ref a), (2, .int 1)] dX6_steps_94 (Nat.le_of_ble_eq_true rfl) rfl 96 rfl ?_
      refine r_iload hC 0 dX6_steps_96 rfl 98 rfl ?_
      refine r_iconst hC (-1) dX6_steps_98 ic_m1 99 rfl ?_
      refine r_icne hC 105 dX6_steps_99 (by decide) 102 rfl (fun _ => ?_) (fun h => absurd h (by decide))
      refine r_iload hC 0 dX6_steps_105 rfl 107 rfl ?_
      refine r_iconst hC 2 dX6_steps_107 ic_2 108 rfl ?_
      refine r_irem hC 0 dX6_steps_108 (by decide) (by decide) 109 rfl ?_
      refine r_ifne hC 132 dX6_steps_109 (by decide) 112 rfl (fun h => absurd h (by decide)) (fun _ => ?_)
      refine r_aload_n hC 4 dX6_steps_112 rfl 113 rfl ?_
      refine r_aload_n hC 5 dX6_steps_113 rfl 114 rfl ?_
      refine r_iload hC 0 dX6_steps_114 rfl 116 rfl ?_
      refine r_iconst hC 2 dX6_steps_116 ic_2 117 rfl ?_
      refine r_icne hC 124 dX6_steps_117 (by decide) 120 rfl (fun _ => ?_) (fun h => absurd h (by decide))
      refine r_iconst hC 0 dX6_steps_124 ic_0 125 rfl ?_
      refine r_iload_n hC 6 dX6_steps_125 rfl 126 rfl ?_
      refine r_invVw hC kX6 (b 0) [.ref a, .int 0, .int 1] [(b 24, .inl (1, 21, .inr (.inl r)))] mVX6_kicks q3088 2 rfl (metX6_kicks01 _ _ hG b _ _ _ a _ _ (rowOK_of ht (mOK_drift hm))) [2, 3, 4, 0] [1] rfl rfl rfl rfl (by decide) ⟨rfl, rfl⟩ 0 0 rfl rfl (Nat.le_of_ble_eq_true rfl) (Nat.le_of_ble_eq_true rfl) rfl (Nat.le_of_ble_eq_true rfl) dX6_steps_126 129 rfl (fun v8 w9 h10 => ?_) (fun _ _ h => h.elim)
      obtain ⟨g7, rfl, rfl⟩ := h10
      show rn C (xSt F V0 [(b 24, .inl (1, 21, .inr (.inl r))), (b 0, .inr (5, mF b i j)), (b 7, .inl (1, 5, .inr (.inl t))), (a, .inl (1, 111, .inr (.inl (kickQ t (driftQ t r true true) false true)))), (b 23, .inl (1, 6, .inr (.inl g7)))]) 0 0 129 [(7, .int 0), (6, .int 1), (5, .int (bI (isInQ (driftQ t r true true)))), (3, .long (clockQ r true)), (0, .ref (b 0)), (1, .ref a), (2, .int 1)] []
      refine r_goto hC 149 dX6_steps_129 (by decide) ?_
      refine r_aload_n hC 5 dX6_steps_149 rfl 150 rfl ?_
      refine r_invSr hC [.ref a] (.int (bI (isInQ (kickQ t (driftQ t r true true) false true)))) mSX6_isIn q3096 (metX6_isIn _ _ hG a _) (fun _ h => h.in.sub [3] rfl rfl) ⟨rfl, rfl⟩ 0 0 rfl rfl (Nat.le_of_ble_eq_true rfl) (Nat.le_of_ble_eq_true rfl) rfl (Nat.le_of_ble_eq_true rfl) dX6_steps_150 153 rfl ?_
      refine r_istore hC 5 [(5, .int (bI (isInQ (kickQ t (driftQ t r true true) false true)))), (7, .int 0), (6, .int 1), (3, .long (clockQ r true)), (0, .ref (b 0)), (1, .ref a), (2, .int 1)] dX6_steps_153 (Nat.le_of_ble_eq_true rfl) rfl 155 rfl ?_
      refine r_iinc hC 2 6 2 [(6, .int 2), (5, .int (bI (isInQ (kickQ t (driftQ t r true true) false true)))), (7, .int 0), (3, .long (clockQ r true)), (0, .ref (b 0)), (1, .ref a), (2, .int 1)] dX6_steps_155 rfl (by decide) (Nat.le_of_ble_eq_true rfl) rfl 158 rfl ?_
      refine r_goto hC 64 dX6_steps_158 (by decide) ?_
      refine r_iload hC 0 dX6_steps_64 rfl 66 rfl ?_
      refine r_iconst hC 3 dX6_steps_66 ic_3 67 rfl ?_
      refine r_icge hC 161 dX6_steps_67 (by decide) 70 rfl (fun h => absurd h (by decide)) (fun _ => ?_)
      refine r_iload hC 1 dX6_steps_70 rfl 72 rfl ?_
      refine r_ifeq hC 161 dX6_steps_72 (by decide) 75 rfl (fun c11 => ?_) (fun c11 => ?_)
      · skip
        refine r_iload hC 1 dX6_steps_161 rfl 163 rfl ?_
        refine r_ifeq hC 170 dX6_steps_163 (by decide) 166 rfl (fun _ => ?_) (fun h => absurd (c11) h)
        refine r_iconst hC 0 dX6_steps_170 ic_0 171 rfl ?_
        refine r_istore hC 6 [(6, .int 0), (5, .int (bI (isInQ (kickQ t (driftQ t r true true) false true)))), (7, .int 0), (3, .long (clockQ r true)), (0, .ref (b 0)), (1, .ref a), (2, .int 1)] dX6_steps_171 (Nat.le_of_ble_eq_true rfl) rfl 173 rfl ?_
        refine rn.mono (J := xSt F V0 [(b 0, .inr (5, mF b i j)), (b 7, .inl (1, 5, .inr (.inl t))), (a, .inl (1, 111, .inr (.inl (kickQ t (driftQ t r true true) false true)))), (b 23, .inl (1, 6, .inr (.inl g7))), (b 24, .inl (1, 21, .inr (.inl r)))]) (fun _ h => h.sub [1, 2, 3, 4, 0] rfl rfl) ?_
        refine rn.sub (lv' := [(6, .int 0), (5, .int (bI (isInQ (kickQ t (driftQ t r true true) false true)))), (0, .ref (b 0)), (1, .ref a)]) [0, 1, 4, 5] rfl ?_
        refine rn.mono (J := xSt F V0 [(b 0, .inr (5, mF b i j)), (b 7, .inl (1, 5, .inr (.inl t))), (a, .inl (1, 111, .inr (.inl (va_cpy r (kickQ t (driftQ t r true true) false true) 0 0 0)))), (b 23, .inl (1, 6, .inr (.inl g7))), (b 24, .inl (1, 21, .inr (.inl r)))]) (fun _ h => by rw [cpy_0]; exact h) ?_
        refine lpX6_steps_b hC b i j t a (kickQ t (driftQ t r true true) false true) g7 r (bI (isInQ (kickQ t (driftQ t r true true) false true))) c11 ?_ 21 0 rfl
        refine rn_cellJ (J := xSt F V0 [(b 0, .inr (5, mF b i j)), (b 7, .inl (1, 5, .inr (.inl t))), (a, .inl (1, 111, .inr (.inl r))), (b 23, .inl (1, 6, .inr (.inl g7))), (b 24, .inl (1, 21, .inr (.inl r)))]) (fun _ h => h.get 2 rfl) (fun j hj => cpy_back (by intro j hj; simp only [kick_off hj, drift_off hj])) (fun _ h => h.set 2 _ rfl) ?_
        refine r_iload hC 0 dX6_steps_202 rfl 204 rfl ?_
        have hS : stepQ t r true = none :=
          stepQ_n2 (bI_n0.mp c1) (partO_ok (c := 3) (by simp [partQ, hs0, hs]) (by decide) partA_3 (bI_n0.mp c6)) (partO_no (c := 0) (by simp [partQ, hs0, hs]) (by decide) partA_0 (bI_0.mp c11))
        exact r_zret hC (bI_nar _) (Nat.le_of_ble_eq_true rfl) (Nat.le_of_ble_eq_true rfl) (fun V9 h => hQ _ _ ⟨[(b 0, .inr (5, mF b i j)), (b 7, .inl (1, 5, .inr (.inl t))), (a, .inl (1, 111, .inr (.inl r))), (b 23, .inl (1, 6, .inr (.inl g7))), (b 24, .inl (1, 21, .inr (.inl r)))], ⟨g7, r, by rw [hS, bI_0.mp c11]; rfl, by rw [hS]; rfl⟩, by rw [← hV0, ← hF]; exact h⟩) dX6_steps_204
      · skip
        refine r_aload_n hC 5 dX6_steps_75 rfl 76 rfl ?_
        refine r_iconst hC 1 dX6_steps_76 ic_1 77 rfl ?_
        refine r_lald hC 1 (xix_n 1 (Nat.le_of_ble_eq_true rfl) (Nat.le_of_ble_eq_true rfl)) (fun _ h => h.get 3 rfl) ((kickQ t (driftQ t r true true) false true) 1) (rfl) dX6_steps_77 78 rfl ?_
        refine r_iload_n hC 6 dX6_steps_78 rfl 79 rfl ?_
        refine r_ifeq hC 89 dX6_steps_79 (by decide) 82 rfl (fun h => absurd h (by decide)) (fun _ => ?_)
        refine r_iconst hC 2 dX6_steps_82 ic_2 83 rfl ?_
        refine r_iload hC 0 dX6_steps_83 rfl 85 rfl ?_
        refine r_isub hC 0 dX6_steps_85  (by decide) 86 rfl ?_
        refine r_goto hC 91 dX6_steps_86 (by decide) ?_
        refine r_invSr hC [.long ((kickQ t (driftQ t r true true) false true) 1), .int 0] (.int 3) mSX6_partOf q3085 (metX6_partOf0 _ _ hG ((kickQ t (driftQ t r true true) false true) 1) 3 (by simp [partQ, kick_1, drift_1, hs0, hs])) (fun _ _ => xIn.nil) ⟨rfl, rfl⟩ 0 0 rfl rfl (Nat.le_of_ble_eq_true rfl) (Nat.le_of_ble_eq_true rfl) rfl (Nat.le_of_ble_eq_true rfl) dX6_steps_91 94 rfl ?_
        refine r_istore hC 7 [(7, .int 3), (6, .int 2), (5, .int (bI (isInQ (kickQ t (driftQ t r true true) false true)))), (3, .long (clockQ r true)), (0, .ref (b 0)), (1, .ref a), (2, .int 1)] dX6_steps_94 (Nat.le_of_ble_eq_true rfl) rfl 96 rfl ?_
        refine r_iload hC 0 dX6_steps_96 rfl 98 rfl ?_
        refine r_iconst hC (-1) dX6_steps_98 ic_m1 99 rfl ?_
        refine r_icne hC 105 dX6_steps_99 (by decide) 102 rfl (fun _ => ?_) (fun h => absurd h (by decide))
        refine r_iload hC 0 dX6_steps_105 rfl 107 rfl ?_
        refine r_iconst hC 2 dX6_steps_107 ic_2 108 rfl ?_
        refine r_irem hC 1 dX6_steps_108 (by decide) (by decide) 109 rfl ?_
        refine r_ifne hC 132 dX6_steps_109 (by decide) 112 rfl (fun _ => ?_) (fun h => absurd h (by decide))
        refine r_aload_n hC 4 dX6_steps_132 rfl 133 rfl ?_
        refine r_aload_n hC 5 dX6_steps_133 rfl 134 rfl ?_
        refine r_iload hC 0 dX6_steps_134 rfl 136 rfl ?_
        refine r_iconst hC 3 dX6_steps_136 ic_3 137 rfl ?_
        refine r_icne hC 144 dX6_steps_137 (by decide) 140 rfl (fun h => absurd h (by decide)) (fun _ => ?_)
        refine r_iconst hC 1 dX6_steps_140 ic_1 141 rfl ?_
        refine r_goto hC 145 dX6_steps_141 (by decide) ?_
        refine r_iload_n hC 6 dX6_steps_145 rfl 146 rfl ?_
        refine r_invVw hC kX6 (b 0) [.ref a, .int 1, .int 1] [(b 24, .inl (1, 21, .inr (.inl r))), (b 23, .inl (1, 6, .inr (.inl g7)))] mVX6_drifts q3092 1 rfl (metX6_drifts11 _ _ hG b _ _ _ a _ (rowOK_of ht (mOK_kick (mOK_drift hm)))) [1, 2, 3] [0, 4] rfl rfl rfl rfl (by decide) ⟨rfl, rfl⟩ 0 0 rfl rfl (Nat.le_of_ble_eq_true rfl) (Nat.le_of_ble_eq_true rfl) rfl (Nat.le_of_ble_eq_true rfl) dX6_steps_146 149 rfl (fun v13 w14 h15 => ?_) (fun _ _ h => h.elim)
        obtain ⟨rfl, rfl⟩ := h15
        show rn C (xSt F V0 [(b 24, .inl (1, 21, .inr (.inl r))), (b 23, .inl (1, 6, .inr (.inl g7))), (b 0, .inr (5, mF b i j)), (b 7, .inl (1, 5, .inr (.inl t))), (a, .inl (1, 111, .inr (.inl (driftQ t (kickQ t (driftQ t r true true) false true) true true))))]) 0 0 149 [(7, .int 3), (6, .int 2), (5, .int (bI (isInQ (kickQ t (driftQ t r true true) false true)))), (3, .long (clockQ r true)), (0, .ref (b 0)), (1, .ref a), (2, .int 1)] []
        refine r_aload_n hC 5 dX6_steps_149 rfl 150 rfl ?_
        refine r_invSr hC [.ref a] (.int (bI (isInQ (driftQ t (kickQ t (driftQ t r true true) false true) true true)))) mSX6_isIn q3096 (metX6_isIn _ _ hG a _) (fun _ h => h.in.sub [4] rfl rfl) ⟨rfl, rfl⟩ 0 0 rfl rfl (Nat.le_of_ble_eq_true rfl) (Nat.le_of_ble_eq_true rfl) rfl (Nat.le_of_ble_eq_true rfl) dX6_steps_150 153 rfl ?_
        refine r_istore hC 5 [(5, .int (bI (isInQ (driftQ t (kickQ t (driftQ t r true true) false true) true true)))), (7, .int 3), (6, .int 2), (3, .long (clockQ r true)), (0, .ref (b 0)), (1, .ref a), (2, .int 1)] dX6_steps_153 (Nat.le_of_ble_eq_true rfl) rfl 155 rfl ?_
        refine r_iinc hC 3 6 2 [(6, .int 3), (5, .int (bI (isInQ (driftQ t (kickQ t (driftQ t r true true) false true) true true)))), (7, .int 3), (3, .long (clockQ r true)), (0, .ref (b 0)), (1, .ref a), (2, .int 1)] dX6_steps_155 rfl (by decide) (Nat.le_of_ble_eq_true rfl) rfl 158 rfl ?_
        refine r_goto hC 64 dX6_steps_158 (by decide) ?_
        refine r_iload hC 0 dX6_steps_64 rfl 66 rfl ?_
        refine r_iconst hC 3 dX6_steps_66 ic_3 67 rfl ?_
        refine r_icge hC 161 dX6_steps_67 (by decide) 70 rfl (fun _ => ?_) (fun h => absurd h (by decide))
        refine r_iload hC 1 dX6_steps_161 rfl 163 rfl ?_
        refine r_ifeq hC 170 dX6_steps_163 (by decide) 166 rfl (fun c16 => ?_) (fun c16 => ?_)
        · skip
          refine r_iconst hC 0 dX6_steps_170 ic_0 171 rfl ?_
          refine r_istore hC 6 [(6, .int 0), (5, .int (bI (isInQ (driftQ t (kickQ t (driftQ t r true true) false true) true true)))), (7, .int 3), (3, .long (clockQ r true)), (0, .ref (b 0)), (1, .ref a), (2, .int 1)] dX6_steps_171 (Nat.le_of_ble_eq_true rfl) rfl 173 rfl ?_
          refine rn.mono (J := xSt F V0 [(b 0, .inr (5, mF b i j)), (b 7, .inl (1, 5, .inr (.inl t))), (a, .inl (1, 111, .inr (.inl (driftQ t (kickQ t (driftQ t r true true) false true) true true)))), (b 23, .inl (1, 6, .inr (.inl g7))), (b 24, .inl (1, 21, .inr (.inl r)))]) (fun _ h => h.sub [2, 3, 4, 1, 0] rfl rfl) ?_
          refine rn.sub (lv' := [(6, .int 0), (5, .int (bI (isInQ (driftQ t (kickQ t (driftQ t r true true) false true) true true)))), (0, .ref (b 0)), (1, .ref a)]) [0, 1, 4, 5] rfl ?_
          refine rn.mono (J := xSt F V0 [(b 0, .inr (5, mF b i j)), (b 7, .inl (1, 5, .inr (.inl t))), (a, .inl (1, 111, .inr (.inl (va_cpy r (driftQ t (kickQ t (driftQ t r true true) false true) true true) 0 0 0)))), (b 23, .inl (1, 6, .inr (.inl g7))), (b 24, .inl (1, 21, .inr (.inl r)))]) (fun _ h => by rw [cpy_0]; exact h) ?_
          refine lpX6_steps_b hC b i j t a (driftQ t (kickQ t (driftQ t r true true) false true) true true) g7 r (bI (isInQ (driftQ t (kickQ t (driftQ t r true true) false true) true true))) c16 ?_ 21 0 rfl
          refine rn_cellJ (J := xSt F V0 [(b 0, .inr (5, mF b i j)), (b 7, .inl (1, 5, .inr (.inl t))), (a, .inl (1, 111, .inr (.inl r))), (b 23, .inl (1, 6, .inr (.inl g7))), (b 24, .inl (1, 21, .inr (.inl r)))]) (fun _ h => h.get 2 rfl) (fun j hj => cpy_back (by intro j hj; simp only [kick_off hj, drift_off hj])) (fun _ h => h.set 2 _ rfl) ?_
          refine r_iload hC 0 dX6_steps_202 rfl 204 rfl ?_
          have hS : stepQ t r true = none :=
            stepQ_n3 (bI_n0.mp c1) (partO_ok (c := 3) (by simp [partQ, hs0, hs]) (by decide) partA_3 (bI_n0.mp c6)) (partO_ok (c := 0) (by simp [partQ, hs0, hs]) (by decide) partA_0 (bI_n0.mp c11)) (partO_no (c := 3) (by simp [partQ, hs0, hs]) (by decide) partA_3 (bI_0.mp c16))
          exact r_zret hC (bI_nar _) (Nat.le_of_ble_eq_true rfl) (Nat.le_of_ble_eq_true rfl) (fun V9 h => hQ _ _ ⟨[(b 0, .inr (5, mF b i j)), (b 7, .inl (1, 5, .inr (.inl t))), (a, .inl (1, 111, .inr (.inl r))), (b 23, .inl (1, 6, .inr (.inl g7))), (b 24, .inl (1, 21, .inr (.inl r)))], ⟨g7, r, by rw [hS, bI_0.mp c16]; rfl, by rw [hS]; rfl⟩, by rw [← hV0, ← hF]; exact h⟩) dX6_steps_204
        · skip
          refine r_aload_n hC 5 dX6_steps_166 rfl 167 rfl ?_
          refine r_iconst hC 0 dX6_steps_167 ic_0 168 rfl ?_
          refine r_lload_n hC 3 dX6_steps_168 rfl 169 rfl ?_
          refine r_last (J := xSt F V0 [(b 24, .inl (1, 21, .inr (.inl r))), (b 23, .inl (1, 6, .inr (.inl g7))), (b 0, .inr (5, mF b i j)), (b 7, .inl (1, 5, .inr (.inl t))), (a, .inl (1, 111, .inr (.inl (va_up (driftQ t (kickQ t (driftQ t r true true) false true) true true) 0 (clockQ r true)))))]) hC 0 (xix_n 0 (Nat.le_of_ble_eq_true rfl) (Nat.le_of_ble_eq_true rfl)) (fun _ h => h.get 4 rfl) dX6_steps_169 (fun _ h => h.set 4 _ rfl) 170 rfl ?_
          generalize hu17 : va_up (driftQ t (kickQ t (driftQ t r true true) false true) true true) 0 (clockQ r true) = u17
          refine r_iconst hC 0 dX6_steps_170 ic_0 171 rfl ?_
          refine r_istore hC 6 [(6, .int 0), (5, .int (bI (isInQ (driftQ t (kickQ t (driftQ t r true true) false true) true true)))), (7, .int 3), (3, .long (clockQ r true)), (0, .ref (b 0)), (1, .ref a), (2, .int 1)] dX6_steps_171 (Nat.le_of_ble_eq_true rfl) rfl 173 rfl ?_
          refine r_iload hC 0 dX6_steps_173 rfl 175 rfl ?_
          refine r_bipush hC 21 dX6_steps_175 bp_21 177 rfl ?_
          refine r_icge hC 202 dX6_steps_177 (by decide) 180 rfl (fun h => absurd h (by decide)) (fun _ => ?_)
          refine r_iload hC 1 dX6_steps_180 rfl 182 rfl ?_
          refine r_ifne hC 202 dX6_steps_182 (by decide) 185 rfl (fun _ => ?_) (fun h => absurd h (c16))
          refine r_iload hC 1 dX6_steps_202 rfl 204 rfl ?_
          subst hu17
          have hS : stepQ t r true = some (va_up (driftQ t (kickQ t (driftQ t r true true) false true) true true) 0 (clockQ r true)) :=
            stepQ_ok (bI_n0.mp c1) (partO_ok (c := 3) (by simp [partQ, hs0, hs]) (by decide) partA_3 (bI_n0.mp c6)) (partO_ok (c := 0) (by simp [partQ, hs0, hs]) (by decide) partA_0 (bI_n0.mp c11)) (partO_ok (c := 3) (by simp [partQ, hs0, hs]) (by decide) partA_3 (bI_n0.mp c16))
          exact r_zret hC (bI_nar _) (Nat.le_of_ble_eq_true rfl) (Nat.le_of_ble_eq_true rfl) (fun V9 h => hQ _ _ ⟨[(b 0, .inr (5, mF b i j)), (b 7, .inl (1, 5, .inr (.inl t))), (a, .inl (1, 111, .inr (.inl (va_up (driftQ t (kickQ t (driftQ t r true true) false true) true true) 0 (clockQ r true))))), (b 23, .inl (1, 6, .inr (.inl g7))), (b 24, .inl (1, 21, .inr (.inl r)))], ⟨g7, r, by rw [hS, bI_n0.mp c16]; rfl, by rw [hS]; rfl⟩, by rw [← hV0, ← hF]; exact (h.sub [2, 3, 4, 1, 0] rfl rfl)⟩) dX6_steps_204
  · skip
    refine r_iconst hC 0 dX6_steps_29 ic_0 30 rfl ?_
    have hS : stepQ t r true = none :=
      stepQ_n0 (bI_0.mp c1)
    exact r_zret hC (by decide) (Nat.le_of_ble_eq_true rfl) (Nat.le_of_ble_eq_true rfl) (fun V9 h => hQ _ _ ⟨[(b 0, .inr (5, mF b i j)), (b 7, .inl (1, 5, .inr (.inl t))), (a, .inl (1, 111, .inr (.inl r))), (b 23, .inl (1, 6, .inr (.inl g))), (b 24, .inl (1, 21, .inr (.inl h0)))], ⟨g, h0, by rw [hS]; rfl, by rw [hS]; rfl⟩, by rw [← hV0, ← hF]; exact h⟩) dX6_steps_30
set_option maxHeartbeats 4000000 in
set_option maxRecDepth 100000 in
theorem metX6_steps12 (l : Launch) (G : xG) (hG : xGood G) (b : Nat → Nat) (i : Nat → Int32) (j : Nat → Int64) (t : Nat → Int64) (a : Nat) (r : Nat → Int64) (g h0 : Nat → Int64) (ht : tOK t) (hm : mOK r) (hs0 : ¬ r 1 = 0) (hs : ¬ r 1 = 1) : xWm l G yX6_steps (Cond.code yX6_steps cX6_steps 8 (some .boolean)) { frames := 6, locals := 151, cells := 0, slots := 0 } [.ref (b 0), .ref a, .int 1] [(b 0, .inr (5, mF b i j)), (b 7, .inl (1, 5, .inr (.inl t))), (a, .inl (1, 111, .inr (.inl r))), (b 23, .inl (1, 6, .inr (.inl g))), (b 24, .inl (1, 21, .inr (.inl h0)))] (fun v w' => ∃ g' h' : Nat → Int64, v = some (.int (bI (stepQ t r true).isSome)) ∧ w' = [(b 0, .inr (5, mF b i j)), (b 7, .inl (1, 5, .inr (.inl t))), (a, .inl (1, 111, .inr (.inl ((stepQ t r true).getD r)))), (b 23, .inl (1, 6, .inr (.inl g'))), (b 24, .inl (1, 21, .inr (.inl h')))]) (fun _ _ => False) := by
  intro V hV
  refine xMet_of RX6 hG rfl (by decide) (Nat.le_of_ble_eq_true rfl) fun C hC hQ hX hl hg _ => ?_
  subst hl hg
  obtain ⟨V0, hV0⟩ : ∃ V0, V0 = V := ⟨_, rfl⟩
  obtain ⟨F, hF⟩ : ∃ F, F = xF [(b 0, .inr (5, mF b i j)), (b 7, .inl (1, 5, .inr (.inl t))), (a, .inl (1, 111, .inr (.inl r))), (b 23, .inl (1, 6, .inr (.inl g))), (b 24, .inl (1, 21, .inr (.inl h0)))] := ⟨_, rfl⟩
  refine rn.mono (J := xSt F V0 [(b 0, .inr (5, mF b i j)), (b 7, .inl (1, 5, .inr (.inl t))), (a, .inl (1, 111, .inr (.inl r))), (b 23, .inl (1, 6, .inr (.inl g))), (b 24, .inl (1, 21, .inr (.inl h0)))]) (fun V9 h => by rw [h, hV0, hF]; exact hV.st) ?_
  show rn C (xSt F V0 [(b 0, .inr (5, mF b i j)), (b 7, .inl (1, 5, .inr (.inl t))), (a, .inl (1, 111, .inr (.inl r))), (b 23, .inl (1, 6, .inr (.inl g))), (b 24, .inl (1, 21, .inr (.inl h0)))]) 0 0 0 [(0, .ref (b 0)), (1, .ref a), (2, .int 1)] []
  refine r_aload_n hC 1 dX6_steps_0 rfl 1 rfl ?_
  refine r_iconst hC 0 dX6_steps_1 ic_0 2 rfl ?_
  refine r_lald hC 0 (xix_n 0 (Nat.le_of_ble_eq_true rfl) (Nat.le_of_ble_eq_true rfl)) (fun _ h => h.get 2 rfl) (r 0) (rfl) dX6_steps_2 3 rfl ?_
  refine r_iload_n hC 2 dX6_steps_3 rfl 4 rfl ?_
  refine r_ifeq hC 13 dX6_steps_4 (by decide) 7 rfl (fun h => absurd h (by decide)) (fun _ => ?_)
  refine r_ldc2 hC q3082 dX6_steps_7 10 rfl ?_
  refine r_goto hC 14 dX6_steps_10 (by decide) ?_
  refine r_ladd hC (clockQ r true) dX6_steps_14  (rfl) 15 rfl ?_
  refine r_lstore_n hC 3 [(3, .long (clockQ r true)), (0, .ref (b 0)), (1, .ref a), (2, .int 1)] dX6_steps_15 rfl (Nat.le_of_ble_eq_true rfl) rfl 16 rfl ?_
  refine r_lload_n hC 0 dX6_steps_16 rfl 17 rfl ?_
  refine r_ldc2 hC q3083 dX6_steps_17 20 rfl ?_
  refine r_ldc2 hC q3084 dX6_steps_20 23 rfl ?_
  refine r_invSr hC [.long (clockQ r true), .long (-1000000), .long 1000000] (.int (bI (m_in (clockQ r true) (-1000000) 1000000))) mSX6_in q2891 (metX6_in _ _ hG (clockQ r true) (-1000000) 1000000) (fun _ _ => xIn.nil) ⟨rfl, rfl⟩ 0 0 rfl rfl (Nat.le_of_ble_eq_true rfl) (Nat.le_of_ble_eq_true rfl) rfl (Nat.le_of_ble_eq_true rfl) dX6_steps_23 26 rfl ?_
  refine r_ifne hC 31 dX6_steps_26 (by decide) 29 rfl (fun c1 => ?_) (fun c1 => ?_)
  · skip
    refine r_iconst hC 0 dX6_steps_31 ic_0 32 rfl ?_
    refine r_istore hC 5 [(5, .int 0), (3, .long (clockQ r true)), (0, .ref (b 0)), (1, .ref a), (2, .int 1)] dX6_steps_32 (Nat.le_of_ble_eq_true rfl) rfl 34 rfl ?_
    refine rn.sub (lv' := [(5, .int 0), (3, .long (clockQ r true)), (0, .ref (b 0)), (1, .ref a), (2, .int 1)]) [0, 1, 2, 3, 4] rfl ?_
    refine rn.mono (J := xSt F V0 [(b 0, .inr (5, mF b i j)), (b 7, .inl (1, 5, .inr (.inl t))), (a, .inl (1, 111, .inr (.inl r))), (b 23, .inl (1, 6, .inr (.inl g))), (b 24, .inl (1, 21, .inr (.inl (va_cpy r h0 0 0 0))))]) (fun _ h => by rw [cpy_0]; exact h) ?_
    refine lpX6_steps_a hC b i j t a r g h0 (clockQ r true) 1 ?_ 21 0 rfl
    refine rn_cellJ (J := xSt F V0 [(b 0, .inr (5, mF b i j)), (b 7, .inl (1, 5, .inr (.inl t))), (a, .inl (1, 111, .inr (.inl r))), (b 23, .inl (1, 6, .inr (.inl g))), (b 24, .inl (1, 21, .inr (.inl r)))]) (fun _ h => h.get 4 rfl) (fun j hj => (cpy_in (by omega) (by omega)).trans (by congr 1; omega)) (fun _ h => h.set 4 _ rfl) ?_
    refine r_iconst hC 1 dX6_steps_58 ic_1 59 rfl ?_
    refine r_istore hC 5 [(5, .int 1), (3, .long (clockQ r true)), (0, .ref (b 0)), (1, .ref a), (2, .int 1)] dX6_steps_59 (Nat.le_of_ble_eq_true rfl) rfl 61 rfl ?_
    refine r_iconst hC 0 dX6_steps_61 ic_0 62 rfl ?_
    refine r_istore hC 6 [(6, .int 0), (5, .int 1), (3, .long (clockQ r true)), (0, .ref (b 0)), (1, .ref a), (2, .int 1)] dX6_steps_62 (Nat.le_of_ble_eq_true rfl) rfl 64 rfl ?_
    refine r_iload hC 0 dX6_steps_64 rfl 66 rfl ?_
    refine r_iconst hC 3 dX6_steps_66 ic_3 67 rfl ?_
    refine r_icge hC 161 dX6_steps_67 (by decide) 70 rfl (fun h => absurd h (by decide)) (fun _ => ?_)
    refine r_iload hC 1 dX6_steps_70 rfl 72 rfl ?_
    refine r_ifeq hC 161 dX6_steps_72 (by decide) 75 rfl (fun h => absurd h (by decide)) (fun _ => ?_)
    refine r_aload_n hC 4 dX6_steps_75 rfl 76 rfl ?_
    refine r_iconst hC 1 dX6_steps_76 ic_1 77 rfl ?_
    refine r_lald hC 1 (xix_n 1 (Nat.le_of_ble_eq_true rfl) (Nat.le_of_ble_eq_true rfl)) (fun _ h => h.get 2 rfl) (r 1) (rfl) dX6_steps_77 78 rfl ?_
    refine r_iload_n hC 5 dX6_steps_78 rfl 79 rfl ?_
    refine r_ifeq hC 89 dX6_steps_79 (by decide) 82 rfl (fun h => absurd h (by decide)) (fun _ => ?_)
    refine r_iconst hC 2 dX6_steps_82 ic_2 83 rfl ?_
    refine r_iload hC 0 dX6_steps_83 rfl 85 rfl ?_
    refine r_isub hC 2 dX6_steps_85  (by decide) 86 rfl ?_
    refine r_goto hC 91 dX6_steps_86 (by decide) ?_
    refine r_invSr hC [.long (r 1), .int 2] (.int 2) mSX6_partOf q3085 (metX6_partOf2 _ _ hG (r 1) 2 (by simp [partQ, kick_1, drift_1, hs0, hs])) (fun _ _ => xIn.nil) ⟨rfl, rfl⟩ 0 0 rfl rfl (Nat.le_of_ble_eq_true rfl) (Nat.le_of_ble_eq_true rfl) rfl (Nat.le_of_ble_eq_true rfl) dX6_steps_91 94 rfl ?_
    refine r_istore hC 7 [(7, .int 2), (6, .int 0), (5, .int 1), (3, .long (clockQ r true)), (0, .ref (b 0)), (1, .ref a), (2, .int 1)] dX6_steps_94 (Nat.le_of_ble_eq_true rfl) rfl 96 rfl ?_
    refine r_iload hC 0 dX6_steps_96 rfl 98 rfl ?_
    refine r_iconst hC (-1) dX6_steps_98 ic_m1 99 rfl ?_
    refine r_icne hC 105 dX6_steps_99 (by decide) 102 rfl (fun _ => ?_) (fun h => absurd h (by decide))
    refine r_iload hC 0 dX6_steps_105 rfl 107 rfl ?_
    refine r_iconst hC 2 dX6_steps_107 ic_2 108 rfl ?_
    refine r_irem hC 0 dX6_steps_108 (by decide) (by decide) 109 rfl ?_
    refine r_ifne hC 132 dX6_steps_109 (by decide) 112 rfl (fun h => absurd h (by decide)) (fun _ => ?_)
    refine r_aload_n hC 4 dX6_steps_112 rfl 113 rfl ?_
    refine r_aload_n hC 5 dX6_steps_113 rfl 114 rfl ?_
    refine r_iload hC 0 dX6_steps_114 rfl 116 rfl ?_
    refine r_iconst hC 2 dX6_steps_116 ic_2 117 rfl ?_
    refine r_icne hC 124 dX6_steps_117 (by decide) 120 rfl (fun h => absurd h (by decide)) (fun _ => ?_)
    refine r_iconst hC 1 dX6_steps_120 ic_1 121 rfl ?_
    refine r_goto hC 125 dX6_steps_121 (by decide) ?_
    refine r_iload_n hC 6 dX6_steps_125 rfl 126 rfl ?_
    refine r_invVw hC kX6 (b 0) [.ref a, .int 1, .int 1] [(b 24, .inl (1, 21, .inr (.inl r)))] mVX6_kicks q3088 0 rfl (metX6_kicks11 _ _ hG b _ _ _ a _ _ (rowOK_of ht hm)) [0, 1, 2, 3] [4] rfl rfl rfl rfl (by decide) ⟨rfl, rfl⟩ 0 0 rfl rfl (Nat.le_of_ble_eq_true rfl) (Nat.le_of_ble_eq_true rfl) rfl (Nat.le_of_ble_eq_true rfl) dX6_steps_126 129 rfl (fun v3 w4 h5 => ?_) (fun _ _ h => h.elim)
    obtain ⟨g2, rfl, rfl⟩ := h5
    show rn C (xSt F V0 [(b 24, .inl (1, 21, .inr (.inl r))), (b 0, .inr (5, mF b i j)), (b 7, .inl (1, 5, .inr (.inl t))), (a, .inl (1, 111, .inr (.inl (kickQ t r true true)))), (b 23, .inl (1, 6, .inr (.inl g2)))]) 0 0 129 [(7, .int 2), (6, .int 0), (5, .int 1), (3, .long (clockQ r true)), (0, .ref (b 0)), (1, .ref a), (2, .int 1)] []
    refine r_goto hC 149 dX6_steps_129 (by decide) ?_
    refine r_aload_n hC 5 dX6_steps_149 rfl 150 rfl ?_
    refine r_invSr hC [.ref a] (.int (bI (isInQ (kickQ t r true true)))) mSX6_isIn q3096 (metX6_isIn _ _ hG a _) (fun _ h => h.in.sub [3] rfl rfl) ⟨rfl, rfl⟩ 0 0 rfl rfl (Nat.le_of_ble_eq_true rfl) (Nat.le_of_ble_eq_true rfl) rfl (Nat.le_of_ble_eq_true rfl) dX6_steps_150 153 rfl ?_
    refine r_istore hC 5 [(5, .int (bI (isInQ (kickQ t r true true)))), (7, .int 2), (6, .int 0), (3, .long (clockQ r true)), (0, .ref (b 0)), (1, .ref a), (2, .int 1)] dX6_steps_153 (Nat.le_of_ble_eq_true rfl) rfl 155 rfl ?_
    refine r_iinc hC 1 6 2 [(6, .int 1), (5, .int (bI (isInQ (kickQ t r true true)))), (7, .int 2), (3, .long (clockQ r true)), (0, .ref (b 0)), (1, .ref a), (2, .int 1)] dX6_steps_155 rfl (by decide) (Nat.le_of_ble_eq_true rfl) rfl 158 rfl ?_
    refine r_goto hC 64 dX6_steps_158 (by decide) ?_
    refine r_iload hC 0 dX6_steps_64 rfl 66 rfl ?_
    refine r_iconst hC 3 dX6_steps_66 ic_3 67 rfl ?_
    refine r_icge hC 161 dX6_steps_67 (by decide) 70 rfl (fun h => absurd h (by decide)) (fun _ => ?_)
    refine r_iload hC 1 dX6_steps_70 rfl 72 rfl ?_
    refine r_ifeq hC 161 dX6_steps_72 (by decide) 75 rfl (fun c6 => ?_) (fun c6 => ?_)
    · skip
      refine r_iload hC 1 dX6_steps_161 rfl 163 rfl ?_
      refine r_ifeq hC 170 dX6_steps_163 (by decide) 166 rfl (fun _ => ?_) (fun h => absurd (c6) h)
      refine r_iconst hC 0 dX6_steps_170 ic_0 171 rfl ?_
      refine r_istore hC 6 [(6, .int 0), (5, .int (bI (isInQ (kickQ t r true true)))), (7, .int 2), (3, .long (clockQ r true)), (0, .ref (b 0)), (1, .ref a), (2, .int 1)] dX6_steps_171 (Nat.le_of_ble_eq_true rfl) rfl 173 rfl ?_
      refine rn.mono (J := xSt F V0 [(b 0, .inr (5, mF b i j)), (b 7, .inl (1, 5, .inr (.inl t))), (a, .inl (1, 111, .inr (.inl (kickQ t r true true)))), (b 23, .inl (1, 6, .inr (.inl g2))), (b 24, .inl (1, 21, .inr (.inl r)))]) (fun _ h => h.sub [1, 2, 3, 4, 0] rfl rfl) ?_
      refine rn.sub (lv' := [(6, .int 0), (5, .int (bI (isInQ (kickQ t r true true)))), (0, .ref (b 0)), (1, .ref a)]) [0, 1, 4, 5] rfl ?_
      refine rn.mono (J := xSt F V0 [(b 0, .inr (5, mF b i j)), (b 7, .inl (1, 5, .inr (.inl t))), (a, .inl (1, 111, .inr (.inl (va_cpy r (kickQ t r true true) 0 0 0)))), (b 23, .inl (1, 6, .inr (.inl g2))), (b 24, .inl (1, 21, .inr (.inl r)))]) (fun _ h => by rw [cpy_0]; exact h) ?_
      refine lpX6_steps_b hC b i j t a (kickQ t r true true) g2 r (bI (isInQ (kickQ t r true true))) c6 ?_ 21 0 rfl
      refine rn_cellJ (J := xSt F V0 [(b 0, .inr (5, mF b i j)), (b 7, .inl (1, 5, .inr (.inl t))), (a, .inl (1, 111, .inr (.inl r))), (b 23, .inl (1, 6, .inr (.inl g2))), (b 24, .inl (1, 21, .inr (.inl r)))]) (fun _ h => h.get 2 rfl) (fun j hj => cpy_back (by intro j hj; simp only [kick_off hj, drift_off hj])) (fun _ h => h.set 2 _ rfl) ?_
      refine r_iload hC 0 dX6_steps_202 rfl 204 rfl ?_
      have hS : stepQ t r true = none :=
        stepQ_n1 (bI_n0.mp c1) (partO_no (c := 2) (by simp [partQ, hs0, hs]) (by decide) partA_2 (bI_0.mp c6))
      exact r_zret hC (bI_nar _) (Nat.le_of_ble_eq_true rfl) (Nat.le_of_ble_eq_true rfl) (fun V9 h => hQ _ _ ⟨[(b 0, .inr (5, mF b i j)), (b 7, .inl (1, 5, .inr (.inl t))), (a, .inl (1, 111, .inr (.inl r))), (b 23, .inl (1, 6, .inr (.inl g2))), (b 24, .inl (1, 21, .inr (.inl r)))], ⟨g2, r, by rw [hS, bI_0.mp c6]; rfl, by rw [hS]; rfl⟩, by rw [← hV0, ← hF]; exact h⟩) dX6_steps_204
    · skip
      refine r_aload_n hC 5 dX6_steps_75 rfl 76 rfl ?_
      refine r_iconst hC 1 dX6_steps_76 ic_1 77 rfl ?_
      refine r_lald hC 1 (xix_n 1 (Nat.le_of_ble_eq_true rfl) (Nat.le_of_ble_eq_true rfl)) (fun _ h => h.get 3 rfl) ((kickQ t r true true) 1) (rfl) dX6_steps_77 78 rfl ?_
      refine r_iload_n hC 6 dX6_steps_78 rfl 79 rfl ?_
      refine r_ifeq hC 89 dX6_steps_79 (by decide) 82 rfl (fun h => absurd h (by decide)) (fun _ => ?_)
      refine r_iconst hC 2 dX6_steps_82 ic_2 83 rfl ?_
      refine r_iload hC 0 dX6_steps_83 rfl 85 rfl ?_
      refine r_isub hC 1 dX6_steps_85  (by decide) 86 rfl ?_
      refine r_goto hC 91 dX6_steps_86 (by decide) ?_
      refine r_invSr hC [.long ((kickQ t r true true) 1), .int 1] (.int 1) mSX6_partOf q3085 (metX6_partOf1 _ _ hG ((kickQ t r true true) 1) 1 (by simp [partQ, kick_1, drift_1, hs0, hs])) (fun _ _ => xIn.nil) ⟨rfl, rfl⟩ 0 0 rfl rfl (Nat.le_of_ble_eq_true rfl) (Nat.le_of_ble_eq_true rfl) rfl (Nat.le_of_ble_eq_true rfl) dX6_steps_91 94 rfl ?_
      refine r_istore hC 7 [(7, .int 1), (6, .int 1), (5, .int (bI (isInQ (kickQ t r true true)))), (3, .long (clockQ r true)), (0, .ref (b 0)), (1, .ref a), (2, .int 1)] dX6_steps_94 (Nat.le_of_ble_eq_true rfl) rfl 96 rfl ?_
      refine r_iload hC 0 dX6_steps_96 rfl 98 rfl ?_
      refine r_iconst hC (-1) dX6_steps_98 ic_m1 99 rfl ?_
      refine r_icne hC 105 dX6_steps_99 (by decide) 102 rfl (fun _ => ?_) (fun h => absurd h (by decide))
      refine r_iload hC 0 dX6_steps_105 rfl 107 rfl ?_
      refine r_iconst hC 2 dX6_steps_107 ic_2 108 rfl ?_
      refine r_irem hC 1 dX6_steps_108 (by decide) (by decide) 109 rfl ?_
      refine r_ifne hC 132 dX6_steps_109 (by decide) 112 rfl (fun _ => ?_) (fun h => absurd h (by decide))
      refine r_aload_n hC 4 dX6_steps_132 rfl 133 rfl ?_
      refine r_aload_n hC 5 dX6_steps_133 rfl 134 rfl ?_
      refine r_iload hC 0 dX6_steps_134 rfl 136 rfl ?_
      refine r_iconst hC 3 dX6_steps_136 ic_3 137 rfl ?_
      refine r_icne hC 144 dX6_steps_137 (by decide) 140 rfl (fun _ => ?_) (fun h => absurd h (by decide))
      refine r_iconst hC 0 dX6_steps_144 ic_0 145 rfl ?_
      refine r_iload_n hC 6 dX6_steps_145 rfl 146 rfl ?_
      refine r_invVw hC kX6 (b 0) [.ref a, .int 0, .int 1] [(b 24, .inl (1, 21, .inr (.inl r))), (b 23, .inl (1, 6, .inr (.inl g2)))] mVX6_drifts q3092 1 rfl (metX6_drifts01 _ _ hG b _ _ _ a _ (rowOK_of ht (mOK_kick hm))) [1, 2, 3] [0, 4] rfl rfl rfl rfl (by decide) ⟨rfl, rfl⟩ 0 0 rfl rfl (Nat.le_of_ble_eq_true rfl) (Nat.le_of_ble_eq_true rfl) rfl (Nat.le_of_ble_eq_true rfl) dX6_steps_146 149 rfl (fun v8 w9 h10 => ?_) (fun _ _ h => h.elim)
      obtain ⟨rfl, rfl⟩ := h10
      show rn C (xSt F V0 [(b 24, .inl (1, 21, .inr (.inl r))), (b 23, .inl (1, 6, .inr (.inl g2))), (b 0, .inr (5, mF b i j)), (b 7, .inl (1, 5, .inr (.inl t))), (a, .inl (1, 111, .inr (.inl (driftQ t (kickQ t r true true) false true))))]) 0 0 149 [(7, .int 1), (6, .int 1), (5, .int (bI (isInQ (kickQ t r true true)))), (3, .long (clockQ r true)), (0, .ref (b 0)), (1, .ref a), (2, .int 1)] []
      refine r_aload_n hC 5 dX6_steps_149 rfl 150 rfl ?_
      refine r_invSr hC [.ref a] (.int (bI (isInQ (driftQ t (kickQ t r true true) false true)))) mSX6_isIn q3096 (metX6_isIn _ _ hG a _) (fun _ h => h.in.sub [4] rfl rfl) ⟨rfl, rfl⟩ 0 0 rfl rfl (Nat.le_of_ble_eq_true rfl) (Nat.le_of_ble_eq_true rfl) rfl (Nat.le_of_ble_eq_true rfl) dX6_steps_150 153 rfl ?_
      refine r_istore hC 5 [(5, .int (bI (isInQ (driftQ t (kickQ t r true true) false true)))), (7, .int 1), (6, .int 1), (3, .long (clockQ r true)), (0, .ref (b 0)), (1, .ref a), (2, .int 1)] dX6_steps_153 (Nat.le_of_ble_eq_true rfl) rfl 155 rfl ?_
      refine r_iinc hC 2 6 2 [(6, .int 2), (5, .int (bI (isInQ (driftQ t (kickQ t r true true) false true)))), (7, .int 1), (3, .long (clockQ r true)), (0, .ref (b 0)), (1, .ref a), (2, .int 1)] dX6_steps_155 rfl (by decide) (Nat.le_of_ble_eq_true rfl) rfl 158 rfl ?_
      refine r_goto hC 64 dX6_steps_158 (by decide) ?_
      refine r_iload hC 0 dX6_steps_64 rfl 66 rfl ?_
      refine r_iconst hC 3 dX6_steps_66 ic_3 67 rfl ?_
      refine r_icge hC 161 dX6_steps_67 (by decide) 70 rfl (fun h => absurd h (by decide)) (fun _ => ?_)
      refine r_iload hC 1 dX6_steps_70 rfl 72 rfl ?_
      refine r_ifeq hC 161 dX6_steps_72 (by decide) 75 rfl (fun c11 => ?_) (fun c11 => ?_)
      · skip
        refine r_iload hC 1 dX6_steps_161 rfl 163 rfl ?_
        refine r_ifeq hC 170 dX6_steps_163 (by decide) 166 rfl (fun _ => ?_) (fun h => absurd (c11) h)
        refine r_iconst hC 0 dX6_steps_170 ic_0 171 rfl ?_
        refine r_istore hC 6 [(6, .int 0), (5, .int (bI (isInQ (driftQ t (kickQ t r true true) false true)))), (7, .int 1), (3, .long (clockQ r true)), (0, .ref (b 0)), (1, .ref a), (2, .int 1)] dX6_steps_171 (Nat.le_of_ble_eq_true rfl) rfl 173 rfl ?_
        refine rn.mono (J := xSt F V0 [(b 0, .inr (5, mF b i j)), (b 7, .inl (1, 5, .inr (.inl t))), (a, .inl (1, 111, .inr (.inl (driftQ t (kickQ t r true true) false true)))), (b 23, .inl (1, 6, .inr (.inl g2))), (b 24, .inl (1, 21, .inr (.inl r)))]) (fun _ h => h.sub [2, 3, 4, 1, 0] rfl rfl) ?_
        refine rn.sub (lv' := [(6, .int 0), (5, .int (bI (isInQ (driftQ t (kickQ t r true true) false true)))), (0, .ref (b 0)), (1, .ref a)]) [0, 1, 4, 5] rfl ?_
        refine rn.mono (J := xSt F V0 [(b 0, .inr (5, mF b i j)), (b 7, .inl (1, 5, .inr (.inl t))), (a, .inl (1, 111, .inr (.inl (va_cpy r (driftQ t (kickQ t r true true) false true) 0 0 0)))), (b 23, .inl (1, 6, .inr (.inl g2))), (b 24, .inl (1, 21, .inr (.inl r)))]) (fun _ h => by rw [cpy_0]; exact h) ?_
        refine lpX6_steps_b hC b i j t a (driftQ t (kickQ t r true true) false true) g2 r (bI (isInQ (driftQ t (kickQ t r true true) false true))) c11 ?_ 21 0 rfl
        refine rn_cellJ (J := xSt F V0 [(b 0, .inr (5, mF b i j)), (b 7, .inl (1, 5, .inr (.inl t))), (a, .inl (1, 111, .inr (.inl r))), (b 23, .inl (1, 6, .inr (.inl g2))), (b 24, .inl (1, 21, .inr (.inl r)))]) (fun _ h => h.get 2 rfl) (fun j hj => cpy_back (by intro j hj; simp only [kick_off hj, drift_off hj])) (fun _ h => h.set 2 _ rfl) ?_
        refine r_iload hC 0 dX6_steps_202 rfl 204 rfl ?_
        have hS : stepQ t r true = none :=
          stepQ_n2 (bI_n0.mp c1) (partO_ok (c := 2) (by simp [partQ, hs0, hs]) (by decide) partA_2 (bI_n0.mp c6)) (partO_no (c := 1) (by simp [partQ, hs0, hs]) (by decide) partA_1 (bI_0.mp c11))
        exact r_zret hC (bI_nar _) (Nat.le_of_ble_eq_true rfl) (Nat.le_of_ble_eq_true rfl) (fun V9 h => hQ _ _ ⟨[(b 0, .inr (5, mF b i j)), (b 7, .inl (1, 5, .inr (.inl t))), (a, .inl (1, 111, .inr (.inl r))), (b 23, .inl (1, 6, .inr (.inl g2))), (b 24, .inl (1, 21, .inr (.inl r)))], ⟨g2, r, by rw [hS, bI_0.mp c11]; rfl, by rw [hS]; rfl⟩, by rw [← hV0, ← hF]; exact h⟩) dX6_steps_204
      · skip
        refine r_aload_n hC 5 dX6_steps_75 rfl 76 rfl ?_
        refine r_iconst hC 1 dX6_steps_76 ic_1 77 rfl ?_
        refine r_lald hC 1 (xix_n 1 (Nat.le_of_ble_eq_true rfl) (Nat.le_of_ble_eq_true rfl)) (fun _ h => h.get 4 rfl) ((driftQ t (kickQ t r true true) false true) 1) (rfl) dX6_steps_77 78 rfl ?_
        refine r_iload_n hC 6 dX6_steps_78 rfl 79 rfl ?_
        refine r_ifeq hC 89 dX6_steps_79 (by decide) 82 rfl (fun h => absurd h (by decide)) (fun _ => ?_)
        refine r_iconst hC 2 dX6_steps_82 ic_2 83 rfl ?_
        refine r_iload hC 0 dX6_steps_83 rfl 85 rfl ?_
        refine r_isub hC 0 dX6_steps_85  (by decide) 86 rfl ?_
        refine r_goto hC 91 dX6_steps_86 (by decide) ?_
        refine r_invSr hC [.long ((driftQ t (kickQ t r true true) false true) 1), .int 0] (.int 2) mSX6_partOf q3085 (metX6_partOf0 _ _ hG ((driftQ t (kickQ t r true true) false true) 1) 2 (by simp [partQ, kick_1, drift_1, hs0, hs])) (fun _ _ => xIn.nil) ⟨rfl, rfl⟩ 0 0 rfl rfl (Nat.le_of_ble_eq_true rfl) (Nat.le_of_ble_eq_true rfl) rfl (Nat.le_of_ble_eq_true rfl) dX6_steps_91 94 rfl ?_
        refine r_istore hC 7 [(7, .int 2), (6, .int 2), (5, .int (bI (isInQ (driftQ t (kickQ t r true true) false true)))), (3, .long (clockQ r true)), (0, .ref (b 0)), (1, .ref a), (2, .int 1)] dX6_steps_94 (Nat.le_of_ble_eq_true rfl) rfl 96 rfl ?_
        refine r_iload hC 0 dX6_steps_96 rfl 98 rfl ?_
        refine r_iconst hC (-1) dX6_steps_98 ic_m1 99 rfl ?_
        refine r_icne hC 105 dX6_steps_99 (by decide) 102 rfl (fun _ => ?_) (fun h => absurd h (by decide))
        refine r_iload hC 0 dX6_steps_105 rfl 107 rfl ?_
        refine r_iconst hC 2 dX6_steps_107 ic_2 108 rfl ?_
        refine r_irem hC 0 dX6_steps_108 (by decide) (by decide) 109 rfl ?_
        refine r_ifne hC 132 dX6_steps_109 (by decide) 112 rfl (fun h => absurd h (by decide)) (fun _ => ?_)
        refine r_aload_n hC 4 dX6_steps_112 rfl 113 rfl ?_
        refine r_aload_n hC 5 dX6_steps_113 rfl 114 rfl ?_
        refine r_iload hC 0 dX6_steps_114 rfl 116 rfl ?_
        refine r_iconst hC 2 dX6_steps_116 ic_2 117 rfl ?_
        refine r_icne hC 124 dX6_steps_117 (by decide) 120 rfl (fun h => absurd h (by decide)) (fun _ => ?_)
        refine r_iconst hC 1 dX6_steps_120 ic_1 121 rfl ?_
        refine r_goto hC 125 dX6_steps_121 (by decide) ?_
        refine r_iload_n hC 6 dX6_steps_125 rfl 126 rfl ?_
        refine r_invVw hC kX6 (b 0) [.ref a, .int 1, .int 1] [(b 24, .inl (1, 21, .inr (.inl r)))] mVX6_kicks q3088 2 rfl (metX6_kicks11 _ _ hG b _ _ _ a _ _ (rowOK_of ht (mOK_drift (mOK_kick hm)))) [2, 3, 4, 1] [0] rfl rfl rfl rfl (by decide) ⟨rfl, rfl⟩ 0 0 rfl rfl (Nat.le_of_ble_eq_true rfl) (Nat.le_of_ble_eq_true rfl) rfl (Nat.le_of_ble_eq_true rfl) dX6_steps_126 129 rfl (fun v13 w14 h15 => ?_) (fun _ _ h => h.elim)
        obtain ⟨g12, rfl, rfl⟩ := h15
        show rn C (xSt F V0 [(b 24, .inl (1, 21, .inr (.inl r))), (b 0, .inr (5, mF b i j)), (b 7, .inl (1, 5, .inr (.inl t))), (a, .inl (1, 111, .inr (.inl (kickQ t (driftQ t (kickQ t r true true) false true) true true)))), (b 23, .inl (1, 6, .inr (.inl g12)))]) 0 0 129 [(7, .int 2), (6, .int 2), (5, .int (bI (isInQ (driftQ t (kickQ t r true true) false true)))), (3, .long (clockQ r true)), (0, .ref (b 0)), (1, .ref a), (2, .int 1)] []
        refine r_goto hC 149 dX6_steps_129 (by decide) ?_
        refine r_aload_n hC 5 dX6_steps_149 rfl 150 rfl ?_
        refine r_invSr hC [.ref a] (.int (bI (isInQ (kickQ t (driftQ t (kickQ t r true true) false true) true true)))) mSX6_isIn q3096 (metX6_isIn _ _ hG a _) (fun _ h => h.in.sub [3] rfl rfl) ⟨rfl, rfl⟩ 0 0 rfl rfl (Nat.le_of_ble_eq_true rfl) (Nat.le_of_ble_eq_true rfl) rfl (Nat.le_of_ble_eq_true rfl) dX6_steps_150 153 rfl ?_
        refine r_istore hC 5 [(5, .int (bI (isInQ (kickQ t (driftQ t (kickQ t r true true) false true) true true)))), (7, .int 2), (6, .int 2), (3, .long (clockQ r true)), (0, .ref (b 0)), (1, .ref a), (2, .int 1)] dX6_steps_153 (Nat.le_of_ble_eq_true rfl) rfl 155 rfl ?_
        refine r_iinc hC 3 6 2 [(6, .int 3), (5, .int (bI (isInQ (kickQ t (driftQ t (kickQ t r true true) false true) true true)))), (7, .int 2), (3, .long (clockQ r true)), (0, .ref (b 0)), (1, .ref a), (2, .int 1)] dX6_steps_155 rfl (by decide) (Nat.le_of_ble_eq_true rfl) rfl 158 rfl ?_
        refine r_goto hC 64 dX6_steps_158 (by decide) ?_
        refine r_iload hC 0 dX6_steps_64 rfl 66 rfl ?_
        refine r_iconst hC 3 dX6_steps_66 ic_3 67 rfl ?_
        refine r_icge hC 161 dX6_steps_67 (by decide) 70 rfl (fun _ => ?_) (fun h => absurd h (by decide))
        refine r_iload hC 1 dX6_steps_161 rfl 163 rfl ?_
        refine r_ifeq hC 170 dX6_steps_163 (by decide) 166 rfl (fun c16 => ?_) (fun c16 => ?_)
        · skip
          refine r_iconst hC 0 dX6_steps_170 ic_0 171 rfl ?_
          refine r_istore hC 6 [(6, .int 0), (5, .int (bI (isInQ (kickQ t (driftQ t (kickQ t r true true) false true) true true)))), (7, .int 2), (3, .long (clockQ r true)), (0, .ref (b 0)), (1, .ref a), (2, .int 1)] dX6_steps_171 (Nat.le_of_ble_eq_true rfl) rfl 173 rfl ?_
          refine rn.mono (J := xSt F V0 [(b 0, .inr (5, mF b i j)), (b 7, .inl (1, 5, .inr (.inl t))), (a, .inl (1, 111, .inr (.inl (kickQ t (driftQ t (kickQ t r true true) false true) true true)))), (b 23, .inl (1, 6, .inr (.inl g12))), (b 24, .inl (1, 21, .inr (.inl r)))]) (fun _ h => h.sub [1, 2, 3, 4, 0] rfl rfl) ?_
          refine rn.sub (lv' := [(6, .int 0), (5, .int (bI (isInQ (kickQ t (driftQ t (kickQ t r true true) false true) true true)))), (0, .ref (b 0)), (1, .ref a)]) [0, 1, 4, 5] rfl ?_
          refine rn.mono (J := xSt F V0 [(b 0, .inr (5, mF b i j)), (b 7, .inl (1, 5, .inr (.inl t))), (a, .inl (1, 111, .inr (.inl (va_cpy r (kickQ t (driftQ t (kickQ t r true true) false true) true true) 0 0 0)))), (b 23, .inl (1, 6, .inr (.inl g12))), (b 24, .inl (1, 21, .inr (.inl r)))]) (fun _ h => by rw [cpy_0]; exact h) ?_
          refine lpX6_steps_b hC b i j t a (kickQ t (driftQ t (kickQ t r true true) false true) true true) g12 r (bI (isInQ (kickQ t (driftQ t (kickQ t r true true) false true) true true))) c16 ?_ 21 0 rfl
          refine rn_cellJ (J := xSt F V0 [(b 0, .inr (5, mF b i j)), (b 7, .inl (1, 5, .inr (.inl t))), (a, .inl (1, 111, .inr (.inl r))), (b 23, .inl (1, 6, .inr (.inl g12))), (b 24, .inl (1, 21, .inr (.inl r)))]) (fun _ h => h.get 2 rfl) (fun j hj => cpy_back (by intro j hj; simp only [kick_off hj, drift_off hj])) (fun _ h => h.set 2 _ rfl) ?_
          refine r_iload hC 0 dX6_steps_202 rfl 204 rfl ?_
          have hS : stepQ t r true = none :=
            stepQ_n3 (bI_n0.mp c1) (partO_ok (c := 2) (by simp [partQ, hs0, hs]) (by decide) partA_2 (bI_n0.mp c6)) (partO_ok (c := 1) (by simp [partQ, hs0, hs]) (by decide) partA_1 (bI_n0.mp c11)) (partO_no (c := 2) (by simp [partQ, hs0, hs]) (by decide) partA_2 (bI_0.mp c16))
          exact r_zret hC (bI_nar _) (Nat.le_of_ble_eq_true rfl) (Nat.le_of_ble_eq_true rfl) (fun V9 h => hQ _ _ ⟨[(b 0, .inr (5, mF b i j)), (b 7, .inl (1, 5, .inr (.inl t))), (a, .inl (1, 111, .inr (.inl r))), (b 23, .inl (1, 6, .inr (.inl g12))), (b 24, .inl (1, 21, .inr (.inl r)))], ⟨g12, r, by rw [hS, bI_0.mp c16]; rfl, by rw [hS]; rfl⟩, by rw [← hV0, ← hF]; exact h⟩) dX6_steps_204
        · skip
          refine r_aload_n hC 5 dX6_steps_166 rfl 167 rfl ?_
          refine r_iconst hC 0 dX6_steps_167 ic_0 168 rfl ?_
          refine r_lload_n hC 3 dX6_steps_168 rfl 169 rfl ?_
          refine r_last (J := xSt F V0 [(b 24, .inl (1, 21, .inr (.inl r))), (b 0, .inr (5, mF b i j)), (b 7, .inl (1, 5, .inr (.inl t))), (a, .inl (1, 111, .inr (.inl (va_up (kickQ t (driftQ t (kickQ t r true true) false true) true true) 0 (clockQ r true))))), (b 23, .inl (1, 6, .inr (.inl g12)))]) hC 0 (xix_n 0 (Nat.le_of_ble_eq_true rfl) (Nat.le_of_ble_eq_true rfl)) (fun _ h => h.get 3 rfl) dX6_steps_169 (fun _ h => h.set 3 _ rfl) 170 rfl ?_
          generalize hu17 : va_up (kickQ t (driftQ t (kickQ t r true true) false true) true true) 0 (clockQ r true) = u17
          refine r_iconst hC 0 dX6_steps_170 ic_0 171 rfl ?_
          refine r_istore hC 6 [(6, .int 0), (5, .int (bI (isInQ (kickQ t (driftQ t (kickQ t r true true) false true) true true)))), (7, .int 2), (3, .long (clockQ r true)), (0, .ref (b 0)), (1, .ref a), (2, .int 1)] dX6_steps_171 (Nat.le_of_ble_eq_true rfl) rfl 173 rfl ?_
          refine r_iload hC 0 dX6_steps_173 rfl 175 rfl ?_
          refine r_bipush hC 21 dX6_steps_175 bp_21 177 rfl ?_
          refine r_icge hC 202 dX6_steps_177 (by decide) 180 rfl (fun h => absurd h (by decide)) (fun _ => ?_)
          refine r_iload hC 1 dX6_steps_180 rfl 182 rfl ?_
          refine r_ifne hC 202 dX6_steps_182 (by decide) 185 rfl (fun _ => ?_) (fun h => absurd h (c16))
          refine r_iload hC 1 dX6_steps_202 rfl 204 rfl ?_
          subst hu17
          have hS : stepQ t r true = some (va_up (kickQ t (driftQ t (kickQ t r true true) false true) true true) 0 (clockQ r true)) :=
            stepQ_ok (bI_n0.mp c1) (partO_ok (c := 2) (by simp [partQ, hs0, hs]) (by decide) partA_2 (bI_n0.mp c6)) (partO_ok (c := 1) (by simp [partQ, hs0, hs]) (by decide) partA_1 (bI_n0.mp c11)) (partO_ok (c := 2) (by simp [partQ, hs0, hs]) (by decide) partA_2 (bI_n0.mp c16))
          exact r_zret hC (bI_nar _) (Nat.le_of_ble_eq_true rfl) (Nat.le_of_ble_eq_true rfl) (fun V9 h => hQ _ _ ⟨[(b 0, .inr (5, mF b i j)), (b 7, .inl (1, 5, .inr (.inl t))), (a, .inl (1, 111, .inr (.inl (va_up (kickQ t (driftQ t (kickQ t r true true) false true) true true) 0 (clockQ r true))))), (b 23, .inl (1, 6, .inr (.inl g12))), (b 24, .inl (1, 21, .inr (.inl r)))], ⟨g12, r, by rw [hS, bI_n0.mp c16]; rfl, by rw [hS]; rfl⟩, by rw [← hV0, ← hF]; exact (h.sub [1, 2, 3, 4, 0] rfl rfl)⟩) dX6_steps_204
  · skip
    refine r_iconst hC 0 dX6_steps_29 ic_0 30 rfl ?_
    have hS : stepQ t r true = none :=
      stepQ_n0 (bI_0.mp c1)
    exact r_zret hC (by decide) (Nat.le_of_ble_eq_true rfl) (Nat.le_of_ble_eq_true rfl) (fun V9 h => hQ _ _ ⟨[(b 0, .inr (5, mF b i j)), (b 7, .inl (1, 5, .inr (.inl t))), (a, .inl (1, 111, .inr (.inl r))), (b 23, .inl (1, 6, .inr (.inl g))), (b 24, .inl (1, 21, .inr (.inl h0)))], ⟨g, h0, by rw [hS]; rfl, by rw [hS]; rfl⟩, by rw [← hV0, ← hF]; exact h⟩) dX6_steps_30
set_option maxHeartbeats 4000000 in
set_option maxRecDepth 100000 in
theorem metX6_steps0 (l : Launch) (G : xG) (hG : xGood G) (b : Nat → Nat) (i : Nat → Int32) (j : Nat → Int64) (t : Nat → Int64) (a : Nat) (r : Nat → Int64) (g h0' : Nat → Int64) (ht : tOK t) (hm : mOK r) : xWm l G yX6_steps (Cond.code yX6_steps cX6_steps 8 (some .boolean)) { frames := 6, locals := 151, cells := 0, slots := 0 } [.ref (b 0), .ref a, .int 0] [(b 0, .inr (5, mF b i j)), (b 7, .inl (1, 5, .inr (.inl t))), (a, .inl (1, 111, .inr (.inl r))), (b 23, .inl (1, 6, .inr (.inl g))), (b 24, .inl (1, 21, .inr (.inl h0')))] (fun v w' => ∃ g' h' : Nat → Int64, v = some (.int (bI (stepQ t r false).isSome)) ∧ w' = [(b 0, .inr (5, mF b i j)), (b 7, .inl (1, 5, .inr (.inl t))), (a, .inl (1, 111, .inr (.inl ((stepQ t r false).getD r)))), (b 23, .inl (1, 6, .inr (.inl g'))), (b 24, .inl (1, 21, .inr (.inl h')))]) (fun _ _ => False) := by
  by_cases h0 : r 1 = 0
  · exact metX6_steps00 l G hG b i j t a r g h0' ht hm h0
  · by_cases h1 : r 1 = 1
    · exact metX6_steps01 l G hG b i j t a r g h0' ht hm h0 h1
    · exact metX6_steps02 l G hG b i j t a r g h0' ht hm h0 h1
set_option maxHeartbeats 4000000 in
set_option maxRecDepth 100000 in
theorem metX6_steps1 (l : Launch) (G : xG) (hG : xGood G) (b : Nat → Nat) (i : Nat → Int32) (j : Nat → Int64) (t : Nat → Int64) (a : Nat) (r : Nat → Int64) (g h0' : Nat → Int64) (ht : tOK t) (hm : mOK r) : xWm l G yX6_steps (Cond.code yX6_steps cX6_steps 8 (some .boolean)) { frames := 6, locals := 151, cells := 0, slots := 0 } [.ref (b 0), .ref a, .int 1] [(b 0, .inr (5, mF b i j)), (b 7, .inl (1, 5, .inr (.inl t))), (a, .inl (1, 111, .inr (.inl r))), (b 23, .inl (1, 6, .inr (.inl g))), (b 24, .inl (1, 21, .inr (.inl h0')))] (fun v w' => ∃ g' h' : Nat → Int64, v = some (.int (bI (stepQ t r true).isSome)) ∧ w' = [(b 0, .inr (5, mF b i j)), (b 7, .inl (1, 5, .inr (.inl t))), (a, .inl (1, 111, .inr (.inl ((stepQ t r true).getD r)))), (b 23, .inl (1, 6, .inr (.inl g'))), (b 24, .inl (1, 21, .inr (.inl h')))]) (fun _ _ => False) := by
  by_cases h0 : r 1 = 0
  · exact metX6_steps10 l G hG b i j t a r g h0' ht hm h0
  · by_cases h1 : r 1 = 1
    · exact metX6_steps11 l G hG b i j t a r g h0' ht hm h0 h1
    · exact metX6_steps12 l G hG b i j t a r g h0' ht hm h0 h1
