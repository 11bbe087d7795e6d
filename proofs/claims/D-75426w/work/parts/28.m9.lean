/-! ===== the reference: walks ===== -/
set_option maxRecDepth 100000
def walkL (t : Nat → Int64) (bk : Bool) : Nat → (Nat → Int64) → Nat × (Nat → Int64)
  | 0, r => (0, r)
  | f + 1, r => match stepQ t r bk with
    | none => (0, r)
    | some r1 => ((walkL t bk f r1).1 + 1, (walkL t bk f r1).2)
theorem walkL_le {t : Nat → Int64} {bk : Bool} : ∀ {f : Nat} {r : Nat → Int64}, (walkL t bk f r).1 ≤ f := by
  intro f
  induction f with
  | zero => intro r; exact Nat.le_refl 0
  | succ f ih =>
    intro r
    rw [walkL]
    split
    · exact Nat.zero_le _
    · exact Nat.succ_le_succ ih
theorem metX6_steps0N (l : Launch) (G : xG) (hG : xGood G) (b : Nat → Nat) (i : Nat → Int32) (j : Nat → Int64) (t : Nat → Int64) (a : Nat) (r : Nat → Int64) (g h0 : Nat → Int64) (ht : tOK t) (hm : mOK r) (ho : stepQ t r false = none) : xWm l G yX6_steps (Cond.code yX6_steps cX6_steps 8 (some .boolean)) { frames := 6, locals := 151, cells := 0, slots := 0 } [.ref (b 0), .ref a, .int 0] [(b 0, .inr (5, mF b i j)), (b 7, .inl (1, 5, .inr (.inl t))), (a, .inl (1, 111, .inr (.inl r))), (b 23, .inl (1, 6, .inr (.inl g))), (b 24, .inl (1, 21, .inr (.inl h0)))] (fun v w' => ∃ g' h' : Nat → Int64, v = some (.int 0) ∧ w' = [(b 0, .inr (5, mF b i j)), (b 7, .inl (1, 5, .inr (.inl t))), (a, .inl (1, 111, .inr (.inl r))), (b 23, .inl (1, 6, .inr (.inl g'))), (b 24, .inl (1, 21, .inr (.inl h')))]) (fun _ _ => False) :=
  (metX6_steps0 l G hG b i j t a r g h0 ht hm).imp fun v w' ⟨g', h', e1, e2⟩ => ⟨g', h', by rw [e1, ho]; rfl, by rw [e2, ho]; rfl⟩
theorem metX6_steps0S (l : Launch) (G : xG) (hG : xGood G) (b : Nat → Nat) (i : Nat → Int32) (j : Nat → Int64) (t : Nat → Int64) (a : Nat) (r : Nat → Int64) (g h0 : Nat → Int64) (ht : tOK t) (hm : mOK r) (r1 : Nat → Int64) (ho : stepQ t r false = some r1) : xWm l G yX6_steps (Cond.code yX6_steps cX6_steps 8 (some .boolean)) { frames := 6, locals := 151, cells := 0, slots := 0 } [.ref (b 0), .ref a, .int 0] [(b 0, .inr (5, mF b i j)), (b 7, .inl (1, 5, .inr (.inl t))), (a, .inl (1, 111, .inr (.inl r))), (b 23, .inl (1, 6, .inr (.inl g))), (b 24, .inl (1, 21, .inr (.inl h0)))] (fun v w' => ∃ g' h' : Nat → Int64, v = some (.int 1) ∧ w' = [(b 0, .inr (5, mF b i j)), (b 7, .inl (1, 5, .inr (.inl t))), (a, .inl (1, 111, .inr (.inl r1))), (b 23, .inl (1, 6, .inr (.inl g'))), (b 24, .inl (1, 21, .inr (.inl h')))]) (fun _ _ => False) :=
  (metX6_steps0 l G hG b i j t a r g h0 ht hm).imp fun v w' ⟨g', h', e1, e2⟩ => ⟨g', h', by rw [e1, ho]; rfl, by rw [e2, ho]; rfl⟩
theorem metX6_steps1N (l : Launch) (G : xG) (hG : xGood G) (b : Nat → Nat) (i : Nat → Int32) (j : Nat → Int64) (t : Nat → Int64) (a : Nat) (r : Nat → Int64) (g h0 : Nat → Int64) (ht : tOK t) (hm : mOK r) (ho : stepQ t r true = none) : xWm l G yX6_steps (Cond.code yX6_steps cX6_steps 8 (some .boolean)) { frames := 6, locals := 151, cells := 0, slots := 0 } [.ref (b 0), .ref a, .int 1] [(b 0, .inr (5, mF b i j)), (b 7, .inl (1, 5, .inr (.inl t))), (a, .inl (1, 111, .inr (.inl r))), (b 23, .inl (1, 6, .inr (.inl g))), (b 24, .inl (1, 21, .inr (.inl h0)))] (fun v w' => ∃ g' h' : Nat → Int64, v = some (.int 0) ∧ w' = [(b 0, .inr (5, mF b i j)), (b 7, .inl (1, 5, .inr (.inl t))), (a, .inl (1, 111, .inr (.inl r))), (b 23, .inl (1, 6, .inr (.inl g'))), (b 24, .inl (1, 21, .inr (.inl h')))]) (fun _ _ => False) :=
  (metX6_steps1 l G hG b i j t a r g h0 ht hm).imp fun v w' ⟨g', h', e1, e2⟩ => ⟨g', h', by rw [e1, ho]; rfl, by rw [e2, ho]; rfl⟩
theorem metX6_steps1S (l : Launch) (G : xG) (hG : xGood G) (b : Nat → Nat) (i : Nat → Int32) (j : Nat → Int64) (t : Nat → Int64) (a : Nat) (r : Nat → Int64) (g h0 : Nat → Int64) (ht : tOK t) (hm : mOK r) (r1 : Nat → Int64) (ho : stepQ t r true = some r1) : xWm l G yX6_steps (Cond.code yX6_steps cX6_steps 8 (some .boolean)) { frames := 6, locals := 151, cells := 0, slots := 0 } [.ref (b 0), .ref a, .int 1] [(b 0, .inr (5, mF b i j)), (b 7, .inl (1, 5, .inr (.inl t))), (a, .inl (1, 111, .inr (.inl r))), (b 23, .inl (1, 6, .inr (.inl g))), (b 24, .inl (1, 21, .inr (.inl h0)))] (fun v w' => ∃ g' h' : Nat → Int64, v = some (.int 1) ∧ w' = [(b 0, .inr (5, mF b i j)), (b 7, .inl (1, 5, .inr (.inl t))), (a, .inl (1, 111, .inr (.inl r1))), (b 23, .inl (1, 6, .inr (.inl g'))), (b 24, .inl (1, 21, .inr (.inl h')))]) (fun _ _ => False) :=
  (metX6_steps1 l G hG b i j t a r g h0 ht hm).imp fun v w' ⟨g', h', e1, e2⟩ => ⟨g', h', by rw [e1, ho]; rfl, by rw [e2, ho]; rfl⟩
set_option maxHeartbeats 4000000 in
set_option maxRecDepth 100000 in
theorem lpX6_back {C : xC} {F : Nat → Prop} {V0 : xV} {k n : Nat} {rm : Room} (hG : xGood (xGG C)) (hfr : (7 : Nat).ble rm.frames = true) (hlo : (178 : Nat).ble rm.locals = true) (hC : xCtx C RX6 cX6_back 3 (some .int) rm) (hk0 : k = 0) (hn0 : n = 0) (N : Nat) (hN : N ≤ 500) (b : Nat → Nat) (i : Nat → Int32) (j : Nat → Int64) (hz : Nat → Int64) (t : Nat → Int64) (ht : tOK t) : ∀ (f c : Nat) (r g h0 : Nat → Int64), c + f = N → mOK r → (∀ g' h' : Nat → Int64, rn C (xSt F V0 [(b 0, .inr (5, mF b i j)), (b 7, .inl (1, 5, .inr (.inl t))), (b 1, .inl (1, 111, .inr (.inl ((walkL t true f r).2)))), (b 23, .inl (1, 6, .inr (.inl g'))), (b 24, .inl (1, 21, .inr (.inl h'))), (b 6, .inl (1, 1110, .inr (.inl hz)))]) k n 53 [(2, .int (nI (c + (walkL t true f r).1))), (0, .ref (b 0))] []) → rn C (xSt F V0 [(b 0, .inr (5, mF b i j)), (b 7, .inl (1, 5, .inr (.inl t))), (b 1, .inl (1, 111, .inr (.inl r))), (b 23, .inl (1, 6, .inr (.inl g))), (b 24, .inl (1, 21, .inr (.inl h0))), (b 6, .inl (1, 1110, .inr (.inl hz)))]) k n 30 [(2, .int (nI c)), (1, .int (nI N)), (0, .ref (b 0))] [] := by
  subst hk0 hn0
  intro f
  induction f with
  | zero =>
    intro c r g h0 hc hm kx
    have hc : c = N := by omega
    subst hc
    refine r_iload_n hC 0 dX6_back_30 rfl 31 rfl ?_
    refine r_iload_n hC 1 dX6_back_31 rfl 32 rfl ?_
    refine r_icge hC 53 dX6_back_32 (by decide) 35 rfl (fun _ => ?_) (fun h => absurd (Int32.le_refl _) h)
    refine rn.sub (lv' := [(2, .int (nI c)), (0, .ref (b 0))]) [0, 2] rfl ?_
    exact kx _ _
  | succ f ih =>
    intro c r g h0 hc hm kx
    refine r_iload_n hC 0 dX6_back_30 rfl 31 rfl ?_
    refine r_iload_n hC 1 dX6_back_31 rfl 32 rfl ?_
    refine r_icge hC 53 dX6_back_32 (by decide) 35 rfl (fun h => absurd h (nI_ge (by omega) (by omega))) (fun _ => ?_)
    refine r_aload_n hC 2 dX6_back_35 rfl 36 rfl ?_
    refine r_aload_n hC 2 dX6_back_36 rfl 37 rfl ?_
    refine r_get (v := .ref (b 1)) hC kX6 1 rfl q2754 (fun _ h => h.get 0 rfl) rfl dX6_back_37 40 rfl ?_
    refine r_iconst hC 1 dX6_back_40 ic_1 41 rfl ?_
    cases ho : stepQ t r true with
    | none =>
      refine r_invVw hC kX6 (b 0) [.ref (b 1), .int 1] [(b 6, .inl (1, 1110, .inr (.inl hz)))] mVX6_steps q3078 0 rfl (metX6_steps1N _ _ hG b _ _ _ (b 1) _ _ _ ht hm ho) [0, 1, 2, 3, 4] [5] rfl rfl rfl rfl (by decide) ⟨hfr, hlo⟩ 0 0 rfl rfl (Nat.le_of_ble_eq_true rfl) (Nat.le_of_ble_eq_true rfl) rfl (Nat.le_of_ble_eq_true rfl) dX6_back_41 44 rfl (fun v3 w4 h5 => ?_) (fun _ _ h => h.elim)
      obtain ⟨g1, h2, rfl, rfl⟩ := h5
      show rn C (xSt F V0 [(b 6, .inl (1, 1110, .inr (.inl hz))), (b 0, .inr (5, mF b i j)), (b 7, .inl (1, 5, .inr (.inl t))), (b 1, .inl (1, 111, .inr (.inl r))), (b 23, .inl (1, 6, .inr (.inl g1))), (b 24, .inl (1, 21, .inr (.inl h2)))]) 0 0 44 [(2, .int (nI c)), (1, .int (nI N)), (0, .ref (b 0))] [.int 0]
      refine r_ifeq hC 53 dX6_back_44 (by decide) 47 rfl (fun _ => ?_) (fun h => absurd h (by decide))
      refine rn.sub (lv' := [(2, .int (nI c)), (0, .ref (b 0))]) [0, 2] rfl ?_
      refine rn.mono (J := xSt F V0 [(b 0, .inr (5, mF b i j)), (b 7, .inl (1, 5, .inr (.inl t))), (b 1, .inl (1, 111, .inr (.inl r))), (b 23, .inl (1, 6, .inr (.inl g1))), (b 24, .inl (1, 21, .inr (.inl h2))), (b 6, .inl (1, 1110, .inr (.inl hz)))]) (fun _ h => h.sub [1, 2, 3, 4, 5, 0] rfl rfl) ?_
      have hrl : walkL t true (f + 1) r = (0, r) := by rw [walkL, ho]
      rw [hrl] at kx
      exact kx _ _
    | some r1 =>
      refine r_invVw hC kX6 (b 0) [.ref (b 1), .int 1] [(b 6, .inl (1, 1110, .inr (.inl hz)))] mVX6_steps q3078 0 rfl (metX6_steps1S _ _ hG b _ _ _ (b 1) _ _ _ ht hm r1 ho) [0, 1, 2, 3, 4] [5] rfl rfl rfl rfl (by decide) ⟨hfr, hlo⟩ 0 0 rfl rfl (Nat.le_of_ble_eq_true rfl) (Nat.le_of_ble_eq_true rfl) rfl (Nat.le_of_ble_eq_true rfl) dX6_back_41 44 rfl (fun v8 w9 h10 => ?_) (fun _ _ h => h.elim)
      obtain ⟨g6, h7, rfl, rfl⟩ := h10
      show rn C (xSt F V0 [(b 6, .inl (1, 1110, .inr (.inl hz))), (b 0, .inr (5, mF b i j)), (b 7, .inl (1, 5, .inr (.inl t))), (b 1, .inl (1, 111, .inr (.inl r1))), (b 23, .inl (1, 6, .inr (.inl g6))), (b 24, .inl (1, 21, .inr (.inl h7)))]) 0 0 44 [(2, .int (nI c)), (1, .int (nI N)), (0, .ref (b 0))] [.int 1]
      refine r_ifeq hC 53 dX6_back_44 (by decide) 47 rfl (fun h => absurd h (by decide)) (fun _ => ?_)
      refine r_iinc hC (nI (c + 1)) 2 0 [(2, .int (nI (c + 1))), (1, .int (nI N)), (0, .ref (b 0))] dX6_back_47 rfl (nI_add c 1) (Nat.le_of_ble_eq_true rfl) rfl 50 rfl ?_
      refine r_goto hC 30 dX6_back_50 (by decide) ?_
      refine rn.sub (lv' := [(2, .int (nI (c + 1))), (1, .int (nI N)), (0, .ref (b 0))]) [0, 1, 2] rfl ?_
      refine rn.mono (J := xSt F V0 [(b 0, .inr (5, mF b i j)), (b 7, .inl (1, 5, .inr (.inl t))), (b 1, .inl (1, 111, .inr (.inl r1))), (b 23, .inl (1, 6, .inr (.inl g6))), (b 24, .inl (1, 21, .inr (.inl h7))), (b 6, .inl (1, 1110, .inr (.inl hz)))]) (fun _ h => h.sub [1, 2, 3, 4, 5, 0] rfl rfl) ?_
      have hrl : walkL t true (f + 1) r = ((walkL t true f r1).1 + 1, (walkL t true f r1).2) := by rw [walkL, ho]
      rw [hrl] at kx
      refine ih (c + 1) r1 _ _ (by omega) (stepQ_mOK hm ho) (fun g9 h9 => ?_)
      have := kx g9 h9
      rw [show c + ((walkL t true f r1).1 + 1) = c + 1 + (walkL t true f r1).1 by omega] at this
      exact this
set_option maxHeartbeats 4000000 in
set_option maxRecDepth 100000 in
theorem metX6_backG (l : Launch) (G : xG) (hG : xGood G) (b : Nat → Nat) (i : Nat → Int32) (j : Nat → Int64) (t r g h0 hy : Nat → Int64) (rc N : Nat) (ht : tOK t) (hm : mOK r) (hrc : rc ≤ 10) (hi : i 10 = nI rc) (hN : N ≤ 500) : xWm l G yX6_back (Cond.code yX6_back cX6_back 3 (some .int)) { frames := 7, locals := 178, cells := 0, slots := 0 } [.ref (b 0), .int (nI N)] [(b 0, .inr (5, mF b i j)), (b 7, .inl (1, 5, .inr (.inl t))), (b 1, .inl (1, 111, .inr (.inl r))), (b 23, .inl (1, 6, .inr (.inl g))), (b 24, .inl (1, 21, .inr (.inl h0))), (b 6, .inl (1, 1110, .inr (.inl hy)))] (fun v w' => ∃ g' h' : Nat → Int64, v = some (.int (nI (walkL t true N r).1)) ∧ w' = [(b 0, .inr (5, mF b (va_up (va_up (va_up i 0 0) 10 (nI (recN rc))) 11 0) j)), (b 7, .inl (1, 5, .inr (.inl t))), (b 1, .inl (1, 111, .inr (.inl ((walkL t true N r).2)))), (b 23, .inl (1, 6, .inr (.inl g'))), (b 24, .inl (1, 21, .inr (.inl h'))), (b 6, .inl (1, 1110, .inr (.inl (recH hy r rc))))]) (fun _ _ => False) := by
  intro V hV
  refine xMet_of RX6 hG rfl (by decide) (Nat.le_of_ble_eq_true rfl) fun C hC hQ hX hl hg _ => ?_
  subst hl hg
  obtain ⟨V0, hV0⟩ : ∃ V0, V0 = V := ⟨_, rfl⟩
  obtain ⟨F, hF⟩ : ∃ F, F = xF [(b 0, .inr (5, mF b i j)), (b 7, .inl (1, 5, .inr (.inl t))), (b 1, .inl (1, 111, .inr (.inl r))), (b 23, .inl (1, 6, .inr (.inl g))), (b 24, .inl (1, 21, .inr (.inl h0))), (b 6, .inl (1, 1110, .inr (.inl hy)))] := ⟨_, rfl⟩
  refine rn.mono (J := xSt F V0 [(b 0, .inr (5, mF b i j)), (b 7, .inl (1, 5, .inr (.inl t))), (b 1, .inl (1, 111, .inr (.inl r))), (b 23, .inl (1, 6, .inr (.inl g))), (b 24, .inl (1, 21, .inr (.inl h0))), (b 6, .inl (1, 1110, .inr (.inl hy)))]) (fun V9 h => by rw [h, hV0, hF]; exact hV.st) ?_
  show rn C (xSt F V0 [(b 0, .inr (5, mF b i j)), (b 7, .inl (1, 5, .inr (.inl t))), (b 1, .inl (1, 111, .inr (.inl r))), (b 23, .inl (1, 6, .inr (.inl g))), (b 24, .inl (1, 21, .inr (.inl h0))), (b 6, .inl (1, 1110, .inr (.inl hy)))]) 0 0 0 [(0, .ref (b 0)), (1, .int (nI N))] []
  refine r_aload_n hC 0 dX6_back_0 rfl 1 rfl ?_
  refine r_iconst hC 0 dX6_back_1 ic_0 2 rfl ?_
  refine r_put (J := xSt F V0 [(b 0, .inr (5, mF b (va_up i 0 0) j)), (b 7, .inl (1, 5, .inr (.inl t))), (b 1, .inl (1, 111, .inr (.inl r))), (b 23, .inl (1, 6, .inr (.inl g))), (b 24, .inl (1, 21, .inr (.inl h0))), (b 6, .inl (1, 1110, .inr (.inl hy)))]) hC kX6 0 rfl q2753 rfl (fun _ h => h.get 0 rfl) (Nat.le_of_ble_eq_true rfl) rfl rfl dX6_back_2 (fun _ h => h.set 0 _ rfl) 5 rfl ?_
  refine r_aload_n hC 0 dX6_back_5 rfl 6 rfl ?_
  refine r_iload_n hC 1 dX6_back_6 rfl 7 rfl ?_
  refine r_i2l hC ((nI N).toInt64) dX6_back_7 (rfl) 8 rfl ?_
  refine r_lconst hC 0 dX6_back_8 lc_0 9 rfl ?_
  refine r_ldc2 hC q3065 dX6_back_9 12 rfl ?_
  refine r_invSr hC [.long ((nI N).toInt64), .long 0, .long 500] (.int 1) mSX6_in q2891 (metX6_inB _ _ hG ((nI N).toInt64) 0 500 1 (in_n (N := 500) (by omega) rfl (by decide))) (fun _ _ => xIn.nil) ⟨rfl, rfl⟩ 0 0 rfl rfl (Nat.le_of_ble_eq_true rfl) (Nat.le_of_ble_eq_true rfl) rfl (Nat.le_of_ble_eq_true rfl) dX6_back_12 15 rfl ?_
  refine r_iconst hC 1 dX6_back_15 ic_1 16 rfl ?_
  refine r_invVr hC kX6 (b 0) [.int 1, .int 1] (.int 0) mVX6_fails q2894 (fun _ h => h.get 0 rfl) (metX6_fails1 _ _ hG b _ _ 1) (fun _ h => h.in.sub [0] rfl rfl) ⟨rfl, rfl⟩ 0 0 rfl rfl (Nat.le_of_ble_eq_true rfl) (Nat.le_of_ble_eq_true rfl) rfl (Nat.le_of_ble_eq_true rfl) dX6_back_16 19 rfl ?_
  refine r_ifeq hC 24 dX6_back_19 (by decide) 22 rfl (fun _ => ?_) (fun h => absurd h (by decide))
  refine r_aload_n hC 0 dX6_back_24 rfl 25 rfl ?_
  refine r_invVw hC kX6 (b 0) [] [(b 7, .inl (1, 5, .inr (.inl t))), (b 23, .inl (1, 6, .inr (.inl g))), (b 24, .inl (1, 21, .inr (.inl h0)))] mVX6_begins q3114 0 rfl (metX6_begins _ _ hG b (va_up i 0 0) _ _ _ rc hrc (show (va_up i 0 0) 10 = nI rc from hi)) [0, 2, 5] [1, 3, 4] rfl rfl rfl rfl (by decide) ⟨rfl, rfl⟩ 0 0 rfl rfl (Nat.le_of_ble_eq_true rfl) (Nat.le_of_ble_eq_true rfl) rfl (Nat.le_of_ble_eq_true rfl) dX6_back_25 28 rfl (fun v1 w2 h3 => ?_) (fun _ _ h => h.elim)
  obtain ⟨rfl, rfl⟩ := h3
  show rn C (xSt F V0 [(b 7, .inl (1, 5, .inr (.inl t))), (b 23, .inl (1, 6, .inr (.inl g))), (b 24, .inl (1, 21, .inr (.inl h0))), (b 0, .inr (5, mF b (va_up (va_up (va_up i 0 0) 10 (nI (recN rc))) 11 0) j)), (b 1, .inl (1, 111, .inr (.inl r))), (b 6, .inl (1, 1110, .inr (.inl (recH hy r rc))))]) 0 0 28 [(0, .ref (b 0)), (1, .int (nI N))] []
  refine r_iconst hC 0 dX6_back_28 ic_0 29 rfl ?_
  refine r_istore_n hC 2 [(2, .int 0), (0, .ref (b 0)), (1, .int (nI N))] dX6_back_29 rfl (Nat.le_of_ble_eq_true rfl) rfl 30 rfl ?_
  refine rn.mono (J := xSt F V0 [(b 0, .inr (5, mF b (va_up (va_up (va_up i 0 0) 10 (nI (recN rc))) 11 0) j)), (b 7, .inl (1, 5, .inr (.inl t))), (b 1, .inl (1, 111, .inr (.inl r))), (b 23, .inl (1, 6, .inr (.inl g))), (b 24, .inl (1, 21, .inr (.inl h0))), (b 6, .inl (1, 1110, .inr (.inl (recH hy r rc))))]) (fun _ h => h.sub [3, 0, 4, 1, 2, 5] rfl rfl) ?_
  refine rn.sub (lv' := [(2, .int 0), (1, .int (nI N)), (0, .ref (b 0))]) [0, 2, 1] rfl ?_
  refine lpX6_back hG rfl rfl hC rfl rfl N hN b (va_up (va_up (va_up i 0 0) 10 (nI (recN rc))) 11 0) j (recH hy r rc) t ht N 0 r g h0 (by omega) hm (fun g9 h9 => ?_)
  rw [Nat.zero_add]
  show rn C (xSt F V0 [(b 0, .inr (5, mF b (va_up (va_up (va_up i 0 0) 10 (nI (recN rc))) 11 0) j)), (b 7, .inl (1, 5, .inr (.inl t))), (b 1, .inl (1, 111, .inr (.inl ((walkL t true N r).2)))), (b 23, .inl (1, 6, .inr (.inl g9))), (b 24, .inl (1, 21, .inr (.inl h9))), (b 6, .inl (1, 1110, .inr (.inl (recH hy r rc))))]) 0 0 53 [(2, .int (nI ((walkL t true N r).1))), (0, .ref (b 0))] []
  refine r_iload_n hC 0 dX6_back_53 rfl 54 rfl ?_
  exact r_iret hC (Nat.le_of_ble_eq_true rfl) (Nat.le_of_ble_eq_true rfl) (fun V9 h => hQ _ _ ⟨[(b 0, .inr (5, mF b (va_up (va_up (va_up i 0 0) 10 (nI (recN rc))) 11 0) j)), (b 7, .inl (1, 5, .inr (.inl t))), (b 1, .inl (1, 111, .inr (.inl ((walkL t true N r).2)))), (b 23, .inl (1, 6, .inr (.inl g9))), (b 24, .inl (1, 21, .inr (.inl h9))), (b 6, .inl (1, 1110, .inr (.inl (recH hy r rc))))], ⟨g9, h9, rfl, rfl⟩, by rw [← hV0, ← hF]; exact h⟩) dX6_back_54
set_option maxHeartbeats 4000000 in
set_option maxRecDepth 100000 in
theorem metX6_backB (l : Launch) (G : xG) (hG : xGood G) (b : Nat → Nat) (i : Nat → Int32) (j : Nat → Int64) (r hy : Nat → Int64) (x : Int32) (hx : bI (m_in x.toInt64 0 500) = 0) : xWm l G yX6_back (Cond.code yX6_back cX6_back 3 (some .int)) { frames := 1, locals := 25, cells := 0, slots := 0 } [.ref (b 0), .int x] [(b 0, .inr (5, mF b i j)), (b 1, .inl (1, 111, .inr (.inl r))), (b 6, .inl (1, 1110, .inr (.inl hy)))] (fun v w' => v = some (.int 0) ∧ w' = [(b 0, .inr (5, mF b (va_up i 0 1) j)), (b 1, .inl (1, 111, .inr (.inl r))), (b 6, .inl (1, 1110, .inr (.inl hy)))]) (fun _ _ => False) := by
  intro V hV
  refine xMet_of RX6 hG rfl (by decide) (Nat.le_of_ble_eq_true rfl) fun C hC hQ hX hl hg _ => ?_
  subst hl hg
  obtain ⟨V0, hV0⟩ : ∃ V0, V0 = V := ⟨_, rfl⟩
  obtain ⟨F, hF⟩ : ∃ F, F = xF [(b 0, .inr (5, mF b i j)), (b 1, .inl (1, 111, .inr (.inl r))), (b 6, .inl (1, 1110, .inr (.inl hy)))] := ⟨_, rfl⟩
  refine rn.mono (J := xSt F V0 [(b 0, .inr (5, mF b i j)), (b 1, .inl (1, 111, .inr (.inl r))), (b 6, .inl (1, 1110, .inr (.inl hy)))]) (fun V9 h => by rw [h, hV0, hF]; exact hV.st) ?_
  show rn C (xSt F V0 [(b 0, .inr (5, mF b i j)), (b 1, .inl (1, 111, .inr (.inl r))), (b 6, .inl (1, 1110, .inr (.inl hy)))]) 0 0 0 [(0, .ref (b 0)), (1, .int x)] []
  refine r_aload_n hC 0 dX6_back_0 rfl 1 rfl ?_
  refine r_iconst hC 0 dX6_back_1 ic_0 2 rfl ?_
  refine r_put (J := xSt F V0 [(b 0, .inr (5, mF b (va_up i 0 0) j)), (b 1, .inl (1, 111, .inr (.inl r))), (b 6, .inl (1, 1110, .inr (.inl hy)))]) hC kX6 0 rfl q2753 rfl (fun _ h => h.get 0 rfl) (Nat.le_of_ble_eq_true rfl) rfl rfl dX6_back_2 (fun _ h => h.set 0 _ rfl) 5 rfl ?_
  refine r_aload_n hC 0 dX6_back_5 rfl 6 rfl ?_
  refine r_iload_n hC 1 dX6_back_6 rfl 7 rfl ?_
  refine r_i2l hC x.toInt64 dX6_back_7 (rfl) 8 rfl ?_
  refine r_lconst hC 0 dX6_back_8 lc_0 9 rfl ?_
  refine r_ldc2 hC q3065 dX6_back_9 12 rfl ?_
  refine r_invSr hC [.long x.toInt64, .long 0, .long 500] (.int 0) mSX6_in q2891 (metX6_inB _ _ hG x.toInt64 0 500 0 (hx)) (fun _ _ => xIn.nil) ⟨rfl, rfl⟩ 0 0 rfl rfl (Nat.le_of_ble_eq_true rfl) (Nat.le_of_ble_eq_true rfl) rfl (Nat.le_of_ble_eq_true rfl) dX6_back_12 15 rfl ?_
  refine r_iconst hC 1 dX6_back_15 ic_1 16 rfl ?_
  refine r_invVw hC kX6 (b 0) [.int 0, .int 1] [(b 1, .inl (1, 111, .inr (.inl r))), (b 6, .inl (1, 1110, .inr (.inl hy)))] mVX6_fails q2894 0 rfl (metX6_fails0 _ _ hG b _ _ 1) [0] [1, 2] rfl rfl rfl rfl (by decide) ⟨rfl, rfl⟩ 0 0 rfl rfl (Nat.le_of_ble_eq_true rfl) (Nat.le_of_ble_eq_true rfl) rfl (Nat.le_of_ble_eq_true rfl) dX6_back_16 19 rfl (fun v1 w2 h3 => ?_) (fun _ _ h => h.elim)
  obtain ⟨rfl, rfl⟩ := h3
  show rn C (xSt F V0 [(b 1, .inl (1, 111, .inr (.inl r))), (b 6, .inl (1, 1110, .inr (.inl hy))), (b 0, .inr (5, mF b (va_up (va_up i 0 0) 0 1) j))]) 0 0 19 [(0, .ref (b 0)), (1, .int x)] [.int 1]
  refine r_ifeq hC 24 dX6_back_19 (by decide) 22 rfl (fun h => absurd h (by decide)) (fun _ => ?_)
  refine r_iconst hC 0 dX6_back_22 ic_0 23 rfl ?_
  exact r_iret hC (Nat.le_of_ble_eq_true rfl) (Nat.le_of_ble_eq_true rfl) (fun V9 h => hQ _ _ ⟨[(b 0, .inr (5, mF b (va_up (va_up i 0 0) 0 1) j)), (b 1, .inl (1, 111, .inr (.inl r))), (b 6, .inl (1, 1110, .inr (.inl hy)))], ⟨rfl, by simp only [bx_uu]⟩, by rw [← hV0, ← hF]; exact (h.sub [2, 0, 1] rfl rfl)⟩) dX6_back_23
set_option maxHeartbeats 4000000 in
set_option maxRecDepth 100000 in
theorem metX6_runB (l : Launch) (G : xG) (hG : xGood G) (b : Nat → Nat) (i : Nat → Int32) (j : Nat → Int64) (r hy : Nat → Int64) (x : Int32) (hx : bI (m_in x.toInt64 0 500) = 0) : xWm l G yX6_run (Cond.code yX6_run cX6_run 3 (some .int)) { frames := 1, locals := 25, cells := 0, slots := 0 } [.ref (b 0), .int x] [(b 0, .inr (5, mF b i j)), (b 1, .inl (1, 111, .inr (.inl r))), (b 6, .inl (1, 1110, .inr (.inl hy)))] (fun v w' => v = some (.int 0) ∧ w' = [(b 0, .inr (5, mF b (va_up i 0 1) j)), (b 1, .inl (1, 111, .inr (.inl r))), (b 6, .inl (1, 1110, .inr (.inl hy)))]) (fun _ _ => False) := by
  intro V hV
  refine xMet_of RX6 hG rfl (by decide) (Nat.le_of_ble_eq_true rfl) fun C hC hQ hX hl hg _ => ?_
  subst hl hg
  obtain ⟨V0, hV0⟩ : ∃ V0, V0 = V := ⟨_, rfl⟩
  obtain ⟨F, hF⟩ : ∃ F, F = xF [(b 0, .inr (5, mF b i j)), (b 1, .inl (1, 111, .inr (.inl r))), (b 6, .inl (1, 1110, .inr (.inl hy)))] := ⟨_, rfl⟩
  refine rn.mono (J := xSt F V0 [(b 0, .inr (5, mF b i j)), (b 1, .inl (1, 111, .inr (.inl r))), (b 6, .inl (1, 1110, .inr (.inl hy)))]) (fun V9 h => by rw [h, hV0, hF]; exact hV.st) ?_
  show rn C (xSt F V0 [(b 0, .inr (5, mF b i j)), (b 1, .inl (1, 111, .inr (.inl r))), (b 6, .inl (1, 1110, .inr (.inl hy)))]) 0 0 0 [(0, .ref (b 0)), (1, .int x)] []
  refine r_aload_n hC 0 dX6_run_0 rfl 1 rfl ?_
  refine r_iconst hC 0 dX6_run_1 ic_0 2 rfl ?_
  refine r_put (J := xSt F V0 [(b 0, .inr (5, mF b (va_up i 0 0) j)), (b 1, .inl (1, 111, .inr (.inl r))), (b 6, .inl (1, 1110, .inr (.inl hy)))]) hC kX6 0 rfl q2753 rfl (fun _ h => h.get 0 rfl) (Nat.le_of_ble_eq_true rfl) rfl rfl dX6_run_2 (fun _ h => h.set 0 _ rfl) 5 rfl ?_
  refine r_aload_n hC 0 dX6_run_5 rfl 6 rfl ?_
  refine r_iload_n hC 1 dX6_run_6 rfl 7 rfl ?_
  refine r_i2l hC x.toInt64 dX6_run_7 (rfl) 8 rfl ?_
  refine r_lconst hC 0 dX6_run_8 lc_0 9 rfl ?_
  refine r_ldc2 hC q3065 dX6_run_9 12 rfl ?_
  refine r_invSr hC [.long x.toInt64, .long 0, .long 500] (.int 0) mSX6_in q2891 (metX6_inB _ _ hG x.toInt64 0 500 0 (hx)) (fun _ _ => xIn.nil) ⟨rfl, rfl⟩ 0 0 rfl rfl (Nat.le_of_ble_eq_true rfl) (Nat.le_of_ble_eq_true rfl) rfl (Nat.le_of_ble_eq_true rfl) dX6_run_12 15 rfl ?_
  refine r_iconst hC 1 dX6_run_15 ic_1 16 rfl ?_
  refine r_invVw hC kX6 (b 0) [.int 0, .int 1] [(b 1, .inl (1, 111, .inr (.inl r))), (b 6, .inl (1, 1110, .inr (.inl hy)))] mVX6_fails q2894 0 rfl (metX6_fails0 _ _ hG b _ _ 1) [0] [1, 2] rfl rfl rfl rfl (by decide) ⟨rfl, rfl⟩ 0 0 rfl rfl (Nat.le_of_ble_eq_true rfl) (Nat.le_of_ble_eq_true rfl) rfl (Nat.le_of_ble_eq_true rfl) dX6_run_16 19 rfl (fun v1 w2 h3 => ?_) (fun _ _ h => h.elim)
  obtain ⟨rfl, rfl⟩ := h3
  show rn C (xSt F V0 [(b 1, .inl (1, 111, .inr (.inl r))), (b 6, .inl (1, 1110, .inr (.inl hy))), (b 0, .inr (5, mF b (va_up (va_up i 0 0) 0 1) j))]) 0 0 19 [(0, .ref (b 0)), (1, .int x)] [.int 1]
  refine r_ifeq hC 24 dX6_run_19 (by decide) 22 rfl (fun h => absurd h (by decide)) (fun _ => ?_)
  refine r_iconst hC 0 dX6_run_22 ic_0 23 rfl ?_
  exact r_iret hC (Nat.le_of_ble_eq_true rfl) (Nat.le_of_ble_eq_true rfl) (fun V9 h => hQ _ _ ⟨[(b 0, .inr (5, mF b (va_up (va_up i 0 0) 0 1) j)), (b 1, .inl (1, 111, .inr (.inl r))), (b 6, .inl (1, 1110, .inr (.inl hy)))], ⟨rfl, by simp only [bx_uu]⟩, by rw [← hV0, ← hF]; exact (h.sub [2, 0, 1] rfl rfl)⟩) dX6_run_23
set_option maxHeartbeats 4000000 in
set_option maxRecDepth 100000 in
theorem lpX6_possible {C : xC} {F : Nat → Prop} {V0 : xV} {k n : Nat} {rm : Room} (hG : xGood (xGG C)) (hfr : (7 : Nat).ble rm.frames = true) (hlo : (178 : Nat).ble rm.locals = true) (hC : xCtx C RX6 cX6_possible 3 (some .int) rm) (hk0 : k = 0) (hn0 : n = 0) (N : Nat) (hN : N ≤ 500) (b : Nat → Nat) (i : Nat → Int32) (j : Nat → Int64) (nw : Nat → Int64) (t : Nat → Int64) (ht : tOK t) : ∀ (f c : Nat) (r g h0 : Nat → Int64), c + f = N → mOK r → (∀ g' h' : Nat → Int64, rn C (xSt F V0 [(b 0, .inr (5, mF b i j)), (b 7, .inl (1, 5, .inr (.inl t))), (b 2, .inl (1, 111, .inr (.inl ((walkL t false f r).2)))), (b 23, .inl (1, 6, .inr (.inl g'))), (b 24, .inl (1, 21, .inr (.inl h'))), (b 1, .inl (1, 111, .inr (.inl nw)))]) k n 60 [(2, .int (nI (c + (walkL t false f r).1))), (0, .ref (b 0))] []) → rn C (xSt F V0 [(b 0, .inr (5, mF b i j)), (b 7, .inl (1, 5, .inr (.inl t))), (b 2, .inl (1, 111, .inr (.inl r))), (b 23, .inl (1, 6, .inr (.inl g))), (b 24, .inl (1, 21, .inr (.inl h0))), (b 1, .inl (1, 111, .inr (.inl nw)))]) k n 37 [(2, .int (nI c)), (1, .int (nI N)), (0, .ref (b 0))] [] := by
  subst hk0 hn0
  intro f
  induction f with
  | zero =>
    intro c r g h0 hc hm kx
    have hc : c = N := by omega
    subst hc
    refine r_iload_n hC 0 dX6_possible_37 rfl 38 rfl ?_
    refine r_iload_n hC 1 dX6_possible_38 rfl 39 rfl ?_
    refine r_icge hC 60 dX6_possible_39 (by decide) 42 rfl (fun _ => ?_) (fun h => absurd (Int32.le_refl _) h)
    refine rn.sub (lv' := [(2, .int (nI c)), (0, .ref (b 0))]) [0, 2] rfl ?_
    exact kx _ _
  | succ f ih =>
    intro c r g h0 hc hm kx
    refine r_iload_n hC 0 dX6_possible_37 rfl 38 rfl ?_
    refine r_iload_n hC 1 dX6_possible_38 rfl 39 rfl ?_
    refine r_icge hC 60 dX6_possible_39 (by decide) 42 rfl (fun h => absurd h (nI_ge (by omega) (by omega))) (fun _ => ?_)
    refine r_aload_n hC 2 dX6_possible_42 rfl 43 rfl ?_
    refine r_aload_n hC 2 dX6_possible_43 rfl 44 rfl ?_
    refine r_get (v := .ref (b 2)) hC kX6 2 rfl q2755 (fun _ h => h.get 0 rfl) rfl dX6_possible_44 47 rfl ?_
    refine r_iconst hC 0 dX6_possible_47 ic_0 48 rfl ?_
    cases ho : stepQ t r false with
    | none =>
      refine r_invVw hC kX6 (b 0) [.ref (b 2), .int 0] [(b 1, .inl (1, 111, .inr (.inl nw)))] mVX6_steps q3078 0 rfl (metX6_steps0N _ _ hG b _ _ _ (b 2) _ _ _ ht hm ho) [0, 1, 2, 3, 4] [5] rfl rfl rfl rfl (by decide) ⟨hfr, hlo⟩ 0 0 rfl rfl (Nat.le_of_ble_eq_true rfl) (Nat.le_of_ble_eq_true rfl) rfl (Nat.le_of_ble_eq_true rfl) dX6_possible_48 51 rfl (fun v3 w4 h5 => ?_) (fun _ _ h => h.elim)
      obtain ⟨g1, h2, rfl, rfl⟩ := h5
      show rn C (xSt F V0 [(b 1, .inl (1, 111, .inr (.inl nw))), (b 0, .inr (5, mF b i j)), (b 7, .inl (1, 5, .inr (.inl t))), (b 2, .inl (1, 111, .inr (.inl r))), (b 23, .inl (1, 6, .inr (.inl g1))), (b 24, .inl (1, 21, .inr (.inl h2)))]) 0 0 51 [(2, .int (nI c)), (1, .int (nI N)), (0, .ref (b 0))] [.int 0]
      refine r_ifeq hC 60 dX6_possible_51 (by decide) 54 rfl (fun _ => ?_) (fun h => absurd h (by decide))
      refine rn.sub (lv' := [(2, .int (nI c)), (0, .ref (b 0))]) [0, 2] rfl ?_
      refine rn.mono (J := xSt F V0 [(b 0, .inr (5, mF b i j)), (b 7, .inl (1, 5, .inr (.inl t))), (b 2, .inl (1, 111, .inr (.inl r))), (b 23, .inl (1, 6, .inr (.inl g1))), (b 24, .inl (1, 21, .inr (.inl h2))), (b 1, .inl (1, 111, .inr (.inl nw)))]) (fun _ h => h.sub [1, 2, 3, 4, 5, 0] rfl rfl) ?_
      have hrl : walkL t false (f + 1) r = (0, r) := by rw [walkL, ho]
      rw [hrl] at kx
      exact kx _ _
    | some r1 =>
      refine r_invVw hC kX6 (b 0) [.ref (b 2), .int 0] [(b 1, .inl (1, 111, .inr (.inl nw)))] mVX6_steps q3078 0 rfl (metX6_steps0S _ _ hG b _ _ _ (b 2) _ _ _ ht hm r1 ho) [0, 1, 2, 3, 4] [5] rfl rfl rfl rfl (by decide) ⟨hfr, hlo⟩ 0 0 rfl rfl (Nat.le_of_ble_eq_true rfl) (Nat.le_of_ble_eq_true rfl) rfl (Nat.le_of_ble_eq_true rfl) dX6_possible_48 51 rfl (fun v8 w9 h10 => ?_) (fun _ _ h => h.elim)
      obtain ⟨g6, h7, rfl, rfl⟩ := h10
      show rn C (xSt F V0 [(b 1, .inl (1, 111, .inr (.inl nw))), (b 0, .inr (5, mF b i j)), (b 7, .inl (1, 5, .inr (.inl t))), (b 2, .inl (1, 111, .inr (.inl r1))), (b 23, .inl (1, 6, .inr (.inl g6))), (b 24, .inl (1, 21, .inr (.inl h7)))]) 0 0 51 [(2, .int (nI c)), (1, .int (nI N)), (0, .ref (b 0))] [.int 1]
      refine r_ifeq hC 60 dX6_possible_51 (by decide) 54 rfl (fun h => absurd h (by decide)) (fun _ => ?_)
      refine r_iinc hC (nI (c + 1)) 2 0 [(2, .int (nI (c + 1))), (1, .int (nI N)), (0, .ref (b 0))] dX6_possible_54 rfl (nI_add c 1) (Nat.le_of_ble_eq_true rfl) rfl 57 rfl ?_
      refine r_goto hC 37 dX6_possible_57 (by decide) ?_
      refine rn.sub (lv' := [(2, .int (nI (c + 1))), (1, .int (nI N)), (0, .ref (b 0))]) [0, 1, 2] rfl ?_
      refine rn.mono (J := xSt F V0 [(b 0, .inr (5, mF b i j)), (b 7, .inl (1, 5, .inr (.inl t))), (b 2, .inl (1, 111, .inr (.inl r1))), (b 23, .inl (1, 6, .inr (.inl g6))), (b 24, .inl (1, 21, .inr (.inl h7))), (b 1, .inl (1, 111, .inr (.inl nw)))]) (fun _ h => h.sub [1, 2, 3, 4, 5, 0] rfl rfl) ?_
      have hrl : walkL t false (f + 1) r = ((walkL t false f r1).1 + 1, (walkL t false f r1).2) := by rw [walkL, ho]
      rw [hrl] at kx
      refine ih (c + 1) r1 _ _ (by omega) (stepQ_mOK hm ho) (fun g9 h9 => ?_)
      have := kx g9 h9
      rw [show c + ((walkL t false f r1).1 + 1) = c + 1 + (walkL t false f r1).1 by omega] at this
      exact this
set_option maxHeartbeats 4000000 in
set_option maxRecDepth 100000 in
theorem metX6_possibleG (l : Launch) (G : xG) (hG : xGood G) (b : Nat → Nat) (i : Nat → Int32) (j : Nat → Int64) (t r th g h0 : Nat → Int64) (N : Nat) (ht : tOK t) (hm : mOK r) (hN : N ≤ 500) : xWm l G yX6_possible (Cond.code yX6_possible cX6_possible 3 (some .int)) { frames := 7, locals := 178, cells := 0, slots := 0 } [.ref (b 0), .int (nI N)] [(b 0, .inr (5, mF b i j)), (b 7, .inl (1, 5, .inr (.inl t))), (b 1, .inl (1, 111, .inr (.inl r))), (b 2, .inl (1, 111, .inr (.inl th))), (b 23, .inl (1, 6, .inr (.inl g))), (b 24, .inl (1, 21, .inr (.inl h0)))] (fun v w' => ∃ th' g' h' : Nat → Int64, v = some (.int (nI (walkL t false N r).1)) ∧ w' = [(b 0, .inr (5, mF b (va_up i 0 0) j)), (b 7, .inl (1, 5, .inr (.inl t))), (b 1, .inl (1, 111, .inr (.inl r))), (b 2, .inl (1, 111, .inr (.inl th'))), (b 23, .inl (1, 6, .inr (.inl g'))), (b 24, .inl (1, 21, .inr (.inl h')))]) (fun _ _ => False) := by
  intro V hV
  refine xMet_of RX6 hG rfl (by decide) (Nat.le_of_ble_eq_true rfl) fun C hC hQ hX hl hg _ => ?_
  subst hl hg
  obtain ⟨V0, hV0⟩ : ∃ V0, V0 = V := ⟨_, rfl⟩
  obtain ⟨F, hF⟩ : ∃ F, F = xF [(b 0, .inr (5, mF b i j)), (b 7, .inl (1, 5, .inr (.inl t))), (b 1, .inl (1, 111, .inr (.inl r))), (b 2, .inl (1, 111, .inr (.inl th))), (b 23, .inl (1, 6, .inr (.inl g))), (b 24, .inl (1, 21, .inr (.inl h0)))] := ⟨_, rfl⟩
  refine rn.mono (J := xSt F V0 [(b 0, .inr (5, mF b i j)), (b 7, .inl (1, 5, .inr (.inl t))), (b 1, .inl (1, 111, .inr (.inl r))), (b 2, .inl (1, 111, .inr (.inl th))), (b 23, .inl (1, 6, .inr (.inl g))), (b 24, .inl (1, 21, .inr (.inl h0)))]) (fun V9 h => by rw [h, hV0, hF]; exact hV.st) ?_
  show rn C (xSt F V0 [(b 0, .inr (5, mF b i j)), (b 7, .inl (1, 5, .inr (.inl t))), (b 1, .inl (1, 111, .inr (.inl r))), (b 2, .inl (1, 111, .inr (.inl th))), (b 23, .inl (1, 6, .inr (.inl g))), (b 24, .inl (1, 21, .inr (.inl h0)))]) 0 0 0 [(0, .ref (b 0)), (1, .int (nI N))] []
  refine r_aload_n hC 0 dX6_possible_0 rfl 1 rfl ?_
  refine r_iconst hC 0 dX6_possible_1 ic_0 2 rfl ?_
  refine r_put (J := xSt F V0 [(b 0, .inr (5, mF b (va_up i 0 0) j)), (b 7, .inl (1, 5, .inr (.inl t))), (b 1, .inl (1, 111, .inr (.inl r))), (b 2, .inl (1, 111, .inr (.inl th))), (b 23, .inl (1, 6, .inr (.inl g))), (b 24, .inl (1, 21, .inr (.inl h0)))]) hC kX6 0 rfl q2753 rfl (fun _ h => h.get 0 rfl) (Nat.le_of_ble_eq_true rfl) rfl rfl dX6_possible_2 (fun _ h => h.set 0 _ rfl) 5 rfl ?_
  refine r_aload_n hC 0 dX6_possible_5 rfl 6 rfl ?_
  refine r_iload_n hC 1 dX6_possible_6 rfl 7 rfl ?_
  refine r_i2l hC ((nI N).toInt64) dX6_possible_7 (rfl) 8 rfl ?_
  refine r_lconst hC 0 dX6_possible_8 lc_0 9 rfl ?_
  refine r_ldc2 hC q3065 dX6_possible_9 12 rfl ?_
  refine r_invSr hC [.long ((nI N).toInt64), .long 0, .long 500] (.int 1) mSX6_in q2891 (metX6_inB _ _ hG ((nI N).toInt64) 0 500 1 (in_n (N := 500) (by omega) rfl (by decide))) (fun _ _ => xIn.nil) ⟨rfl, rfl⟩ 0 0 rfl rfl (Nat.le_of_ble_eq_true rfl) (Nat.le_of_ble_eq_true rfl) rfl (Nat.le_of_ble_eq_true rfl) dX6_possible_12 15 rfl ?_
  refine r_iconst hC 1 dX6_possible_15 ic_1 16 rfl ?_
  refine r_invVr hC kX6 (b 0) [.int 1, .int 1] (.int 0) mVX6_fails q2894 (fun _ h => h.get 0 rfl) (metX6_fails1 _ _ hG b _ _ 1) (fun _ h => h.in.sub [0] rfl rfl) ⟨rfl, rfl⟩ 0 0 rfl rfl (Nat.le_of_ble_eq_true rfl) (Nat.le_of_ble_eq_true rfl) rfl (Nat.le_of_ble_eq_true rfl) dX6_possible_16 19 rfl ?_
  refine r_ifeq hC 24 dX6_possible_19 (by decide) 22 rfl (fun _ => ?_) (fun h => absurd h (by decide))
  refine r_aload_n hC 0 dX6_possible_24 rfl 25 rfl ?_
  refine r_get (v := .ref (b 1)) hC kX6 1 rfl q2754 (fun _ h => h.get 0 rfl) rfl dX6_possible_25 28 rfl ?_
  refine r_aload_n hC 0 dX6_possible_28 rfl 29 rfl ?_
  refine r_get (v := .ref (b 2)) hC kX6 2 rfl q2755 (fun _ h => h.get 0 rfl) rfl dX6_possible_29 32 rfl ?_
  refine r_invSw hC [.ref (b 1), .ref (b 2)] [(b 0, .inr (5, mF b (va_up i 0 0) j)), (b 7, .inl (1, 5, .inr (.inl t))), (b 23, .inl (1, 6, .inr (.inl g))), (b 24, .inl (1, 21, .inr (.inl h0)))] mSX6_copy q2718 (metX6_copy _ _ hG (b 1) (b 2) _ _) [2, 3] [0, 1, 4, 5] rfl rfl rfl rfl (by decide) ⟨rfl, rfl⟩ 0 0 rfl rfl (Nat.le_of_ble_eq_true rfl) (Nat.le_of_ble_eq_true rfl) rfl (Nat.le_of_ble_eq_true rfl) dX6_possible_32 35 rfl (fun v1 w2 h3 => ?_) (fun _ _ h => h.elim)
  obtain ⟨rfl, rfl⟩ := h3
  show rn C (xSt F V0 [(b 0, .inr (5, mF b (va_up i 0 0) j)), (b 7, .inl (1, 5, .inr (.inl t))), (b 23, .inl (1, 6, .inr (.inl g))), (b 24, .inl (1, 21, .inr (.inl h0))), (b 1, .inl (1, 111, .inr (.inl r))), (b 2, .inl (1, 111, .inr (.inl r)))]) 0 0 35 [(0, .ref (b 0)), (1, .int (nI N))] []
  refine r_iconst hC 0 dX6_possible_35 ic_0 36 rfl ?_
  refine r_istore_n hC 2 [(2, .int 0), (0, .ref (b 0)), (1, .int (nI N))] dX6_possible_36 rfl (Nat.le_of_ble_eq_true rfl) rfl 37 rfl ?_
  refine rn.mono (J := xSt F V0 [(b 0, .inr (5, mF b (va_up i 0 0) j)), (b 7, .inl (1, 5, .inr (.inl t))), (b 2, .inl (1, 111, .inr (.inl r))), (b 23, .inl (1, 6, .inr (.inl g))), (b 24, .inl (1, 21, .inr (.inl h0))), (b 1, .inl (1, 111, .inr (.inl r)))]) (fun _ h => h.sub [0, 1, 5, 2, 3, 4] rfl rfl) ?_
  refine rn.sub (lv' := [(2, .int 0), (1, .int (nI N)), (0, .ref (b 0))]) [0, 2, 1] rfl ?_
  refine lpX6_possible hG rfl rfl hC rfl rfl N hN b (va_up i 0 0) j r t ht N 0 r g h0 (by omega) hm (fun g9 h9 => ?_)
  rw [Nat.zero_add]
  show rn C (xSt F V0 [(b 0, .inr (5, mF b (va_up i 0 0) j)), (b 7, .inl (1, 5, .inr (.inl t))), (b 2, .inl (1, 111, .inr (.inl ((walkL t false N r).2)))), (b 23, .inl (1, 6, .inr (.inl g9))), (b 24, .inl (1, 21, .inr (.inl h9))), (b 1, .inl (1, 111, .inr (.inl r)))]) 0 0 60 [(2, .int (nI ((walkL t false N r).1))), (0, .ref (b 0))] []
  refine r_iload_n hC 0 dX6_possible_60 rfl 61 rfl ?_
  exact r_iret hC (Nat.le_of_ble_eq_true rfl) (Nat.le_of_ble_eq_true rfl) (fun V9 h => hQ _ _ ⟨[(b 0, .inr (5, mF b (va_up i 0 0) j)), (b 7, .inl (1, 5, .inr (.inl t))), (b 1, .inl (1, 111, .inr (.inl r))), (b 2, .inl (1, 111, .inr (.inl ((walkL t false N r).2)))), (b 23, .inl (1, 6, .inr (.inl g9))), (b 24, .inl (1, 21, .inr (.inl h9)))], ⟨(walkL t false N r).2, g9, h9, rfl, rfl⟩, by rw [← hV0, ← hF]; exact (h.sub [0, 1, 5, 2, 3, 4] rfl rfl)⟩) dX6_possible_61
set_option maxHeartbeats 4000000 in
set_option maxRecDepth 100000 in
theorem metX6_possibleB (l : Launch) (G : xG) (hG : xGood G) (b : Nat → Nat) (i : Nat → Int32) (j : Nat → Int64) (r hy : Nat → Int64) (x : Int32) (hx : bI (m_in x.toInt64 0 500) = 0) : xWm l G yX6_possible (Cond.code yX6_possible cX6_possible 3 (some .int)) { frames := 1, locals := 25, cells := 0, slots := 0 } [.ref (b 0), .int x] [(b 0, .inr (5, mF b i j)), (b 1, .inl (1, 111, .inr (.inl r))), (b 6, .inl (1, 1110, .inr (.inl hy)))] (fun v w' => v = some (.int 0) ∧ w' = [(b 0, .inr (5, mF b (va_up i 0 1) j)), (b 1, .inl (1, 111, .inr (.inl r))), (b 6, .inl (1, 1110, .inr (.inl hy)))]) (fun _ _ => False) := by
  intro V hV
  refine xMet_of RX6 hG rfl (by decide) (Nat.le_of_ble_eq_true rfl) fun C hC hQ hX hl hg _ => ?_
  subst hl hg
  obtain ⟨V0, hV0⟩ : ∃ V0, V0 = V := ⟨_, rfl⟩
  obtain ⟨F, hF⟩ : ∃ F, F = xF [(b 0, .inr (5, mF b i j)), (b 1, .inl (1, 111, .inr (.inl r))), (b 6, .inl (1, 1110, .inr (.inl hy)))] := ⟨_, rfl⟩
  refine rn.mono (J := xSt F V0 [(b 0, .inr (5, mF b i j)), (b 1, .inl (1, 111, .inr (.inl r))), (b 6, .inl (1, 1110, .inr (.inl hy)))]) (fun V9 h => by rw [h, hV0, hF]; exact hV.st) ?_
  show rn C (xSt F V0 [(b 0, .inr (5, mF b i j)), (b 1, .inl (1, 111, .inr (.inl r))), (b 6, .inl (1, 1110, .inr (.inl hy)))]) 0 0 0 [(0, .ref (b 0)), (1, .int x)] []
  refine r_aload_n hC 0 dX6_possible_0 rfl 1 rfl ?_
  refine r_iconst hC 0 dX6_possible_1 ic_0 2 rfl ?_
  refine r_put (J := xSt F V0 [(b 0, .inr (5, mF b (va_up i 0 0) j)), (b 1, .inl (1, 111, .inr (.inl r))), (b 6, .inl (1, 1110, .inr (.inl hy)))]) hC kX6 0 rfl q2753 rfl (fun _ h => h.get 0 rfl) (Nat.le_of_ble_eq_true rfl) rfl rfl dX6_possible_2 (fun _ h => h.set 0 _ rfl) 5 rfl ?_
  refine r_aload_n hC 0 dX6_possible_5 rfl 6 rfl ?_
  refine r_iload_n hC 1 dX6_possible_6 rfl 7 rfl ?_
  refine r_i2l hC x.toInt64 dX6_possible_7 (rfl) 8 rfl ?_
  refine r_lconst hC 0 dX6_possible_8 lc_0 9 rfl ?_
  refine r_ldc2 hC q3065 dX6_possible_9 12 rfl ?_
  refine r_invSr hC [.long x.toInt64, .long 0, .long 500] (.int 0) mSX6_in q2891 (metX6_inB _ _ hG x.toInt64 0 500 0 (hx)) (fun _ _ => xIn.nil) ⟨rfl, rfl⟩ 0 0 rfl rfl (Nat.le_of_ble_eq_true rfl) (Nat.le_of_ble_eq_true rfl) rfl (Nat.le_of_ble_eq_true rfl) dX6_possible_12 15 rfl ?_
  refine r_iconst hC 1 dX6_possible_15 ic_1 16 rfl ?_
  refine r_invVw hC kX6 (b 0) [.int 0, .int 1] [(b 1, .inl (1, 111, .inr (.inl r))), (b 6, .inl (1, 1110, .inr (.inl hy)))] mVX6_fails q2894 0 rfl (metX6_fails0 _ _ hG b _ _ 1) [0] [1, 2] rfl rfl rfl rfl (by decide) ⟨rfl, rfl⟩ 0 0 rfl rfl (Nat.le_of_ble_eq_true rfl) (Nat.le_of_ble_eq_true rfl) rfl (Nat.le_of_ble_eq_true rfl) dX6_possible_16 19 rfl (fun v1 w2 h3 => ?_) (fun _ _ h => h.elim)
  obtain ⟨rfl, rfl⟩ := h3
  show rn C (xSt F V0 [(b 1, .inl (1, 111, .inr (.inl r))), (b 6, .inl (1, 1110, .inr (.inl hy))), (b 0, .inr (5, mF b (va_up (va_up i 0 0) 0 1) j))]) 0 0 19 [(0, .ref (b 0)), (1, .int x)] [.int 1]
  refine r_ifeq hC 24 dX6_possible_19 (by decide) 22 rfl (fun h => absurd h (by decide)) (fun _ => ?_)
  refine r_iconst hC 0 dX6_possible_22 ic_0 23 rfl ?_
  exact r_iret hC (Nat.le_of_ble_eq_true rfl) (Nat.le_of_ble_eq_true rfl) (fun V9 h => hQ _ _ ⟨[(b 0, .inr (5, mF b (va_up (va_up i 0 0) 0 1) j)), (b 1, .inl (1, 111, .inr (.inl r))), (b 6, .inl (1, 1110, .inr (.inl hy)))], ⟨rfl, by simp only [bx_uu]⟩, by rw [← hV0, ← hF]; exact (h.sub [2, 0, 1] rfl rfl)⟩) dX6_possible_23
def layP (pa r : Nat → Int64) (c : Nat) : Nat → Int64 := va_up (va_up (va_up (va_up (va_up (va_up pa (6 * c + 0) (r 7)) (6 * c + 0 + 1) (r 8)) (6 * c + 2) (r 12)) (6 * c + 2 + 1) (r 13)) (6 * c + 4) (r 17)) (6 * c + 4 + 1) (r 18)
set_option maxHeartbeats 4000000 in
set_option maxRecDepth 100000 in
theorem metX6_laysPlaces (l : Launch) (G : xG) (hG : xGood G) (b : Nat → Nat) (i : Nat → Int32) (j : Nat → Int64) (a : Nat) (r pa : Nat → Int64) (c : Nat) (hc : c ≤ 300) : xWm l G yX6_laysPlaces (Cond.code yX6_laysPlaces cX6_laysPlaces 4 none) { frames := 1, locals := 21, cells := 0, slots := 0 } [.ref (b 0), .ref a, .int (nI c)] [(b 0, .inr (5, mF b i j)), (a, .inl (1, 111, .inr (.inl r))), (b 25, .inl (1, 1806, .inr (.inl pa)))] (fun v w' => v = none ∧ w' = [(b 0, .inr (5, mF b i j)), (a, .inl (1, 111, .inr (.inl r))), (b 25, .inl (1, 1806, .inr (.inl (layP pa r c))))]) (fun _ _ => False) := by
  intro V hV
  refine xMet_of RX6 hG rfl (by decide) (Nat.le_of_ble_eq_true rfl) fun C hC hQ hX hl hg _ => ?_
  subst hl hg
  obtain ⟨V0, hV0⟩ : ∃ V0, V0 = V := ⟨_, rfl⟩
  obtain ⟨F, hF⟩ : ∃ F, F = xF [(b 0, .inr (5, mF b i j)), (a, .inl (1, 111, .inr (.inl r))), (b 25, .inl (1, 1806, .inr (.inl pa)))] := ⟨_, rfl⟩
  refine rn.mono (J := xSt F V0 [(b 0, .inr (5, mF b i j)), (a, .inl (1, 111, .inr (.inl r))), (b 25, .inl (1, 1806, .inr (.inl pa)))]) (fun V9 h => by rw [h, hV0, hF]; exact hV.st) ?_
  show rn C (xSt F V0 [(b 0, .inr (5, mF b i j)), (a, .inl (1, 111, .inr (.inl r))), (b 25, .inl (1, 1806, .inr (.inl pa)))]) 0 0 0 [(0, .ref (b 0)), (1, .ref a), (2, .int (nI c))] []
  refine r_iconst hC 0 dX6_laysPlaces_0 ic_0 1 rfl ?_
  refine r_istore_n hC 3 [(3, .int 0), (0, .ref (b 0)), (1, .ref a), (2, .int (nI c))] dX6_laysPlaces_1 rfl (Nat.le_of_ble_eq_true rfl) rfl 2 rfl ?_
  refine r_iload_n hC 0 dX6_laysPlaces_2 rfl 3 rfl ?_
  refine r_iconst hC 3 dX6_laysPlaces_3 ic_3 4 rfl ?_
  refine r_icge hC 55 dX6_laysPlaces_4 (by decide) 7 rfl (fun h => absurd h (by decide)) (fun _ => ?_)
  refine r_aload_n hC 1 dX6_laysPlaces_7 rfl 8 rfl ?_
  refine r_get (v := .ref (b 25)) hC kX6 25 rfl q2778 (fun _ h => h.get 0 rfl) rfl dX6_laysPlaces_8 11 rfl ?_
  refine r_bipush hC 6 dX6_laysPlaces_11 bp_6 13 rfl ?_
  refine r_iload_n hC 3 dX6_laysPlaces_13 rfl 14 rfl ?_
  refine r_imul hC (nI (6 * c)) dX6_laysPlaces_14  (pk_mul 6 c) 15 rfl ?_
  refine r_iconst hC 2 dX6_laysPlaces_15 ic_2 16 rfl ?_
  refine r_iload_n hC 0 dX6_laysPlaces_16 rfl 17 rfl ?_
  refine r_imul hC 0 dX6_laysPlaces_17  (by decide) 18 rfl ?_
  refine r_iadd hC (nI (6 * c + 0)) dX6_laysPlaces_18  (nI_add (6 * c) 0) 19 rfl ?_
  refine r_aload_n hC 2 dX6_laysPlaces_19 rfl 20 rfl ?_
  refine r_iload_n hC 0 dX6_laysPlaces_20 rfl 21 rfl ?_
  refine r_iconst hC 1 dX6_laysPlaces_21 ic_1 22 rfl ?_
  refine r_invSr hC [.int 0, .int 1] (.int 7) mSX6_at q2711 (metX6_at _ _ hG 0 1) (fun _ _ => xIn.nil) ⟨rfl, rfl⟩ 0 0 rfl rfl (Nat.le_of_ble_eq_true rfl) (Nat.le_of_ble_eq_true rfl) rfl (Nat.le_of_ble_eq_true rfl) dX6_laysPlaces_22 25 rfl ?_
  refine r_lald hC 7 (xix_n 7 (Nat.le_of_ble_eq_true rfl) (Nat.le_of_ble_eq_true rfl)) (fun _ h => h.get 1 rfl) (r 7) (rfl) dX6_laysPlaces_25 26 rfl ?_
  refine r_last (J := xSt F V0 [(b 0, .inr (5, mF b i j)), (a, .inl (1, 111, .inr (.inl r))), (b 25, .inl (1, 1806, .inr (.inl (va_up pa (6 * c + 0) (r 7)))))]) hC (6 * c + 0) (xix_n (6 * c + 0) (by omega) (Nat.le_of_ble_eq_true rfl)) (fun _ h => h.get 2 rfl) dX6_laysPlaces_26 (fun _ h => h.set 2 _ rfl) 27 rfl ?_
  generalize hu1 : va_up pa (6 * c + 0) (r 7) = u1
  refine r_aload_n hC 1 dX6_laysPlaces_27 rfl 28 rfl ?_
  refine r_get (v := .ref (b 25)) hC kX6 25 rfl q2778 (fun _ h => h.get 0 rfl) rfl dX6_laysPlaces_28 31 rfl ?_
  refine r_bipush hC 6 dX6_laysPlaces_31 bp_6 33 rfl ?_
  refine r_iload_n hC 3 dX6_laysPlaces_33 rfl 34 rfl ?_
  refine r_imul hC (nI (6 * c)) dX6_laysPlaces_34  (pk_mul 6 c) 35 rfl ?_
  refine r_iconst hC 2 dX6_laysPlaces_35 ic_2 36 rfl ?_
  refine r_iload_n hC 0 dX6_laysPlaces_36 rfl 37 rfl ?_
  refine r_imul hC 0 dX6_laysPlaces_37  (by decide) 38 rfl ?_
  refine r_iadd hC (nI (6 * c + 0)) dX6_laysPlaces_38  (nI_add (6 * c) 0) 39 rfl ?_
  refine r_iconst hC 1 dX6_laysPlaces_39 ic_1 40 rfl ?_
  refine r_iadd hC (nI (6 * c + 0 + 1)) dX6_laysPlaces_40  (nI_add (6 * c + 0) 1) 41 rfl ?_
  refine r_aload_n hC 2 dX6_laysPlaces_41 rfl 42 rfl ?_
  refine r_iload_n hC 0 dX6_laysPlaces_42 rfl 43 rfl ?_
  refine r_iconst hC 2 dX6_laysPlaces_43 ic_2 44 rfl ?_
  refine r_invSr hC [.int 0, .int 2] (.int 8) mSX6_at q2711 (metX6_at _ _ hG 0 2) (fun _ _ => xIn.nil) ⟨rfl, rfl⟩ 0 0 rfl rfl (Nat.le_of_ble_eq_true rfl) (Nat.le_of_ble_eq_true rfl) rfl (Nat.le_of_ble_eq_true rfl) dX6_laysPlaces_44 47 rfl ?_
  refine r_lald hC 8 (xix_n 8 (Nat.le_of_ble_eq_true rfl) (Nat.le_of_ble_eq_true rfl)) (fun _ h => h.get 1 rfl) (r 8) (rfl) dX6_laysPlaces_47 48 rfl ?_
  refine r_last (J := xSt F V0 [(b 0, .inr (5, mF b i j)), (a, .inl (1, 111, .inr (.inl r))), (b 25, .inl (1, 1806, .inr (.inl (va_up u1 (6 * c + 0 + 1) (r 8)))))]) hC (6 * c + 0 + 1) (xix_n (6 * c + 0 + 1) (by omega) (Nat.le_of_ble_eq_true rfl)) (fun _ h => h.get 2 rfl) dX6_laysPlaces_48 (fun _ h => h.set 2 _ rfl) 49 rfl ?_
  generalize hu2 : va_up u1 (6 * c + 0 + 1) (r 8) = u2
  refine r_iinc hC 1 3 0 [(3, .int 1), (0, .ref (b 0)), (1, .ref a), (2, .int (nI c))] dX6_laysPlaces_49 rfl (by decide) (Nat.le_of_ble_eq_true rfl) rfl 52 rfl ?_
  refine r_goto hC 2 dX6_laysPlaces_52 (by decide) ?_
  refine r_iload_n hC 0 dX6_laysPlaces_2 rfl 3 rfl ?_
  refine r_iconst hC 3 dX6_laysPlaces_3 ic_3 4 rfl ?_
  refine r_icge hC 55 dX6_laysPlaces_4 (by decide) 7 rfl (fun h => absurd h (by decide)) (fun _ => ?_)
  refine r_aload_n hC 1 dX6_laysPlaces_7 rfl 8 rfl ?_
  refine r_get (v := .ref (b 25)) hC kX6 25 rfl q2778 (fun _ h => h.get 0 rfl) rfl dX6_laysPlaces_8 11 rfl ?_
  refine r_bipush hC 6 dX6_laysPlaces_11 bp_6 13 rfl ?_
  refine r_iload_n hC 3 dX6_laysPlaces_13 rfl 14 rfl ?_
  refine r_imul hC (nI (6 * c)) dX6_laysPlaces_14  (pk_mul 6 c) 15 rfl ?_
  refine r_iconst hC 2 dX6_laysPlaces_15 ic_2 16 rfl ?_
  refine r_iload_n hC 0 dX6_laysPlaces_16 rfl 17 rfl ?_
  refine r_imul hC 2 dX6_laysPlaces_17  (by decide) 18 rfl ?_
  refine r_iadd hC (nI (6 * c + 2)) dX6_laysPlaces_18  (nI_add (6 * c) 2) 19 rfl ?_
  refine r_aload_n hC 2 dX6_laysPlaces_19 rfl 20 rfl ?_
  refine r_iload_n hC 0 dX6_laysPlaces_20 rfl 21 rfl ?_
  refine r_iconst hC 1 dX6_laysPlaces_21 ic_1 22 rfl ?_
  refine r_invSr hC [.int 1, .int 1] (.int 12) mSX6_at q2711 (metX6_at _ _ hG 1 1) (fun _ _ => xIn.nil) ⟨rfl, rfl⟩ 0 0 rfl rfl (Nat.le_of_ble_eq_true rfl) (Nat.le_of_ble_eq_true rfl) rfl (Nat.le_of_ble_eq_true rfl) dX6_laysPlaces_22 25 rfl ?_
  refine r_lald hC 12 (xix_n 12 (Nat.le_of_ble_eq_true rfl) (Nat.le_of_ble_eq_true rfl)) (fun _ h => h.get 1 rfl) (r 12) (rfl) dX6_laysPlaces_25 26 rfl ?_
  refine r_last (J := xSt F V0 [(b 0, .inr (5, mF b i j)), (a, .inl (1, 111, .inr (.inl r))), (b 25, .inl (1, 1806, .inr (.inl (va_up u2 (6 * c + 2) (r 12)))))]) hC (6 * c + 2) (xix_n (6 * c + 2) (by omega) (Nat.le_of_ble_eq_true rfl)) (fun _ h => h.get 2 rfl) dX6_laysPlaces_26 (fun _ h => h.set 2 _ rfl) 27 rfl ?_
  generalize hu3 : va_up u2 (6 * c + 2) (r 12) = u3
  refine r_aload_n hC 1 dX6_laysPlaces_27 rfl 28 rfl ?_
  refine r_get (v := .ref (b 25)) hC kX6 25 rfl q2778 (fun _ h => h.get 0 rfl) rfl dX6_laysPlaces_28 31 rfl ?_
  refine r_bipush hC 6 dX6_laysPlaces_31 bp_6 33 rfl ?_
  refine r_iload_n hC 3 dX6_laysPlaces_33 rfl 34 rfl ?_
  refine r_imul hC (nI (6 * c)) dX6_laysPlaces_34  (pk_mul 6 c) 35 rfl ?_
  refine r_iconst hC 2 dX6_laysPlaces_35 ic_2 36 rfl ?_
  refine r_iload_n hC 0 dX6_laysPlaces_36 rfl 37 rfl ?_
  refine r_imul hC 2 dX6_laysPlaces_37  (by decide) 38 rfl ?_
  refine r_iadd hC (nI (6 * c + 2)) dX6_laysPlaces_38  (nI_add (6 * c) 2) 39 rfl ?_
  refine r_iconst hC 1 dX6_laysPlaces_39 ic_1 40 rfl ?_
  refine r_iadd hC (nI (6 * c + 2 + 1)) dX6_laysPlaces_40  (nI_add (6 * c + 2) 1) 41 rfl ?_
  refine r_aload_n hC 2 dX6_laysPlaces_41 rfl 42 rfl ?_
  refine r_iload_n hC 0 dX6_laysPlaces_42 rfl 43 rfl ?_
  refine r_iconst hC 2 dX6_laysPlaces_43 ic_2 44 rfl ?_
  refine r_invSr hC [.int 1, .int 2] (.int 13) mSX6_at q2711 (metX6_at _ _ hG 1 2) (fun _ _ => xIn.nil) ⟨rfl, rfl⟩ 0 0 rfl rfl (Nat.le_of_ble_eq_true rfl) (Nat.le_of_ble_eq_true rfl) rfl (Nat.le_of_ble_eq_true rfl) dX6_laysPlaces_44 47 rfl ?_
  refine r_lald hC 13 (xix_n 13 (Nat.le_of_ble_eq_true rfl) (Nat.le_of_ble_eq_true rfl)) (fun _ h => h.get 1 rfl) (r 13) (rfl) dX6_laysPlaces_47 48 rfl ?_
  refine r_last (J := xSt F V0 [(b 0, .inr (5, mF b i j)), (a, .inl (1, 111, .inr (.inl r))), (b 25, .inl (1, 1806, .inr (.inl (va_up u3 (6 * c + 2 + 1) (r 13)))))]) hC (6 * c + 2 + 1) (xix_n (6 * c + 2 + 1) (by omega) (Nat.le_of_ble_eq_true rfl)) (fun _ h => h.get 2 rfl) dX6_laysPlaces_48 (fun _ h => h.set 2 _ rfl) 49 rfl ?_
  generalize hu4 : va_up u3 (6 * c + 2 + 1) (r 13) = u4
  refine r_iinc hC 2 3 0 [(3, .int 2), (0, .ref (b 0)), (1, .ref a), (2, .int (nI c))] dX6_laysPlaces_49 rfl (by decide) (Nat.le_of_ble_eq_true rfl) rfl 52 rfl ?_
  refine r_goto hC 2 dX6_laysPlaces_52 (by decide) ?_
  refine r_iload_n hC 0 dX6_laysPlaces_2 rfl 3 rfl ?_
  refine r_iconst hC 3 dX6_laysPlaces_3 ic_3 4 rfl ?_
  refine r_icge hC 55 dX6_laysPlaces_4 (by decide) 7 rfl (fun h => absurd h (by decide)) (fun _ => ?_)
  refine r_aload_n hC 1 dX6_laysPlaces_7 rfl 8 rfl ?_
  refine r_get (v := .ref (b 25)) hC kX6 25 rfl q2778 (fun _ h => h.get 0 rfl) rfl dX6_laysPlaces_8 11 rfl ?_
  refine r_bipush hC 6 dX6_laysPlaces_11 bp_6 13 rfl ?_
  refine r_iload_n hC 3 dX6_laysPlaces_13 rfl 14 rfl ?_
  refine r_imul hC (nI (6 * c)) dX6_laysPlaces_14  (pk_mul 6 c) 15 rfl ?_
  refine r_iconst hC 2 dX6_laysPlaces_15 ic_2 16 rfl ?_
  refine r_iload_n hC 0 dX6_laysPlaces_16 rfl 17 rfl ?_
  refine r_imul hC 4 dX6_laysPlaces_17  (by decide) 18 rfl ?_
  refine r_iadd hC (nI (6 * c + 4)) dX6_laysPlaces_18  (nI_add (6 * c) 4) 19 rfl ?_
  refine r_aload_n hC 2 dX6_laysPlaces_19 rfl 20 rfl ?_
  refine r_iload_n hC 0 dX6_laysPlaces_20 rfl 21 rfl ?_
  refine r_iconst hC 1 dX6_laysPlaces_21 ic_1 22 rfl ?_
  refine r_invSr hC [.int 2, .int 1] (.int 17) mSX6_at q2711 (metX6_at _ _ hG 2 1) (fun _ _ => xIn.nil) ⟨rfl, rfl⟩ 0 0 rfl rfl (Nat.le_of_ble_eq_true rfl) (Nat.le_of_ble_eq_true rfl) rfl (Nat.le_of_ble_eq_true rfl) dX6_laysPlaces_22 25 rfl ?_
  refine r_lald hC 17 (xix_n 17 (Nat.le_of_ble_eq_true rfl) (Nat.le_of_ble_eq_true rfl)) (fun _ h => h.get 1 rfl) (r 17) (rfl) dX6_laysPlaces_25 26 rfl ?_
  refine r_last (J := xSt F V0 [(b 0, .inr (5, mF b i j)), (a, .inl (1, 111, .inr (.inl r))), (b 25, .inl (1, 1806, .inr (.inl (va_up u4 (6 * c + 4) (r 17)))))]) hC (6 * c + 4) (xix_n (6 * c + 4) (by omega) (Nat.le_of_ble_eq_true rfl)) (fun _ h => h.get 2 rfl) dX6_laysPlaces_26 (fun _ h => h.set 2 _ rfl) 27 rfl ?_
  generalize hu5 : va_up u4 (6 * c + 4) (r 17) = u5
  refine r_aload_n hC 1 dX6_laysPlaces_27 rfl 28 rfl ?_
  refine r_get (v := .ref (b 25)) hC kX6 25 rfl q2778 (fun _ h => h.get 0 rfl) rfl dX6_laysPlaces_28 31 rfl ?_
  refine r_bipush hC 6 dX6_laysPlaces_31 bp_6 33 rfl ?_
  refine r_iload_n hC 3 dX6_laysPlaces_33 rfl 34 rfl ?_
  refine r_imul hC (nI (6 * c)) dX6_laysPlaces_34  (pk_mul 6 c) 35 rfl ?_
  refine r_iconst hC 2 dX6_laysPlaces_35 ic_2 36 rfl ?_
  refine r_iload_n hC 0 dX6_laysPlaces_36 rfl 37 rfl ?_
  refine r_imul hC 4 dX6_laysPlaces_37  (by decide) 38 rfl ?_
  refine r_iadd hC (nI (6 * c + 4)) dX6_laysPlaces_38  (nI_add (6 * c) 4) 39 rfl ?_
  refine r_iconst hC 1 dX6_laysPlaces_39 ic_1 40 rfl ?_
  refine r_iadd hC (nI (6 * c + 4 + 1)) dX6_laysPlaces_40  (nI_add (6 * c + 4) 1) 41 rfl ?_
  refine r_aload_n hC 2 dX6_laysPlaces_41 rfl 42 rfl ?_
  refine r_iload_n hC 0 dX6_laysPlaces_42 rfl 43 rfl ?_
  refine r_iconst hC 2 dX6_laysPlaces_43 ic_2 44 rfl ?_
  refine r_invSr hC [.int 2, .int 2] (.int 18) mSX6_at q2711 (metX6_at _ _ hG 2 2) (fun _ _ => xIn.nil) ⟨rfl, rfl⟩ 0 0 rfl rfl (Nat.le_of_ble_eq_true rfl) (Nat.le_of_ble_eq_true rfl) rfl (Nat.le_of_ble_eq_true rfl) dX6_laysPlaces_44 47 rfl ?_
  refine r_lald hC 18 (xix_n 18 (Nat.le_of_ble_eq_true rfl) (Nat.le_of_ble_eq_true rfl)) (fun _ h => h.get 1 rfl) (r 18) (rfl) dX6_laysPlaces_47 48 rfl ?_
  refine r_last (J := xSt F V0 [(b 0, .inr (5, mF b i j)), (a, .inl (1, 111, .inr (.inl r))), (b 25, .inl (1, 1806, .inr (.inl (va_up u5 (6 * c + 4 + 1) (r 18)))))]) hC (6 * c + 4 + 1) (xix_n (6 * c + 4 + 1) (by omega) (Nat.le_of_ble_eq_true rfl)) (fun _ h => h.get 2 rfl) dX6_laysPlaces_48 (fun _ h => h.set 2 _ rfl) 49 rfl ?_
  generalize hu6 : va_up u5 (6 * c + 4 + 1) (r 18) = u6
  refine r_iinc hC 3 3 0 [(3, .int 3), (0, .ref (b 0)), (1, .ref a), (2, .int (nI c))] dX6_laysPlaces_49 rfl (by decide) (Nat.le_of_ble_eq_true rfl) rfl 52 rfl ?_
  refine r_goto hC 2 dX6_laysPlaces_52 (by decide) ?_
  refine r_iload_n hC 0 dX6_laysPlaces_2 rfl 3 rfl ?_
  refine r_iconst hC 3 dX6_laysPlaces_3 ic_3 4 rfl ?_
  refine r_icge hC 55 dX6_laysPlaces_4 (by decide) 7 rfl (fun _ => ?_) (fun h => absurd h (by decide))
  subst hu6
  subst hu5
  subst hu4
  subst hu3
  subst hu2
  subst hu1
  exact r_vret hC (Nat.le_of_ble_eq_true rfl) (Nat.le_of_ble_eq_true rfl) (fun V9 h => hQ _ _ ⟨[(b 0, .inr (5, mF b i j)), (a, .inl (1, 111, .inr (.inl r))), (b 25, .inl (1, 1806, .inr (.inl (va_up (va_up (va_up (va_up (va_up (va_up pa (6 * c + 0) (r 7)) (6 * c + 0 + 1) (r 8)) (6 * c + 2) (r 12)) (6 * c + 2 + 1) (r 13)) (6 * c + 4) (r 17)) (6 * c + 4 + 1) (r 18)))))], ⟨rfl, rfl⟩, by rw [← hV0, ← hF]; exact h⟩) dX6_laysPlaces_55
