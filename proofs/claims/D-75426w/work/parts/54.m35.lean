/-! ===== the reference: reading queries ===== -/
set_option maxRecDepth 100000
theorem qS_add {i co wt : Nat → Int32} {C W : List Int32} {c : Int32} (h : qS i co wt C W) : qS (va_up i 36 (nI (C.length + 1))) (va_up co C.length c) wt (C ++ [c]) W :=
  ⟨by rw [up_same, List.length_append]; rfl, h.2.1, h.2.2.1, lsR_app h.2.2.2.1, h.2.2.2.2⟩
theorem qS_push {i co wt : Nat → Int32} {C W : List Int32} {x : Int32} (h : qS i co wt C W) (hx : x = 23 ∨ x = 1) : qS (va_up (va_up i 38 (nI (opnQ W + 1))) 37 (nI (W.length + 1))) co (va_up wt W.length x) C (x :: W) :=
  ⟨h.1, rfl, by rw [opnQ, if_pos hx]; rfl, h.2.2.2.1, stR_push h.2.2.2.2⟩
theorem qS_pushB {i co wt : Nat → Int32} {C W : List Int32} {x : Int32} (h : qS i co wt C W) (hx : ¬ (x = 23 ∨ x = 1)) : qS (va_up i 37 (nI (W.length + 1))) co (va_up wt W.length x) C (x :: W) :=
  ⟨h.1, rfl, by rw [opnQ, if_neg hx]; exact h.2.2.1, h.2.2.2.1, stR_push h.2.2.2.2⟩
theorem qS_pop23 {i co wt : Nat → Int32} {C W : List Int32} {x : Int32} (h : qS i co wt C (x :: W)) : qS (va_up (va_up (va_up i 37 (nI W.length)) 36 (nI (C.length + 1))) 38 (nI (opnQ W))) (va_up co C.length x) wt (C ++ [x]) W :=
  ⟨by show nI (C.length + 1) = _; rw [List.length_append]; rfl, rfl, rfl, lsR_app h.2.2.2.1, h.2.2.2.2.2⟩
theorem qS_pop {i co wt : Nat → Int32} {C W : List Int32} {x : Int32} (h : qS i co wt C (x :: W)) (hx : ¬ (x = 23 ∨ x = 1)) : qS (va_up (va_up i 37 (nI W.length)) 36 (nI (C.length + 1))) (va_up co C.length x) wt (C ++ [x]) W :=
  ⟨by show nI (C.length + 1) = _; rw [List.length_append]; rfl, rfl, by have := h.2.2.1; rw [opnQ, if_neg hx] at this; exact this, lsR_app h.2.2.2.1, h.2.2.2.2.2⟩
theorem qS_popP {i co wt : Nat → Int32} {C W : List Int32} (h : qS i co wt C (1 :: W)) : qS (va_up (va_up i 37 (nI W.length)) 38 (nI (opnQ W))) co wt C W :=
  ⟨h.1, rfl, rfl, h.2.2.2.1, h.2.2.2.2.2⟩
theorem str_x {x : Int32} {k : Nat} (hk : 0 < k) (h : k ≤ strQ x) (hn : ¬ x = 23) : ¬ (x = 23 ∨ x = 1) := by
  rintro (h1 | h1)
  · exact hn h1
  · subst h1
    have : strQ 1 = 0 := by decide
    omega
theorem setT_y {k : Nat} {C W : List Int32} {x : Int32} (h : k ≤ strQ x) : setT k C (x :: W) = setT k (C ++ [x]) W := by rw [setT, if_pos h]
theorem setT_n {k : Nat} {C W : List Int32} {x : Int32} (h : ¬ k ≤ strQ x) : setT k C (x :: W) = (C, x :: W) := by rw [setT, if_neg h]
set_option maxHeartbeats 4000000 in
set_option maxRecDepth 100000 in
theorem metX6_addsH (l : Launch) (G : xG) (hG : xGood G) (b : Nat → Nat) (i : Nat → Int32) (j : Nat → Int64) (co : Nat → Int32) (n : Nat) (hn : n < 200) (c : Int32) (h36 : i 36 = nI n) : xWm l G yX6_adds (Cond.code yX6_adds cX6_adds 2 none) { frames := 0, locals := 0, cells := 0, slots := 0 } [.ref (b 0), .int c] [(b 0, .inr (5, mF b i j)), (b 33, .inl (0, 200, .inl co))] (fun v w' => v = none ∧ w' = [(b 0, .inr (5, mF b (va_up i 36 (nI (n + 1))) j)), (b 33, .inl (0, 200, .inl (va_up co n c)))]) (fun _ _ => False) := by
  intro V hV
  refine xMet_of RX6 hG rfl (by decide) (Nat.le_of_ble_eq_true rfl) fun C hC hQ hX hl hg _ => ?_
  subst hl hg
  obtain ⟨V0, hV0⟩ : ∃ V0, V0 = V := ⟨_, rfl⟩
  obtain ⟨F, hF⟩ : ∃ F, F = xF [(b 0, .inr (5, mF b i j)), (b 33, .inl (0, 200, .inl co))] := ⟨_, rfl⟩
  refine rn.mono (J := xSt F V0 [(b 0, .inr (5, mF b i j)), (b 33, .inl (0, 200, .inl co))]) (fun V9 h => by rw [h, hV0, hF]; exact hV.st) ?_
  show rn C (xSt F V0 [(b 0, .inr (5, mF b i j)), (b 33, .inl (0, 200, .inl co))]) 0 0 0 [(0, .ref (b 0)), (1, .int c)] []
  refine r_aload_n hC 0 dX6_adds_0 rfl 1 rfl ?_
  refine r_get (v := .ref (b 33)) hC kX6 33 rfl q2786 (fun _ h => h.get 0 rfl) rfl dX6_adds_1 4 rfl ?_
  refine r_aload_n hC 0 dX6_adds_4 rfl 5 rfl ?_
  refine r_get (v := .int (i 36)) hC kX6 36 rfl q2789 (fun _ h => h.get 0 rfl) rfl dX6_adds_5 8 rfl ?_
  refine r_eqi (y := nI n) (h36) ?_
  refine r_iload_n hC 1 dX6_adds_8 rfl 9 rfl ?_
  refine r_iast (J := xSt F V0 [(b 0, .inr (5, mF b i j)), (b 33, .inl (0, 200, .inl (va_up co n c)))]) hC n (xix_n n (by omega) (Nat.le_of_ble_eq_true rfl)) (fun _ h => h.get 1 rfl) dX6_adds_9 (fun _ h => h.set 1 _ rfl) 10 rfl ?_
  generalize hu1 : va_up co n c = u1
  refine r_aload_n hC 0 dX6_adds_10 rfl 11 rfl ?_
  refine r_dup hC dX6_adds_11 rfl 12 rfl ?_
  refine r_get (v := .int (i 36)) hC kX6 36 rfl q2789 (fun _ h => h.get 0 rfl) rfl dX6_adds_12 15 rfl ?_
  refine r_eqi (y := nI n) (h36) ?_
  refine r_iconst hC 1 dX6_adds_15 ic_1 16 rfl ?_
  refine r_iadd hC (nI (n + 1)) dX6_adds_16  (nI_add n 1) 17 rfl ?_
  refine r_put (J := xSt F V0 [(b 0, .inr (5, mF b (va_up i 36 (nI (n + 1))) j)), (b 33, .inl (0, 200, .inl u1))]) hC kX6 36 rfl q2789 rfl (fun _ h => h.get 0 rfl) (Nat.le_of_ble_eq_true rfl) rfl rfl dX6_adds_17 (fun _ h => h.set 0 _ rfl) 20 rfl ?_
  subst hu1
  exact r_vret hC (Nat.le_of_ble_eq_true rfl) (Nat.le_of_ble_eq_true rfl) (fun V9 h => hQ _ _ ⟨[(b 0, .inr (5, mF b (va_up i 36 (nI (n + 1))) j)), (b 33, .inl (0, 200, .inl (va_up co n c)))], ⟨rfl, rfl⟩, by rw [← hV0, ← hF]; exact h⟩) dX6_adds_20
set_option maxHeartbeats 4000000 in
set_option maxRecDepth 100000 in
theorem metX6_propertyHere (l : Launch) (G : xG) (hG : xGood G) (b : Nat → Nat) (i : Nat → Int32) (j : Nat → Int64) (bf : Nat → Int32) (e : Nat) (he : e ≤ 600) (ps : PS) (hr : rdP bf e i j ps) : xRm l G yX6_propertyHere (Cond.code yX6_propertyHere cX6_propertyHere 1 (some .int)) { frames := 2, locals := 42, cells := 0, slots := 0 } [.ref (b 0)] [(b 0, .inr (5, mF b i j)), (b 13, .inl (0, 600, .inl bf))] (some (.int (prpQ bf e ps))) := by
  intro V hV
  refine xMet_of RX6 hG rfl (by decide) (Nat.le_of_ble_eq_true rfl) fun C hC hQ hX hl hg _ => ?_
  subst hl hg
  refine rn.mono (J := xRo [(b 0, .inr (5, mF b i j)), (b 13, .inl (0, 600, .inl bf))] V) (fun V9 h => ⟨h, hV⟩) ?_
  show rn C (xRo [(b 0, .inr (5, mF b i j)), (b 13, .inl (0, 600, .inl bf))] V) 0 0 0 [(0, .ref (b 0))] []
  refine r_aload_n hC 0 dX6_propertyHere_0 rfl 1 rfl ?_
  refine r_ldc2 hC q3332 dX6_propertyHere_1 4 rfl ?_
  rcases Bool.eq_false_or_eq_true (isW bf e 212302449 ps) with hk1 | hk1
  · skip
    refine r_invVr hC kX6 (b 0) [.long 212302449] (.int 1) mVX6_isWord q2941 (fun _ h => h.get 0 rfl) (xRm_v (metX6_isWord _ _ hG b i j bf e he ps hr 212302449) (show _ = some (Value.int 1) by rw [hk1]; rfl)) (fun _ h => h.in.sub [0, 1] rfl rfl) ⟨rfl, rfl⟩ 0 0 rfl rfl (Nat.le_of_ble_eq_true rfl) (Nat.le_of_ble_eq_true rfl) rfl (Nat.le_of_ble_eq_true rfl) dX6_propertyHere_4 7 rfl ?_
    refine r_ifeq hC 12 dX6_propertyHere_7 (by decide) 10 rfl (fun h => absurd h (by decide)) (fun _ => ?_)
    refine r_iconst hC 0 dX6_propertyHere_10 ic_0 11 rfl ?_
    exact r_iret hC (Nat.le_of_ble_eq_true rfl) (Nat.le_of_ble_eq_true rfl) (fun V9 h => hQ _ _ ⟨by rw [prpQ, if_pos hk1], h.1⟩) dX6_propertyHere_11
  · skip
    refine r_invVr hC kX6 (b 0) [.long 212302449] (.int 0) mVX6_isWord q2941 (fun _ h => h.get 0 rfl) (xRm_v (metX6_isWord _ _ hG b i j bf e he ps hr 212302449) (show _ = some (Value.int 0) by rw [hk1]; rfl)) (fun _ h => h.in.sub [0, 1] rfl rfl) ⟨rfl, rfl⟩ 0 0 rfl rfl (Nat.le_of_ble_eq_true rfl) (Nat.le_of_ble_eq_true rfl) rfl (Nat.le_of_ble_eq_true rfl) dX6_propertyHere_4 7 rfl ?_
    refine r_ifeq hC 12 dX6_propertyHere_7 (by decide) 10 rfl (fun _ => ?_) (fun h => absurd h (by decide))
    refine r_aload_n hC 0 dX6_propertyHere_12 rfl 13 rfl ?_
    refine r_ldc2 hC q3333 dX6_propertyHere_13 16 rfl ?_
    rcases Bool.eq_false_or_eq_true (isW bf e 1841546 ps) with hk2 | hk2
    · skip
      refine r_invVr hC kX6 (b 0) [.long 1841546] (.int 1) mVX6_isWord q2941 (fun _ h => h.get 0 rfl) (xRm_v (metX6_isWord _ _ hG b i j bf e he ps hr 1841546) (show _ = some (Value.int 1) by rw [hk2]; rfl)) (fun _ h => h.in.sub [0, 1] rfl rfl) ⟨rfl, rfl⟩ 0 0 rfl rfl (Nat.le_of_ble_eq_true rfl) (Nat.le_of_ble_eq_true rfl) rfl (Nat.le_of_ble_eq_true rfl) dX6_propertyHere_16 19 rfl ?_
      refine r_ifeq hC 24 dX6_propertyHere_19 (by decide) 22 rfl (fun h => absurd h (by decide)) (fun _ => ?_)
      refine r_iconst hC 1 dX6_propertyHere_22 ic_1 23 rfl ?_
      exact r_iret hC (Nat.le_of_ble_eq_true rfl) (Nat.le_of_ble_eq_true rfl) (fun V9 h => hQ _ _ ⟨by rw [prpQ, if_neg (nt hk1), if_pos hk2], h.1⟩) dX6_propertyHere_23
    · skip
      refine r_invVr hC kX6 (b 0) [.long 1841546] (.int 0) mVX6_isWord q2941 (fun _ h => h.get 0 rfl) (xRm_v (metX6_isWord _ _ hG b i j bf e he ps hr 1841546) (show _ = some (Value.int 0) by rw [hk2]; rfl)) (fun _ h => h.in.sub [0, 1] rfl rfl) ⟨rfl, rfl⟩ 0 0 rfl rfl (Nat.le_of_ble_eq_true rfl) (Nat.le_of_ble_eq_true rfl) rfl (Nat.le_of_ble_eq_true rfl) dX6_propertyHere_16 19 rfl ?_
      refine r_ifeq hC 24 dX6_propertyHere_19 (by decide) 22 rfl (fun _ => ?_) (fun h => absurd h (by decide))
      refine r_aload_n hC 0 dX6_propertyHere_24 rfl 25 rfl ?_
      refine r_ldc2 hC q3334 dX6_propertyHere_25 28 rfl ?_
      rcases Bool.eq_false_or_eq_true (isW bf e 315918 ps) with hk3 | hk3
      · skip
        refine r_invVr hC kX6 (b 0) [.long 315918] (.int 1) mVX6_isWord q2941 (fun _ h => h.get 0 rfl) (xRm_v (metX6_isWord _ _ hG b i j bf e he ps hr 315918) (show _ = some (Value.int 1) by rw [hk3]; rfl)) (fun _ h => h.in.sub [0, 1] rfl rfl) ⟨rfl, rfl⟩ 0 0 rfl rfl (Nat.le_of_ble_eq_true rfl) (Nat.le_of_ble_eq_true rfl) rfl (Nat.le_of_ble_eq_true rfl) dX6_propertyHere_28 31 rfl ?_
        refine r_ifeq hC 36 dX6_propertyHere_31 (by decide) 34 rfl (fun h => absurd h (by decide)) (fun _ => ?_)
        refine r_iconst hC 2 dX6_propertyHere_34 ic_2 35 rfl ?_
        exact r_iret hC (Nat.le_of_ble_eq_true rfl) (Nat.le_of_ble_eq_true rfl) (fun V9 h => hQ _ _ ⟨by rw [prpQ, if_neg (nt hk1), if_neg (nt hk2), if_pos hk3], h.1⟩) dX6_propertyHere_35
      · skip
        refine r_invVr hC kX6 (b 0) [.long 315918] (.int 0) mVX6_isWord q2941 (fun _ h => h.get 0 rfl) (xRm_v (metX6_isWord _ _ hG b i j bf e he ps hr 315918) (show _ = some (Value.int 0) by rw [hk3]; rfl)) (fun _ h => h.in.sub [0, 1] rfl rfl) ⟨rfl, rfl⟩ 0 0 rfl rfl (Nat.le_of_ble_eq_true rfl) (Nat.le_of_ble_eq_true rfl) rfl (Nat.le_of_ble_eq_true rfl) dX6_propertyHere_28 31 rfl ?_
        refine r_ifeq hC 36 dX6_propertyHere_31 (by decide) 34 rfl (fun _ => ?_) (fun h => absurd h (by decide))
        refine r_aload_n hC 0 dX6_propertyHere_36 rfl 37 rfl ?_
        refine r_ldc2 hC q3335 dX6_propertyHere_37 40 rfl ?_
        rcases Bool.eq_false_or_eq_true (isW bf e 45611485241 ps) with hk4 | hk4
        · skip
          refine r_invVr hC kX6 (b 0) [.long 45611485241] (.int 1) mVX6_isWord q2941 (fun _ h => h.get 0 rfl) (xRm_v (metX6_isWord _ _ hG b i j bf e he ps hr 45611485241) (show _ = some (Value.int 1) by rw [hk4]; rfl)) (fun _ h => h.in.sub [0, 1] rfl rfl) ⟨rfl, rfl⟩ 0 0 rfl rfl (Nat.le_of_ble_eq_true rfl) (Nat.le_of_ble_eq_true rfl) rfl (Nat.le_of_ble_eq_true rfl) dX6_propertyHere_40 43 rfl ?_
          refine r_ifeq hC 50 dX6_propertyHere_43 (by decide) 46 rfl (fun h => absurd h (by decide)) (fun _ => ?_)
          refine r_iconst hC 3 dX6_propertyHere_46 ic_3 47 rfl ?_
          refine r_goto hC 51 dX6_propertyHere_47 (by decide) ?_
          exact r_iret hC (Nat.le_of_ble_eq_true rfl) (Nat.le_of_ble_eq_true rfl) (fun V9 h => hQ _ _ ⟨by rw [prpQ, if_neg (nt hk1), if_neg (nt hk2), if_neg (nt hk3), if_pos hk4], h.1⟩) dX6_propertyHere_51
        · skip
          refine r_invVr hC kX6 (b 0) [.long 45611485241] (.int 0) mVX6_isWord q2941 (fun _ h => h.get 0 rfl) (xRm_v (metX6_isWord _ _ hG b i j bf e he ps hr 45611485241) (show _ = some (Value.int 0) by rw [hk4]; rfl)) (fun _ h => h.in.sub [0, 1] rfl rfl) ⟨rfl, rfl⟩ 0 0 rfl rfl (Nat.le_of_ble_eq_true rfl) (Nat.le_of_ble_eq_true rfl) rfl (Nat.le_of_ble_eq_true rfl) dX6_propertyHere_40 43 rfl ?_
          refine r_ifeq hC 50 dX6_propertyHere_43 (by decide) 46 rfl (fun _ => ?_) (fun h => absurd h (by decide))
          refine r_iconst hC (-1) dX6_propertyHere_50 ic_m1 51 rfl ?_
          exact r_iret hC (Nat.le_of_ble_eq_true rfl) (Nat.le_of_ble_eq_true rfl) (fun V9 h => hQ _ _ ⟨by rw [prpQ, if_neg (nt hk1), if_neg (nt hk2), if_neg (nt hk3), if_neg (nt hk4)], h.1⟩) dX6_propertyHere_51
set_option maxHeartbeats 4000000 in
set_option maxRecDepth 100000 in
theorem metX6_valueReadG (l : Launch) (G : xG) (hG : xGood G) (b : Nat → Nat) (i : Nat → Int32) (j : Nat → Int64) (bf co wt : Nat → Int32) (e : Nat) (he : e ≤ 600) (L W : List Int32)  (hq : qS i co wt L W) (g : Nat) (hr : rdP bf e i j (.ok g)) (he2 : e ≤ 200) (hle : leP (L.length + W.length) (.ok g)) : xWm l G yX6_valueRead (Cond.code yX6_valueRead cX6_valueRead 2 none) { frames := 4, locals := 87, cells := 0, slots := 0 } [.ref (b 0)] [(b 0, .inr (5, mF b i j)), (b 13, .inl (0, 600, .inl bf)), (b 33, .inl (0, 200, .inl co)), (b 34, .inl (0, 200, .inl wt))] (fun v w' => v = none ∧ ∃ (i' : Nat → Int32) (j' : Nat → Int64) (co' wt' : Nat → Int32), w' = [(b 0, .inr (5, mF b i' j')), (b 13, .inl (0, 600, .inl bf)), (b 33, .inl (0, 200, .inl co')), (b 34, .inl (0, 200, .inl wt'))] ∧ rdP bf e i' j' (valP bf e (.ok g)) ∧ qS i' co' wt' (L ++ valC bf e (.ok g)) (W) ∧ qI i i' ∧ fJ j j') (fun _ _ => False) := by
  intro V hV
  refine xMet_of RX6 hG rfl (by decide) (Nat.le_of_ble_eq_true rfl) fun C hC hQ hX hl hg _ => ?_
  subst hl hg
  have hok : okP (.ok g) = true := rfl
  obtain ⟨V0, hV0⟩ : ∃ V0, V0 = V := ⟨_, rfl⟩
  obtain ⟨F, hF⟩ : ∃ F, F = xF [(b 0, .inr (5, mF b i j)), (b 13, .inl (0, 600, .inl bf)), (b 33, .inl (0, 200, .inl co)), (b 34, .inl (0, 200, .inl wt))] := ⟨_, rfl⟩
  refine rn.mono (J := xSt F V0 [(b 0, .inr (5, mF b i j)), (b 13, .inl (0, 600, .inl bf)), (b 33, .inl (0, 200, .inl co)), (b 34, .inl (0, 200, .inl wt))]) (fun V9 h => by rw [h, hV0, hF]; exact hV.st) ?_
  show rn C (xSt F V0 [(b 0, .inr (5, mF b i j)), (b 13, .inl (0, 600, .inl bf)), (b 33, .inl (0, 200, .inl co)), (b 34, .inl (0, 200, .inl wt))]) 0 0 0 [(0, .ref (b 0))] []
  refine r_aload_n hC 0 dX6_valueRead_0 rfl 1 rfl ?_
  refine r_invVr hC kX6 (b 0) [] (.int 1) mVX6_isGood q2945 (fun _ h => h.get 0 rfl) (metX6_isGood _ _ hG b i _ 1 (by rw [rd_good hr, hok]; rfl)) (fun _ h => h.in.sub [0] rfl rfl) ⟨rfl, rfl⟩ 0 0 rfl rfl (Nat.le_of_ble_eq_true rfl) (Nat.le_of_ble_eq_true rfl) rfl (Nat.le_of_ble_eq_true rfl) dX6_valueRead_1 4 rfl ?_
  refine r_ifne hC 8 dX6_valueRead_4 (by decide) 7 rfl (fun _ => ?_) (fun h => absurd h (by decide))
  refine r_aload_n hC 0 dX6_valueRead_8 rfl 9 rfl ?_
  refine r_get (v := .int (i 18)) hC kX6 18 rfl q2771 (fun _ h => h.get 0 rfl) rfl dX6_valueRead_9 12 rfl ?_
  refine r_eqi (y := tKind bf e g) (hr.1.2.2.2.2.1) ?_
  refine r_iconst hC 2 dX6_valueRead_12 ic_2 13 rfl ?_
  refine r_icne hC 35 dX6_valueRead_13 (by decide) 16 rfl (fun c1 => ?_) (fun c1 => ?_)
  · skip
    refine r_aload_n hC 0 dX6_valueRead_35 rfl 36 rfl ?_
    refine r_invVr hC kX6 (b 0) [] (.int (prpQ bf e (.ok g))) mVX6_propertyHere q3328 (fun _ h => h.get 0 rfl) (metX6_propertyHere _ _ hG b i j bf e he (.ok g) hr) (fun _ h => h.in.sub [0, 1] rfl rfl) ⟨rfl, rfl⟩ 0 0 rfl rfl (Nat.le_of_ble_eq_true rfl) (Nat.le_of_ble_eq_true rfl) rfl (Nat.le_of_ble_eq_true rfl) dX6_valueRead_36 39 rfl ?_
    refine r_istore_n hC 1 [(1, .int (prpQ bf e (.ok g))), (0, .ref (b 0))] dX6_valueRead_39 rfl (Nat.le_of_ble_eq_true rfl) rfl 40 rfl ?_
    refine r_iload_n hC 0 dX6_valueRead_40 rfl 41 rfl ?_
    refine r_iconst hC (-1) dX6_valueRead_41 ic_m1 42 rfl ?_
    refine r_icne hC 52 dX6_valueRead_42 (by decide) 45 rfl (fun c2 => ?_) (fun c2 => ?_)
    · skip
      refine r_aload_n hC 1 dX6_valueRead_52 rfl 53 rfl ?_
      refine r_iload_n hC 0 dX6_valueRead_53 rfl 54 rfl ?_
      refine r_invVw hC kX6 (b 0) [.int (prpQ bf e (.ok g))] [(b 13, .inl (0, 600, .inl bf)), (b 34, .inl (0, 200, .inl wt))] mVX6_adds q3324 0 rfl (metX6_addsH _ _ hG b i j co L.length (by obtain ⟨w9, hw9⟩ := prp_w c2; have h1 := leP_ltW hw9 hle; omega) (prpQ bf e (.ok g)) hq.1) [0, 2] [1, 3] rfl rfl rfl rfl (by decide) ⟨rfl, rfl⟩ 0 0 rfl rfl (Nat.le_of_ble_eq_true rfl) (Nat.le_of_ble_eq_true rfl) rfl (Nat.le_of_ble_eq_true rfl) dX6_valueRead_54 57 rfl (fun v3 w4 h5 => ?_) (fun _ _ h => h.elim)
      obtain ⟨rfl, rfl⟩ := h5
      show rn C (xSt F V0 [(b 13, .inl (0, 600, .inl bf)), (b 34, .inl (0, 200, .inl wt)), (b 0, .inr (5, mF b (va_up i 36 (nI (L.length + 1))) j)), (b 33, .inl (0, 200, .inl (va_up co L.length (prpQ bf e (.ok g)))))]) 0 0 57 [(1, .int (prpQ bf e (.ok g))), (0, .ref (b 0))] []
      refine r_aload_n hC 1 dX6_valueRead_57 rfl 58 rfl ?_
      refine r_invVw hC kX6 (b 0) [] [(b 34, .inl (0, 200, .inl wt)), (b 33, .inl (0, 200, .inl (va_up co L.length (prpQ bf e (.ok g)))))] mVX6_next q2902 2 rfl (metX6_nextP _ _ hG b (va_up i 36 (nI (L.length + 1))) j bf e he (.ok g) (rd36 hr) hok) [2, 0] [1, 3] rfl rfl rfl rfl (by decide) ⟨rfl, rfl⟩ 0 0 rfl rfl (Nat.le_of_ble_eq_true rfl) (Nat.le_of_ble_eq_true rfl) rfl (Nat.le_of_ble_eq_true rfl) dX6_valueRead_58 61 rfl (fun v7 w8 h9 => ?_) (fun _ _ h => h.elim)
      obtain ⟨rfl, i6, j6, rfl, hr6, gi6, fj6⟩ := h9
      show rn C (xSt F V0 [(b 34, .inl (0, 200, .inl wt)), (b 33, .inl (0, 200, .inl (va_up co L.length (prpQ bf e (.ok g))))), (b 0, .inr (5, mF b i6 j6)), (b 13, .inl (0, 600, .inl bf))]) 0 0 61 [(1, .int (prpQ bf e (.ok g))), (0, .ref (b 0))] []
      exact r_vret hC (Nat.le_of_ble_eq_true rfl) (Nat.le_of_ble_eq_true rfl) (fun V9 h => hQ _ _ ⟨[(b 0, .inr (5, mF b i6 j6)), (b 13, .inl (0, 600, .inl bf)), (b 33, .inl (0, 200, .inl (va_up co L.length (prpQ bf e (.ok g))))), (b 34, .inl (0, 200, .inl wt))], ⟨rfl, _, _, _, _, rfl, (by rw [valP, if_neg (isK_n2 c1), if_neg c2]; exact hr6), (by rw [valC, if_neg (isK_n2 c1), if_neg c2]; exact ((qS_add (c := (prpQ bf e (.ok g))) hq).g gi6)), (((qI_refl i).u36).trans gi6), fj6⟩, by rw [← hV0, ← hF]; exact (h.sub [2, 3, 1, 0] rfl rfl)⟩) dX6_valueRead_61
    · skip
      refine r_aload_n hC 1 dX6_valueRead_45 rfl 46 rfl ?_
      refine r_iconst hC 1 dX6_valueRead_46 ic_1 47 rfl ?_
      refine r_invVw hC kX6 (b 0) [.int 1] [(b 13, .inl (0, 600, .inl bf)), (b 33, .inl (0, 200, .inl co)), (b 34, .inl (0, 200, .inl wt))] mVX6_wrongs q2953 0 rfl (metX6_wrongsP _ _ hG b i j bf e he (.ok g) hr 1 (by decide)) [0] [1, 2, 3] rfl rfl rfl rfl (by decide) ⟨rfl, rfl⟩ 0 0 rfl rfl (Nat.le_of_ble_eq_true rfl) (Nat.le_of_ble_eq_true rfl) rfl (Nat.le_of_ble_eq_true rfl) dX6_valueRead_47 50 rfl (fun v11 w12 h13 => ?_) (fun _ _ h => h.elim)
      obtain ⟨rfl, i10, j10, rfl, hr10, gi10, fj10⟩ := h13
      show rn C (xSt F V0 [(b 13, .inl (0, 600, .inl bf)), (b 33, .inl (0, 200, .inl co)), (b 34, .inl (0, 200, .inl wt)), (b 0, .inr (5, mF b i10 j10))]) 0 0 50 [(1, .int (prpQ bf e (.ok g))), (0, .ref (b 0))] [.int 0]
      refine r_pop hC dX6_valueRead_50 rfl 51 rfl ?_
      exact r_vret hC (Nat.le_of_ble_eq_true rfl) (Nat.le_of_ble_eq_true rfl) (fun V9 h => hQ _ _ ⟨[(b 0, .inr (5, mF b i10 j10)), (b 13, .inl (0, 600, .inl bf)), (b 33, .inl (0, 200, .inl co)), (b 34, .inl (0, 200, .inl wt))], ⟨rfl, _, _, _, _, rfl, (by rw [valP, if_neg (isK_n2 c1), if_pos c2]; exact hr10), (by rw [valC, if_neg (isK_n2 c1), if_pos c2, List.append_nil]; exact (hq.g gi10)), ((qI_refl i).trans gi10), fj10⟩, by rw [← hV0, ← hF]; exact (h.sub [3, 0, 1, 2] rfl rfl)⟩) dX6_valueRead_51
  · skip
    refine r_aload_n hC 0 dX6_valueRead_16 rfl 17 rfl ?_
    refine r_lconst hC 0 dX6_valueRead_17 lc_0 18 rfl ?_
    refine r_ldc2 hC q3323 dX6_valueRead_18 21 rfl ?_
    refine r_invVw hC kX6 (b 0) [.long 0, .long 9999999] [(b 33, .inl (0, 200, .inl co)), (b 34, .inl (0, 200, .inl wt))] mVX6_number q2949 0 rfl (metX6_number _ _ hG b i j bf e he (.ok g) hr 0 9999999) [0, 1] [2, 3] rfl rfl rfl rfl (by decide) ⟨rfl, rfl⟩ 0 0 rfl rfl (Nat.le_of_ble_eq_true rfl) (Nat.le_of_ble_eq_true rfl) rfl (Nat.le_of_ble_eq_true rfl) dX6_valueRead_21 24 rfl (fun v15 w16 h17 => ?_) (fun _ _ h => h.elim)
    obtain ⟨rfl, i14, j14, rfl, hr14, gi14, fj14⟩ := h17
    show rn C (xSt F V0 [(b 33, .inl (0, 200, .inl co)), (b 34, .inl (0, 200, .inl wt)), (b 0, .inr (5, mF b i14 j14)), (b 13, .inl (0, 600, .inl bf))]) 0 0 24 [(0, .ref (b 0))] [.long (numV bf e 0 9999999 (.ok g))]
    refine r_l2i hC ((numV bf e 0 9999999 (.ok g)).toInt32) dX6_valueRead_24 (rfl) 25 rfl ?_
    refine r_istore_n hC 1 [(1, .int ((numV bf e 0 9999999 (.ok g)).toInt32)), (0, .ref (b 0))] dX6_valueRead_25 rfl (Nat.le_of_ble_eq_true rfl) rfl 26 rfl ?_
    refine r_aload_n hC 1 dX6_valueRead_26 rfl 27 rfl ?_
    refine r_bipush hC 100 dX6_valueRead_27 bp_100 29 rfl ?_
    refine r_iload_n hC 0 dX6_valueRead_29 rfl 30 rfl ?_
    refine r_iadd hC (100 + ((numV bf e 0 9999999 (.ok g)).toInt32)) dX6_valueRead_30  (rfl) 31 rfl ?_
    refine r_invVw hC kX6 (b 0) [.int (100 + ((numV bf e 0 9999999 (.ok g)).toInt32))] [(b 34, .inl (0, 200, .inl wt)), (b 13, .inl (0, 600, .inl bf))] mVX6_adds q3324 2 rfl (metX6_addsH _ _ hG b i14 j14 co L.length (by have h1 := tK_in (show ¬ tKind bf e g = 0 by rw [c1]; decide); have h2 : L.length + W.length ≤ g := hle; omega) (100 + ((numV bf e 0 9999999 (.ok g)).toInt32)) (hq.g gi14).1) [2, 0] [1, 3] rfl rfl rfl rfl (by decide) ⟨rfl, rfl⟩ 0 0 rfl rfl (Nat.le_of_ble_eq_true rfl) (Nat.le_of_ble_eq_true rfl) rfl (Nat.le_of_ble_eq_true rfl) dX6_valueRead_31 34 rfl (fun v18 w19 h20 => ?_) (fun _ _ h => h.elim)
    obtain ⟨rfl, rfl⟩ := h20
    show rn C (xSt F V0 [(b 34, .inl (0, 200, .inl wt)), (b 13, .inl (0, 600, .inl bf)), (b 0, .inr (5, mF b (va_up i14 36 (nI (L.length + 1))) j14)), (b 33, .inl (0, 200, .inl (va_up co L.length (100 + ((numV bf e 0 9999999 (.ok g)).toInt32)))))]) 0 0 34 [(1, .int ((numV bf e 0 9999999 (.ok g)).toInt32)), (0, .ref (b 0))] []
    exact r_vret hC (Nat.le_of_ble_eq_true rfl) (Nat.le_of_ble_eq_true rfl) (fun V9 h => hQ _ _ ⟨[(b 0, .inr (5, mF b (va_up i14 36 (nI (L.length + 1))) j14)), (b 13, .inl (0, 600, .inl bf)), (b 33, .inl (0, 200, .inl (va_up co L.length (100 + ((numV bf e 0 9999999 (.ok g)).toInt32))))), (b 34, .inl (0, 200, .inl wt))], ⟨rfl, _, _, _, _, rfl, (by rw [valP, if_pos (isK_2 c1)]; exact (rd36 hr14)), (by rw [valC, if_pos (isK_2 c1)]; exact (qS_add (c := (100 + ((numV bf e 0 9999999 (.ok g)).toInt32))) (hq.g gi14))), (((qI_refl i).trans gi14).u36), fj14⟩, by rw [← hV0, ← hF]; exact (h.sub [2, 1, 3, 0] rfl rfl)⟩) dX6_valueRead_34
set_option maxHeartbeats 4000000 in
set_option maxRecDepth 100000 in
theorem metX6_valueReadB (l : Launch) (G : xG) (hG : xGood G) (b : Nat → Nat) (i : Nat → Int32) (j : Nat → Int64) (bf co wt : Nat → Int32) (e : Nat) (he : e ≤ 600) (L W : List Int32)  (hq : qS i co wt L W) (x : Int32 × Nat) (hr : rdP bf e i j (.error x)) : xWm l G yX6_valueRead (Cond.code yX6_valueRead cX6_valueRead 2 none) { frames := 4, locals := 87, cells := 0, slots := 0 } [.ref (b 0)] [(b 0, .inr (5, mF b i j)), (b 13, .inl (0, 600, .inl bf)), (b 33, .inl (0, 200, .inl co)), (b 34, .inl (0, 200, .inl wt))] (fun v w' => v = none ∧ ∃ (i' : Nat → Int32) (j' : Nat → Int64) (co' wt' : Nat → Int32), w' = [(b 0, .inr (5, mF b i' j')), (b 13, .inl (0, 600, .inl bf)), (b 33, .inl (0, 200, .inl co')), (b 34, .inl (0, 200, .inl wt'))] ∧ rdP bf e i' j' (valP bf e (.error x)) ∧ qS i' co' wt' (L ++ valC bf e (.error x)) (W) ∧ qI i i' ∧ fJ j j') (fun _ _ => False) := by
  intro V hV
  refine xMet_of RX6 hG rfl (by decide) (Nat.le_of_ble_eq_true rfl) fun C hC hQ hX hl hg _ => ?_
  subst hl hg
  have hok : okP (.error x) = false := rfl
  obtain ⟨V0, hV0⟩ : ∃ V0, V0 = V := ⟨_, rfl⟩
  obtain ⟨F, hF⟩ : ∃ F, F = xF [(b 0, .inr (5, mF b i j)), (b 13, .inl (0, 600, .inl bf)), (b 33, .inl (0, 200, .inl co)), (b 34, .inl (0, 200, .inl wt))] := ⟨_, rfl⟩
  refine rn.mono (J := xSt F V0 [(b 0, .inr (5, mF b i j)), (b 13, .inl (0, 600, .inl bf)), (b 33, .inl (0, 200, .inl co)), (b 34, .inl (0, 200, .inl wt))]) (fun V9 h => by rw [h, hV0, hF]; exact hV.st) ?_
  show rn C (xSt F V0 [(b 0, .inr (5, mF b i j)), (b 13, .inl (0, 600, .inl bf)), (b 33, .inl (0, 200, .inl co)), (b 34, .inl (0, 200, .inl wt))]) 0 0 0 [(0, .ref (b 0))] []
  refine r_aload_n hC 0 dX6_valueRead_0 rfl 1 rfl ?_
  refine r_invVr hC kX6 (b 0) [] (.int 0) mVX6_isGood q2945 (fun _ h => h.get 0 rfl) (metX6_isGood _ _ hG b i _ 0 (by rw [rd_good hr, hok]; rfl)) (fun _ h => h.in.sub [0] rfl rfl) ⟨rfl, rfl⟩ 0 0 rfl rfl (Nat.le_of_ble_eq_true rfl) (Nat.le_of_ble_eq_true rfl) rfl (Nat.le_of_ble_eq_true rfl) dX6_valueRead_1 4 rfl ?_
  refine r_ifne hC 8 dX6_valueRead_4 (by decide) 7 rfl (fun h => absurd h (by decide)) (fun _ => ?_)
  exact r_vret hC (Nat.le_of_ble_eq_true rfl) (Nat.le_of_ble_eq_true rfl) (fun V9 h => hQ _ _ ⟨[(b 0, .inr (5, mF b i j)), (b 13, .inl (0, 600, .inl bf)), (b 33, .inl (0, 200, .inl co)), (b 34, .inl (0, 200, .inl wt))], ⟨rfl, _, _, _, _, rfl, (by rw [val_bad hok]; exact hr), (by rw [valC_bad hok, List.append_nil]; exact hq), (qI_refl i), (fJ_refl j)⟩, by rw [← hV0, ← hF]; exact h⟩) dX6_valueRead_7
theorem metX6_valueRead (l : Launch) (G : xG) (hG : xGood G) (b : Nat → Nat) (i : Nat → Int32) (j : Nat → Int64) (bf co wt : Nat → Int32) (e : Nat) (he : e ≤ 600) (ps : PS) (L W : List Int32) (hr : rdP bf e i j ps) (hq : qS i co wt L W) (he2 : e ≤ 200) (hle : leP (L.length + W.length) ps) : xWm l G yX6_valueRead (Cond.code yX6_valueRead cX6_valueRead 2 none) { frames := 4, locals := 87, cells := 0, slots := 0 } [.ref (b 0)] [(b 0, .inr (5, mF b i j)), (b 13, .inl (0, 600, .inl bf)), (b 33, .inl (0, 200, .inl co)), (b 34, .inl (0, 200, .inl wt))] (fun v w' => v = none ∧ ∃ (i' : Nat → Int32) (j' : Nat → Int64) (co' wt' : Nat → Int32), w' = [(b 0, .inr (5, mF b i' j')), (b 13, .inl (0, 600, .inl bf)), (b 33, .inl (0, 200, .inl co')), (b 34, .inl (0, 200, .inl wt'))] ∧ rdP bf e i' j' (valP bf e ps) ∧ qS i' co' wt' (L ++ valC bf e ps) (W) ∧ qI i i' ∧ fJ j j') (fun _ _ => False) := by
  cases ps with
  | ok g => exact metX6_valueReadG l G hG b i j bf co wt e he L W hq g hr he2 hle
  | error x => exact metX6_valueReadB l G hG b i j bf co wt e he L W hq x hr
set_option maxHeartbeats 4000000 in
set_option maxRecDepth 100000 in
theorem metX6_goesInG (l : Launch) (G : xG) (hG : xGood G) (b : Nat → Nat) (i : Nat → Int32) (j : Nat → Int64) (bf co wt : Nat → Int32) (e : Nat) (he : e ≤ 600) (ps : PS) (L W : List Int32) (hr : rdP bf e i j ps) (hq : qS i co wt L W) (ho : okP ps = true) (x : Int32) (hx : x = 23 ∨ x = 1) (hW : W.length < 200) (hop : opnQ W ≤ 6) (h6 : decide (opnQ W = 6) = false) : xWm l G yX6_goesIn (Cond.code yX6_goesIn cX6_goesIn 2 (some .boolean)) { frames := 3, locals := 61, cells := 0, slots := 0 } [.ref (b 0), .int x] [(b 0, .inr (5, mF b i j)), (b 13, .inl (0, 600, .inl bf)), (b 33, .inl (0, 200, .inl co)), (b 34, .inl (0, 200, .inl wt))] (fun v w' => v = some (.int 1) ∧ ∃ (i' : Nat → Int32) (j' : Nat → Int64) (co' wt' : Nat → Int32), w' = [(b 0, .inr (5, mF b i' j')), (b 13, .inl (0, 600, .inl bf)), (b 33, .inl (0, 200, .inl co')), (b 34, .inl (0, 200, .inl wt'))] ∧ rdP bf e i' j' (nxP bf e ps) ∧ qS i' co' wt' (L) (x :: W) ∧ qI i i' ∧ fJ j j') (fun _ _ => False) := by
  intro V hV
  refine xMet_of RX6 hG rfl (by decide) (Nat.le_of_ble_eq_true rfl) fun C hC hQ hX hl hg _ => ?_
  subst hl hg
  obtain ⟨V0, hV0⟩ : ∃ V0, V0 = V := ⟨_, rfl⟩
  obtain ⟨F, hF⟩ : ∃ F, F = xF [(b 0, .inr (5, mF b i j)), (b 13, .inl (0, 600, .inl bf)), (b 33, .inl (0, 200, .inl co)), (b 34, .inl (0, 200, .inl wt))] := ⟨_, rfl⟩
  refine rn.mono (J := xSt F V0 [(b 0, .inr (5, mF b i j)), (b 13, .inl (0, 600, .inl bf)), (b 33, .inl (0, 200, .inl co)), (b 34, .inl (0, 200, .inl wt))]) (fun V9 h => by rw [h, hV0, hF]; exact hV.st) ?_
  show rn C (xSt F V0 [(b 0, .inr (5, mF b i j)), (b 13, .inl (0, 600, .inl bf)), (b 33, .inl (0, 200, .inl co)), (b 34, .inl (0, 200, .inl wt))]) 0 0 0 [(0, .ref (b 0)), (1, .int x)] []
  refine r_aload_n hC 0 dX6_goesIn_0 rfl 1 rfl ?_
  refine r_get (v := .int (i 38)) hC kX6 38 rfl q2791 (fun _ h => h.get 0 rfl) rfl dX6_goesIn_1 4 rfl ?_
  refine r_eqi (y := nI (opnQ W)) (hq.2.2.1) ?_
  refine r_bipush hC 6 dX6_goesIn_4 bp_6 6 rfl ?_
  refine r_icne hC 15 dX6_goesIn_6 (by decide) 9 rfl (fun _ => ?_) (fun h => absurd h (fun e9 => of_decide_eq_false h6 ((nI_eq (b := 6) (by omega) (by decide)).mp e9)))
  refine r_aload_n hC 0 dX6_goesIn_15 rfl 16 rfl ?_
  refine r_dup hC dX6_goesIn_16 rfl 17 rfl ?_
  refine r_get (v := .int (i 38)) hC kX6 38 rfl q2791 (fun _ h => h.get 0 rfl) rfl dX6_goesIn_17 20 rfl ?_
  refine r_eqi (y := nI (opnQ W)) (hq.2.2.1) ?_
  refine r_iconst hC 1 dX6_goesIn_20 ic_1 21 rfl ?_
  refine r_iadd hC (nI (opnQ W + 1)) dX6_goesIn_21  (nI_add (opnQ W) 1) 22 rfl ?_
  refine r_put (J := xSt F V0 [(b 0, .inr (5, mF b (va_up i 38 (nI (opnQ W + 1))) j)), (b 13, .inl (0, 600, .inl bf)), (b 33, .inl (0, 200, .inl co)), (b 34, .inl (0, 200, .inl wt))]) hC kX6 38 rfl q2791 rfl (fun _ h => h.get 0 rfl) (Nat.le_of_ble_eq_true rfl) rfl rfl dX6_goesIn_22 (fun _ h => h.set 0 _ rfl) 25 rfl ?_
  refine r_aload_n hC 0 dX6_goesIn_25 rfl 26 rfl ?_
  refine r_get (v := .ref (b 34)) hC kX6 34 rfl q2787 (fun _ h => h.get 0 rfl) rfl dX6_goesIn_26 29 rfl ?_
  refine r_aload_n hC 0 dX6_goesIn_29 rfl 30 rfl ?_
  refine r_get (v := .int (i 37)) hC kX6 37 rfl q2790 (fun _ h => h.get 0 rfl) rfl dX6_goesIn_30 33 rfl ?_
  refine r_eqi (y := nI W.length) (hq.2.1) ?_
  refine r_iload_n hC 1 dX6_goesIn_33 rfl 34 rfl ?_
  refine r_iast (J := xSt F V0 [(b 0, .inr (5, mF b (va_up i 38 (nI (opnQ W + 1))) j)), (b 13, .inl (0, 600, .inl bf)), (b 33, .inl (0, 200, .inl co)), (b 34, .inl (0, 200, .inl (va_up wt W.length x)))]) hC W.length (xix_n W.length (by omega) (Nat.le_of_ble_eq_true rfl)) (fun _ h => h.get 3 rfl) dX6_goesIn_34 (fun _ h => h.set 3 _ rfl) 35 rfl ?_
  generalize hu1 : va_up wt W.length x = u1
  refine r_aload_n hC 0 dX6_goesIn_35 rfl 36 rfl ?_
  refine r_dup hC dX6_goesIn_36 rfl 37 rfl ?_
  refine r_get (v := .int (i 37)) hC kX6 37 rfl q2790 (fun _ h => h.get 0 rfl) rfl dX6_goesIn_37 40 rfl ?_
  refine r_eqi (y := nI W.length) (hq.2.1) ?_
  refine r_iconst hC 1 dX6_goesIn_40 ic_1 41 rfl ?_
  refine r_iadd hC (nI (W.length + 1)) dX6_goesIn_41  (nI_add W.length 1) 42 rfl ?_
  refine r_put (J := xSt F V0 [(b 0, .inr (5, mF b (va_up (va_up i 38 (nI (opnQ W + 1))) 37 (nI (W.length + 1))) j)), (b 13, .inl (0, 600, .inl bf)), (b 33, .inl (0, 200, .inl co)), (b 34, .inl (0, 200, .inl u1))]) hC kX6 37 rfl q2790 rfl (fun _ h => h.get 0 rfl) (Nat.le_of_ble_eq_true rfl) rfl rfl dX6_goesIn_42 (fun _ h => h.set 0 _ rfl) 45 rfl ?_
  subst hu1
  refine r_aload_n hC 0 dX6_goesIn_45 rfl 46 rfl ?_
  refine r_invVw hC kX6 (b 0) [] [(b 33, .inl (0, 200, .inl co)), (b 34, .inl (0, 200, .inl (va_up wt W.length x)))] mVX6_next q2902 0 rfl (metX6_nextP _ _ hG b (va_up (va_up i 38 (nI (opnQ W + 1))) 37 (nI (W.length + 1))) j bf e he ps (rd37 (rd38 hr)) ho) [0, 1] [2, 3] rfl rfl rfl rfl (by decide) ⟨rfl, rfl⟩ 0 0 rfl rfl (Nat.le_of_ble_eq_true rfl) (Nat.le_of_ble_eq_true rfl) rfl (Nat.le_of_ble_eq_true rfl) dX6_goesIn_46 49 rfl (fun v3 w4 h5 => ?_) (fun _ _ h => h.elim)
  obtain ⟨rfl, i2, j2, rfl, hr2, gi2, fj2⟩ := h5
  show rn C (xSt F V0 [(b 33, .inl (0, 200, .inl co)), (b 34, .inl (0, 200, .inl (va_up wt W.length x))), (b 0, .inr (5, mF b i2 j2)), (b 13, .inl (0, 600, .inl bf))]) 0 0 49 [(0, .ref (b 0)), (1, .int x)] []
  refine r_iconst hC 1 dX6_goesIn_49 ic_1 50 rfl ?_
  exact r_zret hC (by decide) (Nat.le_of_ble_eq_true rfl) (Nat.le_of_ble_eq_true rfl) (fun V9 h => hQ _ _ ⟨[(b 0, .inr (5, mF b i2 j2)), (b 13, .inl (0, 600, .inl bf)), (b 33, .inl (0, 200, .inl co)), (b 34, .inl (0, 200, .inl (va_up wt W.length x)))], ⟨rfl, _, _, _, _, rfl, hr2, ((qS_push hq hx).g gi2), ((((qI_refl i).u38).u37).trans gi2), fj2⟩, by rw [← hV0, ← hF]; exact (h.sub [2, 3, 0, 1] rfl rfl)⟩) dX6_goesIn_50
set_option maxHeartbeats 4000000 in
set_option maxRecDepth 100000 in
theorem metX6_goesIn6 (l : Launch) (G : xG) (hG : xGood G) (b : Nat → Nat) (i : Nat → Int32) (j : Nat → Int64) (bf co wt : Nat → Int32) (e : Nat) (he : e ≤ 600) (ps : PS) (L W : List Int32) (hr : rdP bf e i j ps) (hq : qS i co wt L W) (ho : okP ps = true) (x : Int32) (hx : x = 23 ∨ x = 1) (h6 : decide (opnQ W = 6) = true) : xWm l G yX6_goesIn (Cond.code yX6_goesIn cX6_goesIn 2 (some .boolean)) { frames := 3, locals := 61, cells := 0, slots := 0 } [.ref (b 0), .int x] [(b 0, .inr (5, mF b i j)), (b 13, .inl (0, 600, .inl bf)), (b 33, .inl (0, 200, .inl co)), (b 34, .inl (0, 200, .inl wt))] (fun v w' => v = some (.int 0) ∧ ∃ (i' : Nat → Int32) (j' : Nat → Int64) (co' wt' : Nat → Int32), w' = [(b 0, .inr (5, mF b i' j')), (b 13, .inl (0, 600, .inl bf)), (b 33, .inl (0, 200, .inl co')), (b 34, .inl (0, 200, .inl wt'))] ∧ rdP bf e i' j' (wrP 3 ps) ∧ qS i' co' wt' (L) (W) ∧ qI i i' ∧ fJ j j') (fun _ _ => False) := by
  intro V hV
  refine xMet_of RX6 hG rfl (by decide) (Nat.le_of_ble_eq_true rfl) fun C hC hQ hX hl hg _ => ?_
  subst hl hg
  obtain ⟨V0, hV0⟩ : ∃ V0, V0 = V := ⟨_, rfl⟩
  obtain ⟨F, hF⟩ : ∃ F, F = xF [(b 0, .inr (5, mF b i j)), (b 13, .inl (0, 600, .inl bf)), (b 33, .inl (0, 200, .inl co)), (b 34, .inl (0, 200, .inl wt))] := ⟨_, rfl⟩
  refine rn.mono (J := xSt F V0 [(b 0, .inr (5, mF b i j)), (b 13, .inl (0, 600, .inl bf)), (b 33, .inl (0, 200, .inl co)), (b 34, .inl (0, 200, .inl wt))]) (fun V9 h => by rw [h, hV0, hF]; exact hV.st) ?_
  show rn C (xSt F V0 [(b 0, .inr (5, mF b i j)), (b 13, .inl (0, 600, .inl bf)), (b 33, .inl (0, 200, .inl co)), (b 34, .inl (0, 200, .inl wt))]) 0 0 0 [(0, .ref (b 0)), (1, .int x)] []
  refine r_aload_n hC 0 dX6_goesIn_0 rfl 1 rfl ?_
  refine r_get (v := .int (i 38)) hC kX6 38 rfl q2791 (fun _ h => h.get 0 rfl) rfl dX6_goesIn_1 4 rfl ?_
  refine r_eqi (y := nI (opnQ W)) (hq.2.2.1) ?_
  refine r_bipush hC 6 dX6_goesIn_4 bp_6 6 rfl ?_
  refine r_icne hC 15 dX6_goesIn_6 (by decide) 9 rfl (fun h => absurd (by rw [of_decide_eq_true h6]; rfl) h) (fun _ => ?_)
  refine r_aload_n hC 0 dX6_goesIn_9 rfl 10 rfl ?_
  refine r_iconst hC 3 dX6_goesIn_10 ic_3 11 rfl ?_
  refine r_invVw hC kX6 (b 0) [.int 3] [(b 13, .inl (0, 600, .inl bf)), (b 33, .inl (0, 200, .inl co)), (b 34, .inl (0, 200, .inl wt))] mVX6_wrongs q2953 0 rfl (metX6_wrongsP _ _ hG b i j bf e he ps hr 3 (by decide)) [0] [1, 2, 3] rfl rfl rfl rfl (by decide) ⟨rfl, rfl⟩ 0 0 rfl rfl (Nat.le_of_ble_eq_true rfl) (Nat.le_of_ble_eq_true rfl) rfl (Nat.le_of_ble_eq_true rfl) dX6_goesIn_11 14 rfl (fun v2 w3 h4 => ?_) (fun _ _ h => h.elim)
  obtain ⟨rfl, i1, j1, rfl, hr1, gi1, fj1⟩ := h4
  show rn C (xSt F V0 [(b 13, .inl (0, 600, .inl bf)), (b 33, .inl (0, 200, .inl co)), (b 34, .inl (0, 200, .inl wt)), (b 0, .inr (5, mF b i1 j1))]) 0 0 14 [(0, .ref (b 0)), (1, .int x)] [.int 0]
  exact r_zret hC (by decide) (Nat.le_of_ble_eq_true rfl) (Nat.le_of_ble_eq_true rfl) (fun V9 h => hQ _ _ ⟨[(b 0, .inr (5, mF b i1 j1)), (b 13, .inl (0, 600, .inl bf)), (b 33, .inl (0, 200, .inl co)), (b 34, .inl (0, 200, .inl wt))], ⟨rfl, _, _, _, _, rfl, hr1, (hq.g gi1), ((qI_refl i).trans gi1), fj1⟩, by rw [← hV0, ← hF]; exact (h.sub [3, 0, 1, 2] rfl rfl)⟩) dX6_goesIn_14
set_option maxHeartbeats 4000000 in
set_option maxRecDepth 100000 in
theorem metX6_strength (l : Launch) (G : xG) (hG : xGood G) (x : Int32) : xRm l G yX6_strength (Cond.code yX6_strength cX6_strength 1 (some .int)) { frames := 0, locals := 0, cells := 0, slots := 0 } [.int x] [] (some (.int (nI (strQ x)))) := by
  intro V hV
  refine xMet_of RX6 hG rfl (by decide) (Nat.le_of_ble_eq_true rfl) fun C hC hQ hX hl hg _ => ?_
  subst hl hg
  refine rn.mono (J := xRo [] V) (fun V9 h => ⟨h, hV⟩) ?_
  show rn C (xRo [] V) 0 0 0 [(0, .int x)] []
  refine r_iload_n hC 0 dX6_strength_0 rfl 1 rfl ?_
  refine r_bipush hC 25 dX6_strength_1 bp_25 3 rfl ?_
  refine r_icne hC 10 dX6_strength_3 (by decide) 6 rfl (fun c1 => ?_) (fun c1 => ?_)
  · skip
    refine r_iload_n hC 0 dX6_strength_10 rfl 11 rfl ?_
    refine r_bipush hC 24 dX6_strength_11 bp_24 13 rfl ?_
    refine r_icne hC 20 dX6_strength_13 (by decide) 16 rfl (fun c2 => ?_) (fun c2 => ?_)
    · skip
      refine r_iload_n hC 0 dX6_strength_20 rfl 21 rfl ?_
      refine r_bipush hC 23 dX6_strength_21 bp_23 23 rfl ?_
      refine r_icne hC 30 dX6_strength_23 (by decide) 26 rfl (fun c3 => ?_) (fun c3 => ?_)
      · skip
        refine r_iconst hC 0 dX6_strength_30 ic_0 31 rfl ?_
        exact r_iret hC (Nat.le_of_ble_eq_true rfl) (Nat.le_of_ble_eq_true rfl) (fun V9 h => hQ _ _ ⟨by rw [strQ, if_neg c1, if_neg c2, if_neg c3]; rfl, h.1⟩) dX6_strength_31
      · skip
        refine r_iconst hC 3 dX6_strength_26 ic_3 27 rfl ?_
        refine r_goto hC 31 dX6_strength_27 (by decide) ?_
        exact r_iret hC (Nat.le_of_ble_eq_true rfl) (Nat.le_of_ble_eq_true rfl) (fun V9 h => hQ _ _ ⟨by rw [strQ, if_neg c1, if_neg c2, if_pos c3]; rfl, h.1⟩) dX6_strength_31
    · skip
      refine r_iconst hC 2 dX6_strength_16 ic_2 17 rfl ?_
      refine r_goto hC 31 dX6_strength_17 (by decide) ?_
      exact r_iret hC (Nat.le_of_ble_eq_true rfl) (Nat.le_of_ble_eq_true rfl) (fun V9 h => hQ _ _ ⟨by rw [strQ, if_neg c1, if_pos c2]; rfl, h.1⟩) dX6_strength_31
  · skip
    refine r_iconst hC 1 dX6_strength_6 ic_1 7 rfl ?_
    refine r_goto hC 31 dX6_strength_7 (by decide) ?_
    exact r_iret hC (Nat.le_of_ble_eq_true rfl) (Nat.le_of_ble_eq_true rfl) (fun V9 h => hQ _ _ ⟨by rw [strQ, if_pos c1]; rfl, h.1⟩) dX6_strength_31
theorem str_3 (x : Int32) : strQ x ≤ 3 := by
  unfold strQ
  split
  · omega
  · split
    · omega
    · split <;> omega
set_option maxHeartbeats 4000000 in
set_option maxRecDepth 100000 in
theorem lpX6_settles {CC : xC} {F : Nat → Prop} {V0 : xV} (hG : xGood (xGG CC)) (hC : xCtx CC RX6 cX6_settles 2 none { frames := 1, locals := 21, cells := 0, slots := 0 }) (b : Nat → Nat) (i0 : Nat → Int32) (j : Nat → Int64) (bf wt : Nat → Int32) (e : Nat) (he : e ≤ 600) (ps : PS) (ho : okP ps = true) (k0 : Nat) (hk0 : 0 < k0) (hk3 : k0 ≤ 3) (R : List Int32 × List Int32) (kx : ∀ (i' : Nat → Int32) (co' : Nat → Int32), qS i' co' wt R.1 R.2 → rdP bf e i' j ps → qI i0 i' → rn CC (xSt F V0 [(b 0, .inr (5, mF b i' j)), (b 13, .inl (0, 600, .inl bf)), (b 33, .inl (0, 200, .inl co')), (b 34, .inl (0, 200, .inl wt))]) 0 0 82 [] []) : ∀ (W L : List Int32) (i co : Nat → Int32), R = setT k0 L W → L.length + W.length ≤ 200 → rdP bf e i j ps → qS i co wt L W → qI i0 i → rn CC (xSt F V0 [(b 0, .inr (5, mF b i j)), (b 13, .inl (0, 600, .inl bf)), (b 33, .inl (0, 200, .inl co)), (b 34, .inl (0, 200, .inl wt))]) 0 0 0 [(0, .ref (b 0)), (1, .int (nI k0))] [] := by
  intro W
  induction W with
  | nil =>
    intro L i co hR hb hr hq hi
    refine r_aload_n hC 0 dX6_settles_0 rfl 1 rfl ?_
    refine r_invVr hC kX6 (b 0) [] (.int 1) mVX6_isGood q2945 (fun _ h => h.get 0 rfl) (metX6_isGood _ _ hG b i _ 1 (by rw [rd_good hr, ho]; rfl)) (fun _ h => h.in.sub [0] rfl rfl) ⟨rfl, rfl⟩ 0 0 rfl rfl (Nat.le_of_ble_eq_true rfl) (Nat.le_of_ble_eq_true rfl) rfl (Nat.le_of_ble_eq_true rfl) dX6_settles_1 4 rfl ?_
    refine r_ifeq hC 82 dX6_settles_4 (by decide) 7 rfl (fun h => absurd h (by decide)) (fun _ => ?_)
    refine r_aload_n hC 0 dX6_settles_7 rfl 8 rfl ?_
    refine r_get (v := .int (i 37)) hC kX6 37 rfl q2790 (fun _ h => h.get 0 rfl) rfl dX6_settles_8 11 rfl ?_
    refine r_eqi (y := 0) (hq.2.1) ?_
    refine r_ifle hC 82 dX6_settles_11 (by decide) 14 rfl (fun _ => ?_) (fun h => absurd h (by decide))
    refine rn.sub (lv' := []) [] rfl ?_
    exact kx i co (by rw [hR]; exact hq) hr hi
  | cons x W ih =>
    intro L i co hR hb hr hq hi
    refine r_aload_n hC 0 dX6_settles_0 rfl 1 rfl ?_
    refine r_invVr hC kX6 (b 0) [] (.int 1) mVX6_isGood q2945 (fun _ h => h.get 0 rfl) (metX6_isGood _ _ hG b i _ 1 (by rw [rd_good hr, ho]; rfl)) (fun _ h => h.in.sub [0] rfl rfl) ⟨rfl, rfl⟩ 0 0 rfl rfl (Nat.le_of_ble_eq_true rfl) (Nat.le_of_ble_eq_true rfl) rfl (Nat.le_of_ble_eq_true rfl) dX6_settles_1 4 rfl ?_
    refine r_ifeq hC 82 dX6_settles_4 (by decide) 7 rfl (fun h => absurd h (by decide)) (fun _ => ?_)
    refine r_aload_n hC 0 dX6_settles_7 rfl 8 rfl ?_
    refine r_get (v := .int (i 37)) hC kX6 37 rfl q2790 (fun _ h => h.get 0 rfl) rfl dX6_settles_8 11 rfl ?_
    refine r_eqi (y := nI (W.length + 1)) (hq.2.1) ?_
    refine r_ifle hC 82 dX6_settles_11 (by decide) 14 rfl (fun h => absurd h (nI_ge (a := 0) (b := W.length + 1) (by omega) (by simp only [List.length_cons] at hb; omega))) (fun _ => ?_)
    refine r_aload_n hC 0 dX6_settles_14 rfl 15 rfl ?_
    refine r_get (v := .ref (b 34)) hC kX6 34 rfl q2787 (fun _ h => h.get 0 rfl) rfl dX6_settles_15 18 rfl ?_
    refine r_aload_n hC 0 dX6_settles_18 rfl 19 rfl ?_
    refine r_get (v := .int (i 37)) hC kX6 37 rfl q2790 (fun _ h => h.get 0 rfl) rfl dX6_settles_19 22 rfl ?_
    refine r_eqi (y := nI (W.length + 1)) (hq.2.1) ?_
    refine r_iconst hC 1 dX6_settles_22 ic_1 23 rfl ?_
    refine r_isub hC (nI W.length) dX6_settles_23  (pk_sub (a := W.length + 1) (b := 1) (by omega)) 24 rfl ?_
    refine r_iald hC W.length (xix_n W.length (by simp only [List.length_cons] at hb; omega) (Nat.le_of_ble_eq_true rfl)) (fun _ h => h.get 3 rfl) (wt W.length) (rfl) dX6_settles_24 25 rfl ?_
    refine r_eqi (y := x) (hq.2.2.2.2.1) ?_
    refine r_invSr hC [.int x] (.int (nI (strQ x))) mSX6_strength q3344 (metX6_strength _ _ hG x) (fun _ _ => xIn.nil) ⟨rfl, rfl⟩ 0 0 rfl rfl (Nat.le_of_ble_eq_true rfl) (Nat.le_of_ble_eq_true rfl) rfl (Nat.le_of_ble_eq_true rfl) dX6_settles_25 28 rfl ?_
    refine r_iload_n hC 1 dX6_settles_28 rfl 29 rfl ?_
    by_cases hk : k0 ≤ strQ x
    · skip
      refine r_iclt hC 82 dX6_settles_29 (by decide) 32 rfl (fun h => absurd h (nI_nlt (a := strQ x) (b := k0) hk (by have := str_3 x; omega))) (fun _ => ?_)
      refine r_aload_n hC 0 dX6_settles_32 rfl 33 rfl ?_
      refine r_dup hC dX6_settles_33 rfl 34 rfl ?_
      refine r_get (v := .int (i 37)) hC kX6 37 rfl q2790 (fun _ h => h.get 0 rfl) rfl dX6_settles_34 37 rfl ?_
      refine r_eqi (y := nI (W.length + 1)) (hq.2.1) ?_
      refine r_iconst hC 1 dX6_settles_37 ic_1 38 rfl ?_
      refine r_isub hC (nI W.length) dX6_settles_38  (pk_sub (a := W.length + 1) (b := 1) (by omega)) 39 rfl ?_
      refine r_put (J := xSt F V0 [(b 0, .inr (5, mF b (va_up i 37 (nI W.length)) j)), (b 13, .inl (0, 600, .inl bf)), (b 33, .inl (0, 200, .inl co)), (b 34, .inl (0, 200, .inl wt))]) hC kX6 37 rfl q2790 rfl (fun _ h => h.get 0 rfl) (Nat.le_of_ble_eq_true rfl) rfl rfl dX6_settles_39 (fun _ h => h.set 0 _ rfl) 42 rfl ?_
      refine r_aload_n hC 0 dX6_settles_42 rfl 43 rfl ?_
      refine r_aload_n hC 0 dX6_settles_43 rfl 44 rfl ?_
      refine r_get (v := .ref (b 34)) hC kX6 34 rfl q2787 (fun _ h => h.get 0 rfl) rfl dX6_settles_44 47 rfl ?_
      refine r_aload_n hC 0 dX6_settles_47 rfl 48 rfl ?_
      refine r_get (v := .int (nI W.length)) hC kX6 37 rfl q2790 (fun _ h => h.get 0 rfl) rfl dX6_settles_48 51 rfl ?_
      refine r_iald hC W.length (xix_n W.length (by simp only [List.length_cons] at hb; omega) (Nat.le_of_ble_eq_true rfl)) (fun _ h => h.get 3 rfl) (wt W.length) (rfl) dX6_settles_51 52 rfl ?_
      refine r_eqi (y := x) (hq.2.2.2.2.1) ?_
      refine r_invVw hC kX6 (b 0) [.int x] [(b 13, .inl (0, 600, .inl bf)), (b 34, .inl (0, 200, .inl wt))] mVX6_adds q3324 0 rfl (metX6_addsH _ _ hG b (va_up i 37 (nI W.length)) j co L.length (by simp only [List.length_cons] at hb; omega) x hq.1) [0, 2] [1, 3] rfl rfl rfl rfl (by decide) ⟨rfl, rfl⟩ 0 0 rfl rfl (Nat.le_of_ble_eq_true rfl) (Nat.le_of_ble_eq_true rfl) rfl (Nat.le_of_ble_eq_true rfl) dX6_settles_52 55 rfl (fun v1 w2 h3 => ?_) (fun _ _ h => h.elim)
      obtain ⟨rfl, rfl⟩ := h3
      show rn CC (xSt F V0 [(b 13, .inl (0, 600, .inl bf)), (b 34, .inl (0, 200, .inl wt)), (b 0, .inr (5, mF b (va_up (va_up i 37 (nI W.length)) 36 (nI (L.length + 1))) j)), (b 33, .inl (0, 200, .inl (va_up co L.length x)))]) 0 0 55 [(0, .ref (b 0)), (1, .int (nI k0))] []
      refine r_aload_n hC 0 dX6_settles_55 rfl 56 rfl ?_
      refine r_get (v := .ref (b 34)) hC kX6 34 rfl q2787 (fun _ h => h.get 2 rfl) rfl dX6_settles_56 59 rfl ?_
      refine r_aload_n hC 0 dX6_settles_59 rfl 60 rfl ?_
      refine r_get (v := .int (nI W.length)) hC kX6 37 rfl q2790 (fun _ h => h.get 2 rfl) rfl dX6_settles_60 63 rfl ?_
      refine r_iald hC W.length (xix_n W.length (by simp only [List.length_cons] at hb; omega) (Nat.le_of_ble_eq_true rfl)) (fun _ h => h.get 1 rfl) (wt W.length) (rfl) dX6_settles_63 64 rfl ?_
      refine r_eqi (y := x) (hq.2.2.2.2.1) ?_
      refine r_bipush hC 23 dX6_settles_64 bp_23 66 rfl ?_
      refine r_icne hC 0 dX6_settles_66 (by decide) 69 rfl (fun c4 => ?_) (fun c4 => ?_)
      · skip
        refine rn.sub (lv' := [(0, .ref (b 0)), (1, .int (nI k0))]) [0, 1] rfl ?_
        refine rn.mono (J := xSt F V0 [(b 0, .inr (5, mF b (va_up (va_up i 37 (nI W.length)) 36 (nI (L.length + 1))) j)), (b 13, .inl (0, 600, .inl bf)), (b 33, .inl (0, 200, .inl (va_up co L.length x))), (b 34, .inl (0, 200, .inl wt))]) (fun _ h => h.sub [2, 0, 3, 1] rfl rfl) ?_
        exact ih (L ++ [x]) (va_up (va_up i 37 (nI W.length)) 36 (nI (L.length + 1))) (va_up co L.length x) (by rw [hR, setT_y hk]) (by simp only [List.length_append, List.length_cons, List.length_nil] at hb ⊢; omega) (rd36 (rd37 hr)) (qS_pop hq (str_x hk0 hk c4)) ((hi.u37).u36)
      · skip
        refine r_aload_n hC 0 dX6_settles_69 rfl 70 rfl ?_
        refine r_dup hC dX6_settles_70 rfl 71 rfl ?_
        refine r_get (v := .int (i 38)) hC kX6 38 rfl q2791 (fun _ h => h.get 2 rfl) rfl dX6_settles_71 74 rfl ?_
        refine r_eqi (y := nI (opnQ W + 1)) (hq.2.2.1.trans (by rw [opnQ, if_pos (Or.inl c4)])) ?_
        refine r_iconst hC 1 dX6_settles_74 ic_1 75 rfl ?_
        refine r_isub hC (nI (opnQ W)) dX6_settles_75  (pk_sub (a := opnQ W + 1) (b := 1) (by omega)) 76 rfl ?_
        refine r_put (J := xSt F V0 [(b 13, .inl (0, 600, .inl bf)), (b 34, .inl (0, 200, .inl wt)), (b 0, .inr (5, mF b (va_up (va_up (va_up i 37 (nI W.length)) 36 (nI (L.length + 1))) 38 (nI (opnQ W))) j)), (b 33, .inl (0, 200, .inl (va_up co L.length x)))]) hC kX6 38 rfl q2791 rfl (fun _ h => h.get 2 rfl) (Nat.le_of_ble_eq_true rfl) rfl rfl dX6_settles_76 (fun _ h => h.set 2 _ rfl) 79 rfl ?_
        refine r_goto hC 0 dX6_settles_79 (by decide) ?_
        refine rn.sub (lv' := [(0, .ref (b 0)), (1, .int (nI k0))]) [0, 1] rfl ?_
        refine rn.mono (J := xSt F V0 [(b 0, .inr (5, mF b (va_up (va_up (va_up i 37 (nI W.length)) 36 (nI (L.length + 1))) 38 (nI (opnQ W))) j)), (b 13, .inl (0, 600, .inl bf)), (b 33, .inl (0, 200, .inl (va_up co L.length x))), (b 34, .inl (0, 200, .inl wt))]) (fun _ h => h.sub [2, 0, 3, 1] rfl rfl) ?_
        exact ih (L ++ [x]) (va_up (va_up (va_up i 37 (nI W.length)) 36 (nI (L.length + 1))) 38 (nI (opnQ W))) (va_up co L.length x) (by rw [hR, setT_y hk]) (by simp only [List.length_append, List.length_cons, List.length_nil] at hb ⊢; omega) (rd38 (rd36 (rd37 hr))) (qS_pop23 hq) (((hi.u37).u36).u38)
    · skip
      refine r_iclt hC 82 dX6_settles_29 (by decide) 32 rfl (fun _ => ?_) (fun h => absurd (nI_lt (a := strQ x) (b := k0) (by omega) (by omega)) h)
      refine rn.sub (lv' := []) [] rfl ?_
      exact kx i co (by rw [hR, setT_n hk]; exact hq) hr hi
set_option maxHeartbeats 4000000 in
set_option maxRecDepth 100000 in
theorem metX6_settlesG (l : Launch) (G : xG) (hG : xGood G) (b : Nat → Nat) (i : Nat → Int32) (j : Nat → Int64) (bf co wt : Nat → Int32) (e : Nat) (he : e ≤ 600) (ps : PS) (L W : List Int32) (hr : rdP bf e i j ps) (hq : qS i co wt L W) (k0 : Nat) (hk0 : 0 < k0) (hk3 : k0 ≤ 3) (ho : okP ps = true) (hb : L.length + W.length ≤ 200) : xWm l G yX6_settles (Cond.code yX6_settles cX6_settles 2 none) { frames := 1, locals := 21, cells := 0, slots := 0 } [.ref (b 0), .int (nI k0)] [(b 0, .inr (5, mF b i j)), (b 13, .inl (0, 600, .inl bf)), (b 33, .inl (0, 200, .inl co)), (b 34, .inl (0, 200, .inl wt))] (fun v w' => v = none ∧ ∃ (i' : Nat → Int32) (j' : Nat → Int64) (co' wt' : Nat → Int32), w' = [(b 0, .inr (5, mF b i' j')), (b 13, .inl (0, 600, .inl bf)), (b 33, .inl (0, 200, .inl co')), (b 34, .inl (0, 200, .inl wt'))] ∧ rdP bf e i' j' (ps) ∧ qS i' co' wt' ((setT k0 L W).1) ((setT k0 L W).2) ∧ qI i i' ∧ fJ j j') (fun _ _ => False) := by
  intro V hV
  refine xMet_of RX6 hG rfl (by decide) (Nat.le_of_ble_eq_true rfl) fun C hC hQ hX hl hg _ => ?_
  subst hl hg
  obtain ⟨V0, hV0⟩ : ∃ V0, V0 = V := ⟨_, rfl⟩
  obtain ⟨F, hF⟩ : ∃ F, F = xF [(b 0, .inr (5, mF b i j)), (b 13, .inl (0, 600, .inl bf)), (b 33, .inl (0, 200, .inl co)), (b 34, .inl (0, 200, .inl wt))] := ⟨_, rfl⟩
  refine rn.mono (J := xSt F V0 [(b 0, .inr (5, mF b i j)), (b 13, .inl (0, 600, .inl bf)), (b 33, .inl (0, 200, .inl co)), (b 34, .inl (0, 200, .inl wt))]) (fun V9 h => by rw [h, hV0, hF]; exact hV.st) ?_
  show rn C (xSt F V0 [(b 0, .inr (5, mF b i j)), (b 13, .inl (0, 600, .inl bf)), (b 33, .inl (0, 200, .inl co)), (b 34, .inl (0, 200, .inl wt))]) 0 0 0 [(0, .ref (b 0)), (1, .int (nI k0))] []
  refine lpX6_settles hG hC b i j bf wt e he ps ho k0 hk0 hk3 (setT k0 L W) (fun i9 co9 hq9 hr9 hi9 => ?_) W L i co rfl hb hr hq (qI_refl i)
  exact r_vret hC (Nat.le_of_ble_eq_true rfl) (Nat.le_of_ble_eq_true rfl) (fun V9 h => hQ _ _ ⟨[(b 0, .inr (5, mF b i9 j)), (b 13, .inl (0, 600, .inl bf)), (b 33, .inl (0, 200, .inl co9)), (b 34, .inl (0, 200, .inl wt))], ⟨rfl, _, _, _, _, rfl, hr9, hq9, hi9, (fJ_refl j)⟩, by rw [← hV0, ← hF]; exact h⟩) dX6_settles_82
set_option maxHeartbeats 4000000 in
set_option maxRecDepth 100000 in
theorem metX6_settlesB (l : Launch) (G : xG) (hG : xGood G) (b : Nat → Nat) (i : Nat → Int32) (j : Nat → Int64) (bf co wt : Nat → Int32) (e : Nat) (he : e ≤ 600) (ps : PS) (L W : List Int32) (hr : rdP bf e i j ps) (hq : qS i co wt L W) (k0 : Nat) (hk0 : 0 < k0) (hk3 : k0 ≤ 3) (ho : okP ps = false) : xWm l G yX6_settles (Cond.code yX6_settles cX6_settles 2 none) { frames := 1, locals := 21, cells := 0, slots := 0 } [.ref (b 0), .int (nI k0)] [(b 0, .inr (5, mF b i j)), (b 13, .inl (0, 600, .inl bf)), (b 33, .inl (0, 200, .inl co)), (b 34, .inl (0, 200, .inl wt))] (fun v w' => v = none ∧ ∃ (i' : Nat → Int32) (j' : Nat → Int64) (co' wt' : Nat → Int32), w' = [(b 0, .inr (5, mF b i' j')), (b 13, .inl (0, 600, .inl bf)), (b 33, .inl (0, 200, .inl co')), (b 34, .inl (0, 200, .inl wt'))] ∧ rdP bf e i' j' (ps) ∧ qS i' co' wt' (L) (W) ∧ qI i i' ∧ fJ j j') (fun _ _ => False) := by
  intro V hV
  refine xMet_of RX6 hG rfl (by decide) (Nat.le_of_ble_eq_true rfl) fun C hC hQ hX hl hg _ => ?_
  subst hl hg
  obtain ⟨V0, hV0⟩ : ∃ V0, V0 = V := ⟨_, rfl⟩
  obtain ⟨F, hF⟩ : ∃ F, F = xF [(b 0, .inr (5, mF b i j)), (b 13, .inl (0, 600, .inl bf)), (b 33, .inl (0, 200, .inl co)), (b 34, .inl (0, 200, .inl wt))] := ⟨_, rfl⟩
  refine rn.mono (J := xSt F V0 [(b 0, .inr (5, mF b i j)), (b 13, .inl (0, 600, .inl bf)), (b 33, .inl (0, 200, .inl co)), (b 34, .inl (0, 200, .inl wt))]) (fun V9 h => by rw [h, hV0, hF]; exact hV.st) ?_
  show rn C (xSt F V0 [(b 0, .inr (5, mF b i j)), (b 13, .inl (0, 600, .inl bf)), (b 33, .inl (0, 200, .inl co)), (b 34, .inl (0, 200, .inl wt))]) 0 0 0 [(0, .ref (b 0)), (1, .int (nI k0))] []
  refine r_aload_n hC 0 dX6_settles_0 rfl 1 rfl ?_
  refine r_invVr hC kX6 (b 0) [] (.int 0) mVX6_isGood q2945 (fun _ h => h.get 0 rfl) (metX6_isGood _ _ hG b i _ 0 (by rw [rd_good hr, ho]; rfl)) (fun _ h => h.in.sub [0] rfl rfl) ⟨rfl, rfl⟩ 0 0 rfl rfl (Nat.le_of_ble_eq_true rfl) (Nat.le_of_ble_eq_true rfl) rfl (Nat.le_of_ble_eq_true rfl) dX6_settles_1 4 rfl ?_
  refine r_ifeq hC 82 dX6_settles_4 (by decide) 7 rfl (fun _ => ?_) (fun h => absurd h (by decide))
  exact r_vret hC (Nat.le_of_ble_eq_true rfl) (Nat.le_of_ble_eq_true rfl) (fun V9 h => hQ _ _ ⟨[(b 0, .inr (5, mF b i j)), (b 13, .inl (0, 600, .inl bf)), (b 33, .inl (0, 200, .inl co)), (b 34, .inl (0, 200, .inl wt))], ⟨rfl, _, _, _, _, rfl, hr, hq, (qI_refl i), (fJ_refl j)⟩, by rw [← hV0, ← hF]; exact h⟩) dX6_settles_82
set_option maxHeartbeats 4000000 in
set_option maxRecDepth 100000 in
theorem lpX6_isInside {CC : xC} {V : xV} {rm : Room} (hC : xCtx CC RX6 cX6_isInside 2 (some .boolean) rm) (b : Nat → Nat) (i : Nat → Int32) (j : Nat → Int64) (bf co wt : Nat → Int32) (L W : List Int32) (hq : qS i co wt L W) (hW : W.length ≤ 200) (kA : (∃ k, k < W.length ∧ wt k = 1) → rn CC (xRo [(b 0, .inr (5, mF b i j)), (b 13, .inl (0, 600, .inl bf)), (b 33, .inl (0, 200, .inl co)), (b 34, .inl (0, 200, .inl wt))] V) 0 0 20 [] []) (kB : (∀ k, k < W.length → ¬ wt k = 1) → rn CC (xRo [(b 0, .inr (5, mF b i j)), (b 13, .inl (0, 600, .inl bf)), (b 33, .inl (0, 200, .inl co)), (b 34, .inl (0, 200, .inl wt))] V) 0 0 28 [] []) : ∀ f c : Nat, c + f = W.length → (∀ k, k < c → ¬ wt k = 1) → rn CC (xRo [(b 0, .inr (5, mF b i j)), (b 13, .inl (0, 600, .inl bf)), (b 33, .inl (0, 200, .inl co)), (b 34, .inl (0, 200, .inl wt))] V) 0 0 2 [(1, .int (nI c)), (0, .ref (b 0))] [] := by
  intro f
  induction f with
  | zero =>
    intro c hc hn
    refine r_iload_n hC 0 dX6_isInside_2 rfl 3 rfl ?_
    refine r_aload_n hC 1 dX6_isInside_3 rfl 4 rfl ?_
    refine r_get (v := .int (i 37)) hC kX6 37 rfl q2790 (fun _ h => h.get 0 rfl) rfl dX6_isInside_4 7 rfl ?_
    refine r_eqi (y := nI W.length) (hq.2.1) ?_
    refine r_icge hC 28 dX6_isInside_7 (by decide) 10 rfl (fun _ => ?_) (fun h => absurd (nI_le (by omega) (by omega)) h)
    refine rn.sub (lv' := []) [] rfl ?_
    exact kB (fun k9 hk9 => hn k9 (by omega))
  | succ f ih =>
    intro c hc hn
    refine r_iload_n hC 0 dX6_isInside_2 rfl 3 rfl ?_
    refine r_aload_n hC 1 dX6_isInside_3 rfl 4 rfl ?_
    refine r_get (v := .int (i 37)) hC kX6 37 rfl q2790 (fun _ h => h.get 0 rfl) rfl dX6_isInside_4 7 rfl ?_
    refine r_eqi (y := nI W.length) (hq.2.1) ?_
    refine r_icge hC 28 dX6_isInside_7 (by decide) 10 rfl (fun h => absurd h (nI_ge (by omega) (by omega))) (fun _ => ?_)
    refine r_aload_n hC 1 dX6_isInside_10 rfl 11 rfl ?_
    refine r_get (v := .ref (b 34)) hC kX6 34 rfl q2787 (fun _ h => h.get 0 rfl) rfl dX6_isInside_11 14 rfl ?_
    refine r_iload_n hC 0 dX6_isInside_14 rfl 15 rfl ?_
    refine r_iald hC c (xix_n c (by omega) (Nat.le_of_ble_eq_true rfl)) (fun _ h => h.get 3 rfl) (wt c) (rfl) dX6_isInside_15 16 rfl ?_
    refine r_iconst hC 1 dX6_isInside_16 ic_1 17 rfl ?_
    refine r_icne hC 22 dX6_isInside_17 (by decide) 20 rfl (fun c1 => ?_) (fun c1 => ?_)
    · skip
      refine r_iinc hC (nI (c + 1)) 1 0 [(1, .int (nI (c + 1))), (0, .ref (b 0))] dX6_isInside_22 rfl (nI_add c 1) (Nat.le_of_ble_eq_true rfl) rfl 25 rfl ?_
      refine r_goto hC 2 dX6_isInside_25 (by decide) ?_
      refine rn.sub (lv' := [(1, .int (nI (c + 1))), (0, .ref (b 0))]) [0, 1] rfl ?_
      exact ih (c + 1) (by omega) (fun k9 hk9 h9 => if h8 : k9 = c then c1 (h8 ▸ h9) else hn k9 (by omega) h9)
    · skip
      refine rn.sub (lv' := []) [] rfl ?_
      exact kA ⟨c, by omega, c1⟩
set_option maxHeartbeats 4000000 in
set_option maxRecDepth 100000 in
theorem metX6_isInside (l : Launch) (G : xG) (hG : xGood G) (b : Nat → Nat) (i : Nat → Int32) (j : Nat → Int64) (bf co wt : Nat → Int32) (L W : List Int32) (hq : qS i co wt L W) (hW : W.length ≤ 200) : xRm l G yX6_isInside (Cond.code yX6_isInside cX6_isInside 2 (some .boolean)) { frames := 0, locals := 0, cells := 0, slots := 0 } [.ref (b 0)] [(b 0, .inr (5, mF b i j)), (b 13, .inl (0, 600, .inl bf)), (b 33, .inl (0, 200, .inl co)), (b 34, .inl (0, 200, .inl wt))] (some (.int (bI (insQ W)))) := by
  intro V hV
  refine xMet_of RX6 hG rfl (by decide) (Nat.le_of_ble_eq_true rfl) fun C hC hQ hX hl hg _ => ?_
  subst hl hg
  refine rn.mono (J := xRo [(b 0, .inr (5, mF b i j)), (b 13, .inl (0, 600, .inl bf)), (b 33, .inl (0, 200, .inl co)), (b 34, .inl (0, 200, .inl wt))] V) (fun V9 h => ⟨h, hV⟩) ?_
  show rn C (xRo [(b 0, .inr (5, mF b i j)), (b 13, .inl (0, 600, .inl bf)), (b 33, .inl (0, 200, .inl co)), (b 34, .inl (0, 200, .inl wt))] V) 0 0 0 [(0, .ref (b 0))] []
  refine r_iconst hC 0 dX6_isInside_0 ic_0 1 rfl ?_
  refine r_istore_n hC 1 [(1, .int 0), (0, .ref (b 0))] dX6_isInside_1 rfl (Nat.le_of_ble_eq_true rfl) rfl 2 rfl ?_
  refine rn.sub (lv' := [(1, .int 0), (0, .ref (b 0))]) [0, 1] rfl ?_
  refine lpX6_isInside hC b i j bf co wt L W hq hW (fun h9 => ?_) (fun h9 => ?_) W.length 0 (by omega) (fun k9 hk9 => absurd hk9 (by omega))
  · skip
    refine r_iconst hC 1 dX6_isInside_20 ic_1 21 rfl ?_
    exact r_zret hC (by decide) (Nat.le_of_ble_eq_true rfl) (Nat.le_of_ble_eq_true rfl) (fun V9 h => hQ _ _ ⟨by rw [(stR_ins hq.2.2.2.2).mp h9]; rfl, h.1⟩) dX6_isInside_21
  · skip
    refine r_iconst hC 0 dX6_isInside_28 ic_0 29 rfl ?_
    exact r_zret hC (by decide) (Nat.le_of_ble_eq_true rfl) (Nat.le_of_ble_eq_true rfl) (fun V9 h => hQ _ _ ⟨by rw [show insQ W = false from Bool.eq_false_iff.mpr fun h8 => by obtain ⟨k, h7, h6⟩ := (stR_ins hq.2.2.2.2).mpr h8; exact h9 k h7 h6]; rfl, h.1⟩) dX6_isInside_29
