/-! ===== the reference: recurs ===== -/
set_option maxRecDepth 100000
def recL (t r : Nat → Int64) (re : Bool) : Nat → Nat → (Nat → Int64) → Int32
  | 0, _, _ => -1
  | f + 1, c, q => match stepQ t q false with
    | none => -1
    | some q1 => if backQ q1 r re = true then nI c else recL t r re f (c + 1) q1
set_option maxHeartbeats 4000000 in
set_option maxRecDepth 100000 in
theorem lpX6_recurs1 {C : xC} {F : Nat → Prop} {V0 : xV} (hG : xGood (xGG C)) (hC : xCtx C RX6 cX6_recurs 4 (some .int) { frames := 7, locals := 178, cells := 0, slots := 0 }) (N : Nat) (hN : N ≤ 500) (b : Nat → Nat) (i : Nat → Int32) (j : Nat → Int64) (t r : Nat → Int64) (ht : tOK t) (R : Int32) (kA : ∀ q' g' h' : Nat → Int64, R = -1 → rn C (xSt F V0 [(b 0, .inr (5, mF b i j)), (b 7, .inl (1, 5, .inr (.inl t))), (b 1, .inl (1, 111, .inr (.inl r))), (b 2, .inl (1, 111, .inr (.inl q'))), (b 23, .inl (1, 6, .inr (.inl g'))), (b 24, .inl (1, 21, .inr (.inl h')))]) 0 0 54 [] []) (kB : ∀ (d : Nat) (q' g' h' : Nat → Int64), R = nI d → rn C (xSt F V0 [(b 0, .inr (5, mF b i j)), (b 7, .inl (1, 5, .inr (.inl t))), (b 1, .inl (1, 111, .inr (.inl r))), (b 2, .inl (1, 111, .inr (.inl q'))), (b 23, .inl (1, 6, .inr (.inl g'))), (b 24, .inl (1, 21, .inr (.inl h')))]) 0 0 64 [(3, .int (nI d))] []) (kC : ∀ q' g' h' : Nat → Int64, R = -1 → rn C (xSt F V0 [(b 0, .inr (5, mF b i j)), (b 7, .inl (1, 5, .inr (.inl t))), (b 1, .inl (1, 111, .inr (.inl r))), (b 2, .inl (1, 111, .inr (.inl q'))), (b 23, .inl (1, 6, .inr (.inl g'))), (b 24, .inl (1, 21, .inr (.inl h')))]) 0 0 72 [] []) : ∀ (f c : Nat) (q g h0 : Nat → Int64), (c + f = N + 1 ∧ 0 < c) → mOK q → R = recL t r true f c q → rn C (xSt F V0 [(b 0, .inr (5, mF b i j)), (b 7, .inl (1, 5, .inr (.inl t))), (b 1, .inl (1, 111, .inr (.inl r))), (b 2, .inl (1, 111, .inr (.inl q))), (b 23, .inl (1, 6, .inr (.inl g))), (b 24, .inl (1, 21, .inr (.inl h0)))]) 0 0 37 [(3, .int (nI c)), (0, .ref (b 0)), (1, .int 1), (2, .int (nI N))] [] := by
  intro f
  induction f with
  | zero =>
    intro c q g h0 hc hm hR
    refine r_iload_n hC 0 dX6_recurs_37 rfl 38 rfl ?_
    refine r_iload_n hC 3 dX6_recurs_38 rfl 39 rfl ?_
    refine r_icgt hC 72 dX6_recurs_39 (by decide) 42 rfl (fun _ => ?_) (fun h => absurd (nI_lt (by omega) (by omega)) h)
    refine rn.sub (lv' := []) [] rfl ?_
    refine rn.mono (J := xSt F V0 [(b 0, .inr (5, mF b i j)), (b 7, .inl (1, 5, .inr (.inl t))), (b 1, .inl (1, 111, .inr (.inl r))), (b 2, .inl (1, 111, .inr (.inl q))), (b 23, .inl (1, 6, .inr (.inl g))), (b 24, .inl (1, 21, .inr (.inl h0)))]) (fun _ h => h.sub [0, 1, 2, 3, 4, 5] rfl rfl) ?_
    exact kC _ _ _ (by rw [hR, recL])
  | succ f ih =>
    intro c q g h0 hc hm hR
    refine r_iload_n hC 0 dX6_recurs_37 rfl 38 rfl ?_
    refine r_iload_n hC 3 dX6_recurs_38 rfl 39 rfl ?_
    refine r_icgt hC 72 dX6_recurs_39 (by decide) 42 rfl (fun h => absurd h (nI_nlt (by omega) (by omega))) (fun _ => ?_)
    refine r_aload_n hC 1 dX6_recurs_42 rfl 43 rfl ?_
    refine r_aload_n hC 1 dX6_recurs_43 rfl 44 rfl ?_
    refine r_get (v := .ref (b 2)) hC kX6 2 rfl q2755 (fun _ h => h.get 0 rfl) rfl dX6_recurs_44 47 rfl ?_
    refine r_iconst hC 0 dX6_recurs_47 ic_0 48 rfl ?_
    cases ho : stepQ t q false with
    | none =>
      refine r_invVw hC kX6 (b 0) [.ref (b 2), .int 0] [(b 1, .inl (1, 111, .inr (.inl r)))] mVX6_steps q3078 0 rfl (metX6_steps0N _ _ hG b _ _ _ (b 2) _ _ _ ht hm ho) [0, 1, 3, 4, 5] [2] rfl rfl rfl rfl (by decide) ⟨rfl, rfl⟩ 0 0 rfl rfl (Nat.le_of_ble_eq_true rfl) (Nat.le_of_ble_eq_true rfl) rfl (Nat.le_of_ble_eq_true rfl) dX6_recurs_48 51 rfl (fun v3 w4 h5 => ?_) (fun _ _ h => h.elim)
      obtain ⟨g1, h2, rfl, rfl⟩ := h5
      show rn C (xSt F V0 [(b 1, .inl (1, 111, .inr (.inl r))), (b 0, .inr (5, mF b i j)), (b 7, .inl (1, 5, .inr (.inl t))), (b 2, .inl (1, 111, .inr (.inl q))), (b 23, .inl (1, 6, .inr (.inl g1))), (b 24, .inl (1, 21, .inr (.inl h2)))]) 0 0 51 [(3, .int (nI c)), (0, .ref (b 0)), (1, .int 1), (2, .int (nI N))] [.int 0]
      refine r_ifne hC 56 dX6_recurs_51 (by decide) 54 rfl (fun h => absurd h (by decide)) (fun _ => ?_)
      refine rn.sub (lv' := []) [] rfl ?_
      refine rn.mono (J := xSt F V0 [(b 0, .inr (5, mF b i j)), (b 7, .inl (1, 5, .inr (.inl t))), (b 1, .inl (1, 111, .inr (.inl r))), (b 2, .inl (1, 111, .inr (.inl q))), (b 23, .inl (1, 6, .inr (.inl g1))), (b 24, .inl (1, 21, .inr (.inl h2)))]) (fun _ h => h.sub [1, 2, 0, 3, 4, 5] rfl rfl) ?_
      exact kA _ _ _ (by rw [hR, recL, ho])
    | some r1 =>
      refine r_invVw hC kX6 (b 0) [.ref (b 2), .int 0] [(b 1, .inl (1, 111, .inr (.inl r)))] mVX6_steps q3078 0 rfl (metX6_steps0S _ _ hG b _ _ _ (b 2) _ _ _ ht hm r1 ho) [0, 1, 3, 4, 5] [2] rfl rfl rfl rfl (by decide) ⟨rfl, rfl⟩ 0 0 rfl rfl (Nat.le_of_ble_eq_true rfl) (Nat.le_of_ble_eq_true rfl) rfl (Nat.le_of_ble_eq_true rfl) dX6_recurs_48 51 rfl (fun v8 w9 h10 => ?_) (fun _ _ h => h.elim)
      obtain ⟨g6, h7, rfl, rfl⟩ := h10
      show rn C (xSt F V0 [(b 1, .inl (1, 111, .inr (.inl r))), (b 0, .inr (5, mF b i j)), (b 7, .inl (1, 5, .inr (.inl t))), (b 2, .inl (1, 111, .inr (.inl r1))), (b 23, .inl (1, 6, .inr (.inl g6))), (b 24, .inl (1, 21, .inr (.inl h7)))]) 0 0 51 [(3, .int (nI c)), (0, .ref (b 0)), (1, .int 1), (2, .int (nI N))] [.int 1]
      refine r_ifne hC 56 dX6_recurs_51 (by decide) 54 rfl (fun _ => ?_) (fun h => absurd h (by decide))
      refine r_aload_n hC 1 dX6_recurs_56 rfl 57 rfl ?_
      refine r_iload_n hC 2 dX6_recurs_57 rfl 58 rfl ?_
      refine r_invVr hC kX6 (b 0) [.int 1] (.int (bI (backQ r1 r true))) mVX6_isBack q3253 (fun _ h => h.get 1 rfl) (metX6_isBack1 _ _ hG b _ _ r1 r _ (congrArg bI back_1.symm)) (fun _ h => h.in.sub [1, 3, 0] rfl rfl) ⟨rfl, rfl⟩ 0 0 rfl rfl (Nat.le_of_ble_eq_true rfl) (Nat.le_of_ble_eq_true rfl) rfl (Nat.le_of_ble_eq_true rfl) dX6_recurs_58 61 rfl ?_
      refine r_ifeq hC 66 dX6_recurs_61 (by decide) 64 rfl (fun c11 => ?_) (fun c11 => ?_)
      · skip
        refine r_iinc hC (nI (c + 1)) 3 0 [(3, .int (nI (c + 1))), (0, .ref (b 0)), (1, .int 1), (2, .int (nI N))] dX6_recurs_66 rfl (nI_add c 1) (Nat.le_of_ble_eq_true rfl) rfl 69 rfl ?_
        refine r_goto hC 37 dX6_recurs_69 (by decide) ?_
        refine rn.sub (lv' := [(3, .int (nI (c + 1))), (0, .ref (b 0)), (1, .int 1), (2, .int (nI N))]) [0, 1, 2, 3] rfl ?_
        refine rn.mono (J := xSt F V0 [(b 0, .inr (5, mF b i j)), (b 7, .inl (1, 5, .inr (.inl t))), (b 1, .inl (1, 111, .inr (.inl r))), (b 2, .inl (1, 111, .inr (.inl r1))), (b 23, .inl (1, 6, .inr (.inl g6))), (b 24, .inl (1, 21, .inr (.inl h7)))]) (fun _ h => h.sub [1, 2, 0, 3, 4, 5] rfl rfl) ?_
        exact ih (c + 1) r1 g6 h7 (by omega) (stepQ_mOK hm ho) (by rw [hR, recL, ho]; exact if_neg (by rw [bI_0.mp c11]; decide))
      · skip
        refine rn.sub (lv' := [(3, .int (nI c))]) [0] rfl ?_
        refine rn.mono (J := xSt F V0 [(b 0, .inr (5, mF b i j)), (b 7, .inl (1, 5, .inr (.inl t))), (b 1, .inl (1, 111, .inr (.inl r))), (b 2, .inl (1, 111, .inr (.inl r1))), (b 23, .inl (1, 6, .inr (.inl g6))), (b 24, .inl (1, 21, .inr (.inl h7)))]) (fun _ h => h.sub [1, 2, 0, 3, 4, 5] rfl rfl) ?_
        exact kB _ _ _ _ (by rw [hR, recL, ho]; exact if_pos (bI_n0.mp c11))
set_option maxHeartbeats 4000000 in
set_option maxRecDepth 100000 in
theorem metX6_recursG1 (l : Launch) (G : xG) (hG : xGood G) (b : Nat → Nat) (i : Nat → Int32) (j : Nat → Int64) (t r th g h0 : Nat → Int64) (N : Nat) (ht : tOK t) (hm : mOK r) (hN : N ≤ 500) (hN1 : 1 ≤ N) : xWm l G yX6_recurs (Cond.code yX6_recurs cX6_recurs 4 (some .int)) { frames := 7, locals := 178, cells := 0, slots := 0 } [.ref (b 0), .int 1, .int (nI N)] [(b 0, .inr (5, mF b i j)), (b 7, .inl (1, 5, .inr (.inl t))), (b 1, .inl (1, 111, .inr (.inl r))), (b 2, .inl (1, 111, .inr (.inl th))), (b 23, .inl (1, 6, .inr (.inl g))), (b 24, .inl (1, 21, .inr (.inl h0)))] (fun v w' => ∃ th' g' h' : Nat → Int64, v = some (.int (recL t r true N 1 r)) ∧ w' = [(b 0, .inr (5, mF b (va_up i 0 0) j)), (b 7, .inl (1, 5, .inr (.inl t))), (b 1, .inl (1, 111, .inr (.inl r))), (b 2, .inl (1, 111, .inr (.inl th'))), (b 23, .inl (1, 6, .inr (.inl g'))), (b 24, .inl (1, 21, .inr (.inl h')))]) (fun _ _ => False) := by
  intro V hV
  refine xMet_of RX6 hG rfl (by decide) (Nat.le_of_ble_eq_true rfl) fun C hC hQ hX hl hg _ => ?_
  subst hl hg
  obtain ⟨V0, hV0⟩ : ∃ V0, V0 = V := ⟨_, rfl⟩
  obtain ⟨F, hF⟩ : ∃ F, F = xF [(b 0, .inr (5, mF b i j)), (b 7, .inl (1, 5, .inr (.inl t))), (b 1, .inl (1, 111, .inr (.inl r))), (b 2, .inl (1, 111, .inr (.inl th))), (b 23, .inl (1, 6, .inr (.inl g))), (b 24, .inl (1, 21, .inr (.inl h0)))] := ⟨_, rfl⟩
  refine rn.mono (J := xSt F V0 [(b 0, .inr (5, mF b i j)), (b 7, .inl (1, 5, .inr (.inl t))), (b 1, .inl (1, 111, .inr (.inl r))), (b 2, .inl (1, 111, .inr (.inl th))), (b 23, .inl (1, 6, .inr (.inl g))), (b 24, .inl (1, 21, .inr (.inl h0)))]) (fun V9 h => by rw [h, hV0, hF]; exact hV.st) ?_
  show rn C (xSt F V0 [(b 0, .inr (5, mF b i j)), (b 7, .inl (1, 5, .inr (.inl t))), (b 1, .inl (1, 111, .inr (.inl r))), (b 2, .inl (1, 111, .inr (.inl th))), (b 23, .inl (1, 6, .inr (.inl g))), (b 24, .inl (1, 21, .inr (.inl h0)))]) 0 0 0 [(0, .ref (b 0)), (1, .int 1), (2, .int (nI N))] []
  refine r_aload_n hC 0 dX6_recurs_0 rfl 1 rfl ?_
  refine r_iconst hC 0 dX6_recurs_1 ic_0 2 rfl ?_
  refine r_put (J := xSt F V0 [(b 0, .inr (5, mF b (va_up i 0 0) j)), (b 7, .inl (1, 5, .inr (.inl t))), (b 1, .inl (1, 111, .inr (.inl r))), (b 2, .inl (1, 111, .inr (.inl th))), (b 23, .inl (1, 6, .inr (.inl g))), (b 24, .inl (1, 21, .inr (.inl h0)))]) hC kX6 0 rfl q2753 rfl (fun _ h => h.get 0 rfl) (Nat.le_of_ble_eq_true rfl) rfl rfl dX6_recurs_2 (fun _ h => h.set 0 _ rfl) 5 rfl ?_
  refine r_aload_n hC 0 dX6_recurs_5 rfl 6 rfl ?_
  refine r_iload_n hC 2 dX6_recurs_6 rfl 7 rfl ?_
  refine r_i2l hC ((nI N).toInt64) dX6_recurs_7 (rfl) 8 rfl ?_
  refine r_lconst hC 1 dX6_recurs_8 lc_1 9 rfl ?_
  refine r_ldc2 hC q3065 dX6_recurs_9 12 rfl ?_
  refine r_invSr hC [.long ((nI N).toInt64), .long 1, .long 500] (.int 1) mSX6_in q2891 (metX6_inB _ _ hG ((nI N).toInt64) 1 500 1 (in_lo (L := 1) (N := 500) (by omega) (by omega) rfl rfl (by decide))) (fun _ _ => xIn.nil) ⟨rfl, rfl⟩ 0 0 rfl rfl (Nat.le_of_ble_eq_true rfl) (Nat.le_of_ble_eq_true rfl) rfl (Nat.le_of_ble_eq_true rfl) dX6_recurs_12 15 rfl ?_
  refine r_iconst hC 1 dX6_recurs_15 ic_1 16 rfl ?_
  refine r_invVr hC kX6 (b 0) [.int 1, .int 1] (.int 0) mVX6_fails q2894 (fun _ h => h.get 0 rfl) (metX6_fails1 _ _ hG b _ _ 1) (fun _ h => h.in.sub [0] rfl rfl) ⟨rfl, rfl⟩ 0 0 rfl rfl (Nat.le_of_ble_eq_true rfl) (Nat.le_of_ble_eq_true rfl) rfl (Nat.le_of_ble_eq_true rfl) dX6_recurs_16 19 rfl ?_
  refine r_ifeq hC 24 dX6_recurs_19 (by decide) 22 rfl (fun _ => ?_) (fun h => absurd h (by decide))
  refine r_aload_n hC 0 dX6_recurs_24 rfl 25 rfl ?_
  refine r_get (v := .ref (b 1)) hC kX6 1 rfl q2754 (fun _ h => h.get 0 rfl) rfl dX6_recurs_25 28 rfl ?_
  refine r_aload_n hC 0 dX6_recurs_28 rfl 29 rfl ?_
  refine r_get (v := .ref (b 2)) hC kX6 2 rfl q2755 (fun _ h => h.get 0 rfl) rfl dX6_recurs_29 32 rfl ?_
  refine r_invSw hC [.ref (b 1), .ref (b 2)] [(b 0, .inr (5, mF b (va_up i 0 0) j)), (b 7, .inl (1, 5, .inr (.inl t))), (b 23, .inl (1, 6, .inr (.inl g))), (b 24, .inl (1, 21, .inr (.inl h0)))] mSX6_copy q2718 (metX6_copy _ _ hG (b 1) (b 2) _ _) [2, 3] [0, 1, 4, 5] rfl rfl rfl rfl (by decide) ⟨rfl, rfl⟩ 0 0 rfl rfl (Nat.le_of_ble_eq_true rfl) (Nat.le_of_ble_eq_true rfl) rfl (Nat.le_of_ble_eq_true rfl) dX6_recurs_32 35 rfl (fun v1 w2 h3 => ?_) (fun _ _ h => h.elim)
  obtain ⟨rfl, rfl⟩ := h3
  show rn C (xSt F V0 [(b 0, .inr (5, mF b (va_up i 0 0) j)), (b 7, .inl (1, 5, .inr (.inl t))), (b 23, .inl (1, 6, .inr (.inl g))), (b 24, .inl (1, 21, .inr (.inl h0))), (b 1, .inl (1, 111, .inr (.inl r))), (b 2, .inl (1, 111, .inr (.inl r)))]) 0 0 35 [(0, .ref (b 0)), (1, .int 1), (2, .int (nI N))] []
  refine r_iconst hC 1 dX6_recurs_35 ic_1 36 rfl ?_
  refine r_istore_n hC 3 [(3, .int 1), (0, .ref (b 0)), (1, .int 1), (2, .int (nI N))] dX6_recurs_36 rfl (Nat.le_of_ble_eq_true rfl) rfl 37 rfl ?_
  refine rn.mono (J := xSt F V0 [(b 0, .inr (5, mF b (va_up i 0 0) j)), (b 7, .inl (1, 5, .inr (.inl t))), (b 1, .inl (1, 111, .inr (.inl r))), (b 2, .inl (1, 111, .inr (.inl r))), (b 23, .inl (1, 6, .inr (.inl g))), (b 24, .inl (1, 21, .inr (.inl h0)))]) (fun _ h => h.sub [0, 1, 4, 5, 2, 3] rfl rfl) ?_
  refine rn.sub (lv' := [(3, .int 1), (0, .ref (b 0)), (1, .int 1), (2, .int (nI N))]) [0, 1, 2, 3] rfl ?_
  refine lpX6_recurs1 hG hC N hN b (va_up i 0 0) j t r ht (recL t r true N 1 r) (fun q9 g9 h9 e9 => ?_) (fun d q9 g9 h9 e9 => ?_) (fun q9 g9 h9 e9 => ?_) N 1 r g h0 (by omega) hm rfl
  ·
    refine r_iconst hC (-1) dX6_recurs_54 ic_m1 55 rfl ?_
    exact r_iret hC (Nat.le_of_ble_eq_true rfl) (Nat.le_of_ble_eq_true rfl) (fun V9 h => hQ _ _ ⟨[(b 0, .inr (5, mF b (va_up i 0 0) j)), (b 7, .inl (1, 5, .inr (.inl t))), (b 1, .inl (1, 111, .inr (.inl r))), (b 2, .inl (1, 111, .inr (.inl q9))), (b 23, .inl (1, 6, .inr (.inl g9))), (b 24, .inl (1, 21, .inr (.inl h9)))], ⟨q9, g9, h9, by rw [e9], rfl⟩, by rw [← hV0, ← hF]; exact h⟩) dX6_recurs_55
  ·
    refine r_iload_n hC 0 dX6_recurs_64 rfl 65 rfl ?_
    exact r_iret hC (Nat.le_of_ble_eq_true rfl) (Nat.le_of_ble_eq_true rfl) (fun V9 h => hQ _ _ ⟨[(b 0, .inr (5, mF b (va_up i 0 0) j)), (b 7, .inl (1, 5, .inr (.inl t))), (b 1, .inl (1, 111, .inr (.inl r))), (b 2, .inl (1, 111, .inr (.inl q9))), (b 23, .inl (1, 6, .inr (.inl g9))), (b 24, .inl (1, 21, .inr (.inl h9)))], ⟨q9, g9, h9, by rw [e9], rfl⟩, by rw [← hV0, ← hF]; exact h⟩) dX6_recurs_65
  ·
    refine r_iconst hC (-1) dX6_recurs_72 ic_m1 73 rfl ?_
    exact r_iret hC (Nat.le_of_ble_eq_true rfl) (Nat.le_of_ble_eq_true rfl) (fun V9 h => hQ _ _ ⟨[(b 0, .inr (5, mF b (va_up i 0 0) j)), (b 7, .inl (1, 5, .inr (.inl t))), (b 1, .inl (1, 111, .inr (.inl r))), (b 2, .inl (1, 111, .inr (.inl q9))), (b 23, .inl (1, 6, .inr (.inl g9))), (b 24, .inl (1, 21, .inr (.inl h9)))], ⟨q9, g9, h9, by rw [e9], rfl⟩, by rw [← hV0, ← hF]; exact h⟩) dX6_recurs_73
set_option maxHeartbeats 4000000 in
set_option maxRecDepth 100000 in
theorem lpX6_recurs0 {C : xC} {F : Nat → Prop} {V0 : xV} (hG : xGood (xGG C)) (hC : xCtx C RX6 cX6_recurs 4 (some .int) { frames := 7, locals := 178, cells := 0, slots := 0 }) (N : Nat) (hN : N ≤ 500) (b : Nat → Nat) (i : Nat → Int32) (j : Nat → Int64) (t r : Nat → Int64) (ht : tOK t) (R : Int32) (kA : ∀ q' g' h' : Nat → Int64, R = -1 → rn C (xSt F V0 [(b 0, .inr (5, mF b i j)), (b 7, .inl (1, 5, .inr (.inl t))), (b 1, .inl (1, 111, .inr (.inl r))), (b 2, .inl (1, 111, .inr (.inl q'))), (b 23, .inl (1, 6, .inr (.inl g'))), (b 24, .inl (1, 21, .inr (.inl h')))]) 0 0 54 [] []) (kB : ∀ (d : Nat) (q' g' h' : Nat → Int64), R = nI d → rn C (xSt F V0 [(b 0, .inr (5, mF b i j)), (b 7, .inl (1, 5, .inr (.inl t))), (b 1, .inl (1, 111, .inr (.inl r))), (b 2, .inl (1, 111, .inr (.inl q'))), (b 23, .inl (1, 6, .inr (.inl g'))), (b 24, .inl (1, 21, .inr (.inl h')))]) 0 0 64 [(3, .int (nI d))] []) (kC : ∀ q' g' h' : Nat → Int64, R = -1 → rn C (xSt F V0 [(b 0, .inr (5, mF b i j)), (b 7, .inl (1, 5, .inr (.inl t))), (b 1, .inl (1, 111, .inr (.inl r))), (b 2, .inl (1, 111, .inr (.inl q'))), (b 23, .inl (1, 6, .inr (.inl g'))), (b 24, .inl (1, 21, .inr (.inl h')))]) 0 0 72 [] []) : ∀ (f c : Nat) (q g h0 : Nat → Int64), (c + f = N + 1 ∧ 0 < c) → mOK q → R = recL t r false f c q → rn C (xSt F V0 [(b 0, .inr (5, mF b i j)), (b 7, .inl (1, 5, .inr (.inl t))), (b 1, .inl (1, 111, .inr (.inl r))), (b 2, .inl (1, 111, .inr (.inl q))), (b 23, .inl (1, 6, .inr (.inl g))), (b 24, .inl (1, 21, .inr (.inl h0)))]) 0 0 37 [(3, .int (nI c)), (0, .ref (b 0)), (1, .int 0), (2, .int (nI N))] [] := by
  intro f
  induction f with
  | zero =>
    intro c q g h0 hc hm hR
    refine r_iload_n hC 0 dX6_recurs_37 rfl 38 rfl ?_
    refine r_iload_n hC 3 dX6_recurs_38 rfl 39 rfl ?_
    refine r_icgt hC 72 dX6_recurs_39 (by decide) 42 rfl (fun _ => ?_) (fun h => absurd (nI_lt (by omega) (by omega)) h)
    refine rn.sub (lv' := []) [] rfl ?_
    refine rn.mono (J := xSt F V0 [(b 0, .inr (5, mF b i j)), (b 7, .inl (1, 5, .inr (.inl t))), (b 1, .inl (1, 111, .inr (.inl r))), (b 2, .inl (1, 111, .inr (.inl q))), (b 23, .inl (1, 6, .inr (.inl g))), (b 24, .inl (1, 21, .inr (.inl h0)))]) (fun _ h => h.sub [0, 1, 2, 3, 4, 5] rfl rfl) ?_
    exact kC _ _ _ (by rw [hR, recL])
  | succ f ih =>
    intro c q g h0 hc hm hR
    refine r_iload_n hC 0 dX6_recurs_37 rfl 38 rfl ?_
    refine r_iload_n hC 3 dX6_recurs_38 rfl 39 rfl ?_
    refine r_icgt hC 72 dX6_recurs_39 (by decide) 42 rfl (fun h => absurd h (nI_nlt (by omega) (by omega))) (fun _ => ?_)
    refine r_aload_n hC 1 dX6_recurs_42 rfl 43 rfl ?_
    refine r_aload_n hC 1 dX6_recurs_43 rfl 44 rfl ?_
    refine r_get (v := .ref (b 2)) hC kX6 2 rfl q2755 (fun _ h => h.get 0 rfl) rfl dX6_recurs_44 47 rfl ?_
    refine r_iconst hC 0 dX6_recurs_47 ic_0 48 rfl ?_
    cases ho : stepQ t q false with
    | none =>
      refine r_invVw hC kX6 (b 0) [.ref (b 2), .int 0] [(b 1, .inl (1, 111, .inr (.inl r)))] mVX6_steps q3078 0 rfl (metX6_steps0N _ _ hG b _ _ _ (b 2) _ _ _ ht hm ho) [0, 1, 3, 4, 5] [2] rfl rfl rfl rfl (by decide) ⟨rfl, rfl⟩ 0 0 rfl rfl (Nat.le_of_ble_eq_true rfl) (Nat.le_of_ble_eq_true rfl) rfl (Nat.le_of_ble_eq_true rfl) dX6_recurs_48 51 rfl (fun v3 w4 h5 => ?_) (fun _ _ h => h.elim)
      obtain ⟨g1, h2, rfl, rfl⟩ := h5
      show rn C (xSt F V0 [(b 1, .inl (1, 111, .inr (.inl r))), (b 0, .inr (5, mF b i j)), (b 7, .inl (1, 5, .inr (.inl t))), (b 2, .inl (1, 111, .inr (.inl q))), (b 23, .inl (1, 6, .inr (.inl g1))), (b 24, .inl (1, 21, .inr (.inl h2)))]) 0 0 51 [(3, .int (nI c)), (0, .ref (b 0)), (1, .int 0), (2, .int (nI N))] [.int 0]
      refine r_ifne hC 56 dX6_recurs_51 (by decide) 54 rfl (fun h => absurd h (by decide)) (fun _ => ?_)
      refine rn.sub (lv' := []) [] rfl ?_
      refine rn.mono (J := xSt F V0 [(b 0, .inr (5, mF b i j)), (b 7, .inl (1, 5, .inr (.inl t))), (b 1, .inl (1, 111, .inr (.inl r))), (b 2, .inl (1, 111, .inr (.inl q))), (b 23, .inl (1, 6, .inr (.inl g1))), (b 24, .inl (1, 21, .inr (.inl h2)))]) (fun _ h => h.sub [1, 2, 0, 3, 4, 5] rfl rfl) ?_
      exact kA _ _ _ (by rw [hR, recL, ho])
    | some r1 =>
      refine r_invVw hC kX6 (b 0) [.ref (b 2), .int 0] [(b 1, .inl (1, 111, .inr (.inl r)))] mVX6_steps q3078 0 rfl (metX6_steps0S _ _ hG b _ _ _ (b 2) _ _ _ ht hm r1 ho) [0, 1, 3, 4, 5] [2] rfl rfl rfl rfl (by decide) ⟨rfl, rfl⟩ 0 0 rfl rfl (Nat.le_of_ble_eq_true rfl) (Nat.le_of_ble_eq_true rfl) rfl (Nat.le_of_ble_eq_true rfl) dX6_recurs_48 51 rfl (fun v8 w9 h10 => ?_) (fun _ _ h => h.elim)
      obtain ⟨g6, h7, rfl, rfl⟩ := h10
      show rn C (xSt F V0 [(b 1, .inl (1, 111, .inr (.inl r))), (b 0, .inr (5, mF b i j)), (b 7, .inl (1, 5, .inr (.inl t))), (b 2, .inl (1, 111, .inr (.inl r1))), (b 23, .inl (1, 6, .inr (.inl g6))), (b 24, .inl (1, 21, .inr (.inl h7)))]) 0 0 51 [(3, .int (nI c)), (0, .ref (b 0)), (1, .int 0), (2, .int (nI N))] [.int 1]
      refine r_ifne hC 56 dX6_recurs_51 (by decide) 54 rfl (fun _ => ?_) (fun h => absurd h (by decide))
      refine r_aload_n hC 1 dX6_recurs_56 rfl 57 rfl ?_
      refine r_iload_n hC 2 dX6_recurs_57 rfl 58 rfl ?_
      refine r_invVr hC kX6 (b 0) [.int 0] (.int (bI (backQ r1 r false))) mVX6_isBack q3253 (fun _ h => h.get 1 rfl) (metX6_isBack0 _ _ hG b _ _ r1 r _ (congrArg bI back_0.symm)) (fun _ h => h.in.sub [1, 3, 0] rfl rfl) ⟨rfl, rfl⟩ 0 0 rfl rfl (Nat.le_of_ble_eq_true rfl) (Nat.le_of_ble_eq_true rfl) rfl (Nat.le_of_ble_eq_true rfl) dX6_recurs_58 61 rfl ?_
      refine r_ifeq hC 66 dX6_recurs_61 (by decide) 64 rfl (fun c11 => ?_) (fun c11 => ?_)
      · skip
        refine r_iinc hC (nI (c + 1)) 3 0 [(3, .int (nI (c + 1))), (0, .ref (b 0)), (1, .int 0), (2, .int (nI N))] dX6_recurs_66 rfl (nI_add c 1) (Nat.le_of_ble_eq_true rfl) rfl 69 rfl ?_
        refine r_goto hC 37 dX6_recurs_69 (by decide) ?_
        refine rn.sub (lv' := [(3, .int (nI (c + 1))), (0, .ref (b 0)), (1, .int 0), (2, .int (nI N))]) [0, 1, 2, 3] rfl ?_
        refine rn.mono (J := xSt F V0 [(b 0, .inr (5, mF b i j)), (b 7, .inl (1, 5, .inr (.inl t))), (b 1, .inl (1, 111, .inr (.inl r))), (b 2, .inl (1, 111, .inr (.inl r1))), (b 23, .inl (1, 6, .inr (.inl g6))), (b 24, .inl (1, 21, .inr (.inl h7)))]) (fun _ h => h.sub [1, 2, 0, 3, 4, 5] rfl rfl) ?_
        exact ih (c + 1) r1 g6 h7 (by omega) (stepQ_mOK hm ho) (by rw [hR, recL, ho]; exact if_neg (by rw [bI_0.mp c11]; decide))
      · skip
        refine rn.sub (lv' := [(3, .int (nI c))]) [0] rfl ?_
        refine rn.mono (J := xSt F V0 [(b 0, .inr (5, mF b i j)), (b 7, .inl (1, 5, .inr (.inl t))), (b 1, .inl (1, 111, .inr (.inl r))), (b 2, .inl (1, 111, .inr (.inl r1))), (b 23, .inl (1, 6, .inr (.inl g6))), (b 24, .inl (1, 21, .inr (.inl h7)))]) (fun _ h => h.sub [1, 2, 0, 3, 4, 5] rfl rfl) ?_
        exact kB _ _ _ _ (by rw [hR, recL, ho]; exact if_pos (bI_n0.mp c11))
set_option maxHeartbeats 4000000 in
set_option maxRecDepth 100000 in
theorem metX6_recursG0 (l : Launch) (G : xG) (hG : xGood G) (b : Nat → Nat) (i : Nat → Int32) (j : Nat → Int64) (t r th g h0 : Nat → Int64) (N : Nat) (ht : tOK t) (hm : mOK r) (hN : N ≤ 500) (hN1 : 1 ≤ N) : xWm l G yX6_recurs (Cond.code yX6_recurs cX6_recurs 4 (some .int)) { frames := 7, locals := 178, cells := 0, slots := 0 } [.ref (b 0), .int 0, .int (nI N)] [(b 0, .inr (5, mF b i j)), (b 7, .inl (1, 5, .inr (.inl t))), (b 1, .inl (1, 111, .inr (.inl r))), (b 2, .inl (1, 111, .inr (.inl th))), (b 23, .inl (1, 6, .inr (.inl g))), (b 24, .inl (1, 21, .inr (.inl h0)))] (fun v w' => ∃ th' g' h' : Nat → Int64, v = some (.int (recL t r false N 1 r)) ∧ w' = [(b 0, .inr (5, mF b (va_up i 0 0) j)), (b 7, .inl (1, 5, .inr (.inl t))), (b 1, .inl (1, 111, .inr (.inl r))), (b 2, .inl (1, 111, .inr (.inl th'))), (b 23, .inl (1, 6, .inr (.inl g'))), (b 24, .inl (1, 21, .inr (.inl h')))]) (fun _ _ => False) := by
  intro V hV
  refine xMet_of RX6 hG rfl (by decide) (Nat.le_of_ble_eq_true rfl) fun C hC hQ hX hl hg _ => ?_
  subst hl hg
  obtain ⟨V0, hV0⟩ : ∃ V0, V0 = V := ⟨_, rfl⟩
  obtain ⟨F, hF⟩ : ∃ F, F = xF [(b 0, .inr (5, mF b i j)), (b 7, .inl (1, 5, .inr (.inl t))), (b 1, .inl (1, 111, .inr (.inl r))), (b 2, .inl (1, 111, .inr (.inl th))), (b 23, .inl (1, 6, .inr (.inl g))), (b 24, .inl (1, 21, .inr (.inl h0)))] := ⟨_, rfl⟩
  refine rn.mono (J := xSt F V0 [(b 0, .inr (5, mF b i j)), (b 7, .inl (1, 5, .inr (.inl t))), (b 1, .inl (1, 111, .inr (.inl r))), (b 2, .inl (1, 111, .inr (.inl th))), (b 23, .inl (1, 6, .inr (.inl g))), (b 24, .inl (1, 21, .inr (.inl h0)))]) (fun V9 h => by rw [h, hV0, hF]; exact hV.st) ?_
  show rn C (xSt F V0 [(b 0, .inr (5, mF b i j)), (b 7, .inl (1, 5, .inr (.inl t))), (b 1, .inl (1, 111, .inr (.inl r))), (b 2, .inl (1, 111, .inr (.inl th))), (b 23, .inl (1, 6, .inr (.inl g))), (b 24, .inl (1, 21, .inr (.inl h0)))]) 0 0 0 [(0, .ref (b 0)), (1, .int 0), (2, .int (nI N))] []
  refine r_aload_n hC 0 dX6_recurs_0 rfl 1 rfl ?_
  refine r_iconst hC 0 dX6_recurs_1 ic_0 2 rfl ?_
  refine r_put (J := xSt F V0 [(b 0, .inr (5, mF b (va_up i 0 0) j)), (b 7, .inl (1, 5, .inr (.inl t))), (b 1, .inl (1, 111, .inr (.inl r))), (b 2, .inl (1, 111, .inr (.inl th))), (b 23, .inl (1, 6, .inr (.inl g))), (b 24, .inl (1, 21, .inr (.inl h0)))]) hC kX6 0 rfl q2753 rfl (fun _ h => h.get 0 rfl) (Nat.le_of_ble_eq_true rfl) rfl rfl dX6_recurs_2 (fun _ h => h.set 0 _ rfl) 5 rfl ?_
  refine r_aload_n hC 0 dX6_recurs_5 rfl 6 rfl ?_
  refine r_iload_n hC 2 dX6_recurs_6 rfl 7 rfl ?_
  refine r_i2l hC ((nI N).toInt64) dX6_recurs_7 (rfl) 8 rfl ?_
  refine r_lconst hC 1 dX6_recurs_8 lc_1 9 rfl ?_
  refine r_ldc2 hC q3065 dX6_recurs_9 12 rfl ?_
  refine r_invSr hC [.long ((nI N).toInt64), .long 1, .long 500] (.int 1) mSX6_in q2891 (metX6_inB _ _ hG ((nI N).toInt64) 1 500 1 (in_lo (L := 1) (N := 500) (by omega) (by omega) rfl rfl (by decide))) (fun _ _ => xIn.nil) ⟨rfl, rfl⟩ 0 0 rfl rfl (Nat.le_of_ble_eq_true rfl) (Nat.le_of_ble_eq_true rfl) rfl (Nat.le_of_ble_eq_true rfl) dX6_recurs_12 15 rfl ?_
  refine r_iconst hC 1 dX6_recurs_15 ic_1 16 rfl ?_
  refine r_invVr hC kX6 (b 0) [.int 1, .int 1] (.int 0) mVX6_fails q2894 (fun _ h => h.get 0 rfl) (metX6_fails1 _ _ hG b _ _ 1) (fun _ h => h.in.sub [0] rfl rfl) ⟨rfl, rfl⟩ 0 0 rfl rfl (Nat.le_of_ble_eq_true rfl) (Nat.le_of_ble_eq_true rfl) rfl (Nat.le_of_ble_eq_true rfl) dX6_recurs_16 19 rfl ?_
  refine r_ifeq hC 24 dX6_recurs_19 (by decide) 22 rfl (fun _ => ?_) (fun h => absurd h (by decide))
  refine r_aload_n hC 0 dX6_recurs_24 rfl 25 rfl ?_
  refine r_get (v := .ref (b 1)) hC kX6 1 rfl q2754 (fun _ h => h.get 0 rfl) rfl dX6_recurs_25 28 rfl ?_
  refine r_aload_n hC 0 dX6_recurs_28 rfl 29 rfl ?_
  refine r_get (v := .ref (b 2)) hC kX6 2 rfl q2755 (fun _ h => h.get 0 rfl) rfl dX6_recurs_29 32 rfl ?_
  refine r_invSw hC [.ref (b 1), .ref (b 2)] [(b 0, .inr (5, mF b (va_up i 0 0) j)), (b 7, .inl (1, 5, .inr (.inl t))), (b 23, .inl (1, 6, .inr (.inl g))), (b 24, .inl (1, 21, .inr (.inl h0)))] mSX6_copy q2718 (metX6_copy _ _ hG (b 1) (b 2) _ _) [2, 3] [0, 1, 4, 5] rfl rfl rfl rfl (by decide) ⟨rfl, rfl⟩ 0 0 rfl rfl (Nat.le_of_ble_eq_true rfl) (Nat.le_of_ble_eq_true rfl) rfl (Nat.le_of_ble_eq_true rfl) dX6_recurs_32 35 rfl (fun v1 w2 h3 => ?_) (fun _ _ h => h.elim)
  obtain ⟨rfl, rfl⟩ := h3
  show rn C (xSt F V0 [(b 0, .inr (5, mF b (va_up i 0 0) j)), (b 7, .inl (1, 5, .inr (.inl t))), (b 23, .inl (1, 6, .inr (.inl g))), (b 24, .inl (1, 21, .inr (.inl h0))), (b 1, .inl (1, 111, .inr (.inl r))), (b 2, .inl (1, 111, .inr (.inl r)))]) 0 0 35 [(0, .ref (b 0)), (1, .int 0), (2, .int (nI N))] []
  refine r_iconst hC 1 dX6_recurs_35 ic_1 36 rfl ?_
  refine r_istore_n hC 3 [(3, .int 1), (0, .ref (b 0)), (1, .int 0), (2, .int (nI N))] dX6_recurs_36 rfl (Nat.le_of_ble_eq_true rfl) rfl 37 rfl ?_
  refine rn.mono (J := xSt F V0 [(b 0, .inr (5, mF b (va_up i 0 0) j)), (b 7, .inl (1, 5, .inr (.inl t))), (b 1, .inl (1, 111, .inr (.inl r))), (b 2, .inl (1, 111, .inr (.inl r))), (b 23, .inl (1, 6, .inr (.inl g))), (b 24, .inl (1, 21, .inr (.inl h0)))]) (fun _ h => h.sub [0, 1, 4, 5, 2, 3] rfl rfl) ?_
  refine rn.sub (lv' := [(3, .int 1), (0, .ref (b 0)), (1, .int 0), (2, .int (nI N))]) [0, 1, 2, 3] rfl ?_
  refine lpX6_recurs0 hG hC N hN b (va_up i 0 0) j t r ht (recL t r false N 1 r) (fun q9 g9 h9 e9 => ?_) (fun d q9 g9 h9 e9 => ?_) (fun q9 g9 h9 e9 => ?_) N 1 r g h0 (by omega) hm rfl
  ·
    refine r_iconst hC (-1) dX6_recurs_54 ic_m1 55 rfl ?_
    exact r_iret hC (Nat.le_of_ble_eq_true rfl) (Nat.le_of_ble_eq_true rfl) (fun V9 h => hQ _ _ ⟨[(b 0, .inr (5, mF b (va_up i 0 0) j)), (b 7, .inl (1, 5, .inr (.inl t))), (b 1, .inl (1, 111, .inr (.inl r))), (b 2, .inl (1, 111, .inr (.inl q9))), (b 23, .inl (1, 6, .inr (.inl g9))), (b 24, .inl (1, 21, .inr (.inl h9)))], ⟨q9, g9, h9, by rw [e9], rfl⟩, by rw [← hV0, ← hF]; exact h⟩) dX6_recurs_55
  ·
    refine r_iload_n hC 0 dX6_recurs_64 rfl 65 rfl ?_
    exact r_iret hC (Nat.le_of_ble_eq_true rfl) (Nat.le_of_ble_eq_true rfl) (fun V9 h => hQ _ _ ⟨[(b 0, .inr (5, mF b (va_up i 0 0) j)), (b 7, .inl (1, 5, .inr (.inl t))), (b 1, .inl (1, 111, .inr (.inl r))), (b 2, .inl (1, 111, .inr (.inl q9))), (b 23, .inl (1, 6, .inr (.inl g9))), (b 24, .inl (1, 21, .inr (.inl h9)))], ⟨q9, g9, h9, by rw [e9], rfl⟩, by rw [← hV0, ← hF]; exact h⟩) dX6_recurs_65
  ·
    refine r_iconst hC (-1) dX6_recurs_72 ic_m1 73 rfl ?_
    exact r_iret hC (Nat.le_of_ble_eq_true rfl) (Nat.le_of_ble_eq_true rfl) (fun V9 h => hQ _ _ ⟨[(b 0, .inr (5, mF b (va_up i 0 0) j)), (b 7, .inl (1, 5, .inr (.inl t))), (b 1, .inl (1, 111, .inr (.inl r))), (b 2, .inl (1, 111, .inr (.inl q9))), (b 23, .inl (1, 6, .inr (.inl g9))), (b 24, .inl (1, 21, .inr (.inl h9)))], ⟨q9, g9, h9, by rw [e9], rfl⟩, by rw [← hV0, ← hF]; exact h⟩) dX6_recurs_73
set_option maxHeartbeats 4000000 in
set_option maxRecDepth 100000 in
theorem metX6_recursB (l : Launch) (G : xG) (hG : xGood G) (b : Nat → Nat) (i : Nat → Int32) (j : Nat → Int64) (u x : Int32) (hx : bI (m_in x.toInt64 1 500) = 0) : xWm l G yX6_recurs (Cond.code yX6_recurs cX6_recurs 4 (some .int)) { frames := 1, locals := 25, cells := 0, slots := 0 } [.ref (b 0), .int u, .int x] [(b 0, .inr (5, mF b i j))] (fun v w' => v = some (.int 0) ∧ w' = [(b 0, .inr (5, mF b (va_up i 0 1) j))]) (fun _ _ => False) := by
  intro V hV
  refine xMet_of RX6 hG rfl (by decide) (Nat.le_of_ble_eq_true rfl) fun C hC hQ hX hl hg _ => ?_
  subst hl hg
  obtain ⟨V0, hV0⟩ : ∃ V0, V0 = V := ⟨_, rfl⟩
  obtain ⟨F, hF⟩ : ∃ F, F = xF [(b 0, .inr (5, mF b i j))] := ⟨_, rfl⟩
  refine rn.mono (J := xSt F V0 [(b 0, .inr (5, mF b i j))]) (fun V9 h => by rw [h, hV0, hF]; exact hV.st) ?_
  show rn C (xSt F V0 [(b 0, .inr (5, mF b i j))]) 0 0 0 [(0, .ref (b 0)), (1, .int u), (2, .int x)] []
  refine r_aload_n hC 0 dX6_recurs_0 rfl 1 rfl ?_
  refine r_iconst hC 0 dX6_recurs_1 ic_0 2 rfl ?_
  refine r_put (J := xSt F V0 [(b 0, .inr (5, mF b (va_up i 0 0) j))]) hC kX6 0 rfl q2753 rfl (fun _ h => h.get 0 rfl) (Nat.le_of_ble_eq_true rfl) rfl rfl dX6_recurs_2 (fun _ h => h.set 0 _ rfl) 5 rfl ?_
  refine r_aload_n hC 0 dX6_recurs_5 rfl 6 rfl ?_
  refine r_iload_n hC 2 dX6_recurs_6 rfl 7 rfl ?_
  refine r_i2l hC x.toInt64 dX6_recurs_7 (rfl) 8 rfl ?_
  refine r_lconst hC 1 dX6_recurs_8 lc_1 9 rfl ?_
  refine r_ldc2 hC q3065 dX6_recurs_9 12 rfl ?_
  refine r_invSr hC [.long x.toInt64, .long 1, .long 500] (.int 0) mSX6_in q2891 (metX6_inB _ _ hG x.toInt64 1 500 0 (hx)) (fun _ _ => xIn.nil) ⟨rfl, rfl⟩ 0 0 rfl rfl (Nat.le_of_ble_eq_true rfl) (Nat.le_of_ble_eq_true rfl) rfl (Nat.le_of_ble_eq_true rfl) dX6_recurs_12 15 rfl ?_
  refine r_iconst hC 1 dX6_recurs_15 ic_1 16 rfl ?_
  refine r_invVw hC kX6 (b 0) [.int 0, .int 1] [] mVX6_fails q2894 0 rfl (metX6_fails0 _ _ hG b _ _ 1) [0] [] rfl rfl rfl rfl (by decide) ⟨rfl, rfl⟩ 0 0 rfl rfl (Nat.le_of_ble_eq_true rfl) (Nat.le_of_ble_eq_true rfl) rfl (Nat.le_of_ble_eq_true rfl) dX6_recurs_16 19 rfl (fun v1 w2 h3 => ?_) (fun _ _ h => h.elim)
  obtain ⟨rfl, rfl⟩ := h3
  show rn C (xSt F V0 [(b 0, .inr (5, mF b (va_up (va_up i 0 0) 0 1) j))]) 0 0 19 [(0, .ref (b 0)), (1, .int u), (2, .int x)] [.int 1]
  refine r_ifeq hC 24 dX6_recurs_19 (by decide) 22 rfl (fun h => absurd h (by decide)) (fun _ => ?_)
  refine r_iconst hC 0 dX6_recurs_22 ic_0 23 rfl ?_
  exact r_iret hC (Nat.le_of_ble_eq_true rfl) (Nat.le_of_ble_eq_true rfl) (fun V9 h => hQ _ _ ⟨[(b 0, .inr (5, mF b (va_up (va_up i 0 0) 0 1) j))], ⟨rfl, by simp only [bx_uu]⟩, by rw [← hV0, ← hF]; exact h⟩) dX6_recurs_23
