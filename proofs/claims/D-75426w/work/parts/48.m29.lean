/-! ===== the reference: load ===== -/
set_option maxRecDepth 100000
theorem rd_err {bf : Nat → Int32} {e : Nat} {i : Nat → Int32} {j : Nat → Int64} {ps : PS} (h : rdP bf e i j ps) (ho : okP ps = false) : ∃ c p, ps = .error (c, p) ∧ i 21 = c ∧ i 22 = nI p := by
  cases ps with
  | ok g => exact absurd ho (by simp [okP])
  | error x => exact ⟨x.1, x.2, rfl, h.2.2.1, h.2.2.2⟩
theorem end_bad {bf : Nat → Int32} {e : Nat} {ps : PS} (h : okP ps = false) : endP bf e ps = ps := by
  rw [endP, if_neg (nt (isK_f h)), wr_same h]
theorem end_k {bf : Nat → Int32} {e : Nat} {ps : PS} (h : isK bf e 0 ps = true) : endP bf e ps = ps := if_pos h
theorem end_n {bf : Nat → Int32} {e : Nat} {ps : PS} (h : ¬ isK bf e 0 ps = true) : endP bf e ps = wrP 1 ps := if_neg h
/-- the fields behind a reading -/
def ldF (i i' : Nat → Int32) : Prop := ∀ k, k ≠ 0 → k ≠ 14 → k ≠ 15 → k ≠ 16 → k ≠ 17 → k ≠ 18 → k ≠ 21 → k ≠ 22 → i' k = i k
theorem ldF_of {i i8 i9 : Nat → Int32} (h8 : ∀ k, k ≠ 14 → k ≠ 15 → k ≠ 16 → k ≠ 17 → k ≠ 18 → k ≠ 21 → k ≠ 22 → i8 k = (va_up i 0 0) k) (h9 : gI i8 i9) : ldF i i9 := fun k a0 a1 a2 a3 a4 a5 a6 a7 => by
  rw [h9 k a3 a4 a5 a6 a7, h8 k a1 a2 a3 a4 a5 a6 a7, up_ne a0]
set_option maxHeartbeats 4000000 in
set_option maxRecDepth 100000 in
theorem metX6_loadG (l : Launch) (G : xG) (hG : xGood G) (b : Nat → Nat) (i : Nat → Int32) (j : Nat → Int64) (bf : Nat → Int32) (dt dr r t : Nat → Int64) (e N : Nat) (heN : e ≤ N) (hN : N ≤ 600) (h14 : i 14 = nI N) : xWm l G yX6_load (Cond.code yX6_load cX6_load 3 (some .int)) { frames := 7, locals := 161, cells := 0, slots := 0 } [.ref (b 0), .int (nI e)] [(b 0, .inr (5, mF b i j)), (b 13, .inl (0, 600, .inl bf)), (b 8, .inl (1, 5, .inr (.inl dt))), (b 3, .inl (1, 111, .inr (.inl dr))), (b 1, .inl (1, 111, .inr (.inl r))), (b 7, .inl (1, 5, .inr (.inl t)))] (fun v w' => (∃ (c : Int32) (p : Nat) (i' : Nat → Int32) (j' dt' dr' : Nat → Int64), ldP bf e = .error (c, p) ∧ v = some (.int (-10 - c)) ∧ w' = [(b 0, .inr (5, mF b i' j')), (b 13, .inl (0, 600, .inl bf)), (b 8, .inl (1, 5, .inr (.inl dt'))), (b 3, .inl (1, 111, .inr (.inl dr'))), (b 1, .inl (1, 111, .inr (.inl r))), (b 7, .inl (1, 5, .inr (.inl t)))] ∧ i' 0 = 0 ∧ i' 14 = 0 ∧ i' 22 = nI p ∧ ldF i i' ∧ fJ j j') ∨ (∃ (i' : Nat → Int32) (j' : Nat → Int64), okP (ldP bf e) = true ∧ v = some (.int 3) ∧ w' = [(b 0, .inr (5, mF b (va_up (va_up (va_up i' 10 0) 9 0) 11 0) j')), (b 13, .inl (0, 600, .inl bf)), (b 8, .inl (1, 5, .inr (.inl ((ldS bf e).2.1)))), (b 3, .inl (1, 111, .inr (.inl (ldR bf e)))), (b 1, .inl (1, 111, .inr (.inl (begR (ldS bf e).2.1 (ldR bf e))))), (b 7, .inl (1, 5, .inr (.inl ((ldS bf e).2.1))))] ∧ i' 0 = 0 ∧ i' 14 = 0 ∧ i' 22 = -1 ∧ ldF i i' ∧ fJ j j')) (fun _ _ => False) := by
  intro V hV
  refine xMet_of RX6 hG rfl (by decide) (Nat.le_of_ble_eq_true rfl) fun C hC hQ hX hl hg _ => ?_
  subst hl hg
  have he : e ≤ 600 := by omega
  obtain ⟨V0, hV0⟩ : ∃ V0, V0 = V := ⟨_, rfl⟩
  obtain ⟨F, hF⟩ : ∃ F, F = xF [(b 0, .inr (5, mF b i j)), (b 13, .inl (0, 600, .inl bf)), (b 8, .inl (1, 5, .inr (.inl dt))), (b 3, .inl (1, 111, .inr (.inl dr))), (b 1, .inl (1, 111, .inr (.inl r))), (b 7, .inl (1, 5, .inr (.inl t)))] := ⟨_, rfl⟩
  refine rn.mono (J := xSt F V0 [(b 0, .inr (5, mF b i j)), (b 13, .inl (0, 600, .inl bf)), (b 8, .inl (1, 5, .inr (.inl dt))), (b 3, .inl (1, 111, .inr (.inl dr))), (b 1, .inl (1, 111, .inr (.inl r))), (b 7, .inl (1, 5, .inr (.inl t)))]) (fun V9 h => by rw [h, hV0, hF]; exact hV.st) ?_
  show rn C (xSt F V0 [(b 0, .inr (5, mF b i j)), (b 13, .inl (0, 600, .inl bf)), (b 8, .inl (1, 5, .inr (.inl dt))), (b 3, .inl (1, 111, .inr (.inl dr))), (b 1, .inl (1, 111, .inr (.inl r))), (b 7, .inl (1, 5, .inr (.inl t)))]) 0 0 0 [(0, .ref (b 0)), (1, .int (nI e))] []
  refine r_aload_n hC 0 dX6_load_0 rfl 1 rfl ?_
  refine r_iconst hC 0 dX6_load_1 ic_0 2 rfl ?_
  refine r_put (J := xSt F V0 [(b 0, .inr (5, mF b (va_up i 0 0) j)), (b 13, .inl (0, 600, .inl bf)), (b 8, .inl (1, 5, .inr (.inl dt))), (b 3, .inl (1, 111, .inr (.inl dr))), (b 1, .inl (1, 111, .inr (.inl r))), (b 7, .inl (1, 5, .inr (.inl t)))]) hC kX6 0 rfl q2753 rfl (fun _ h => h.get 0 rfl) (Nat.le_of_ble_eq_true rfl) rfl rfl dX6_load_2 (fun _ h => h.set 0 _ rfl) 5 rfl ?_
  refine r_aload_n hC 0 dX6_load_5 rfl 6 rfl ?_
  refine r_iload_n hC 1 dX6_load_6 rfl 7 rfl ?_
  refine r_i2l hC ((nI e).toInt64) dX6_load_7 (rfl) 8 rfl ?_
  refine r_lconst hC 0 dX6_load_8 lc_0 9 rfl ?_
  refine r_aload_n hC 0 dX6_load_9 rfl 10 rfl ?_
  refine r_get (v := .int (i 14)) hC kX6 14 rfl q2767 (fun _ h => h.get 0 rfl) rfl dX6_load_10 13 rfl ?_
  refine r_eqi (y := nI N) (h14) ?_
  refine r_i2l hC ((nI N).toInt64) dX6_load_13 (rfl) 14 rfl ?_
  refine r_invSr hC [.long ((nI e).toInt64), .long 0, .long ((nI N).toInt64)] (.int 1) mSX6_in q2891 (metX6_inB _ _ hG ((nI e).toInt64) 0 ((nI N).toInt64) 1 (in_n heN (nIl_toInt (by omega)) (by omega))) (fun _ _ => xIn.nil) ⟨rfl, rfl⟩ 0 0 rfl rfl (Nat.le_of_ble_eq_true rfl) (Nat.le_of_ble_eq_true rfl) rfl (Nat.le_of_ble_eq_true rfl) dX6_load_14 17 rfl ?_
  refine r_iconst hC 1 dX6_load_17 ic_1 18 rfl ?_
  refine r_invVr hC kX6 (b 0) [.int 1, .int 1] (.int 0) mVX6_fails q2894 (fun _ h => h.get 0 rfl) (metX6_fails1 _ _ hG b _ _ 1) (fun _ h => h.in.sub [0] rfl rfl) ⟨rfl, rfl⟩ 0 0 rfl rfl (Nat.le_of_ble_eq_true rfl) (Nat.le_of_ble_eq_true rfl) rfl (Nat.le_of_ble_eq_true rfl) dX6_load_18 21 rfl ?_
  refine r_ifeq hC 26 dX6_load_21 (by decide) 24 rfl (fun _ => ?_) (fun h => absurd h (by decide))
  refine r_aload_n hC 0 dX6_load_26 rfl 27 rfl ?_
  refine r_iload_n hC 1 dX6_load_27 rfl 28 rfl ?_
  refine r_invVw hC kX6 (b 0) [.int (nI e)] [(b 8, .inl (1, 5, .inr (.inl dt))), (b 3, .inl (1, 111, .inr (.inl dr))), (b 1, .inl (1, 111, .inr (.inl r))), (b 7, .inl (1, 5, .inr (.inl t)))] mVX6_starts q2898 0 rfl (metX6_starts _ _ hG b (va_up i 0 0) j bf e he) [0, 1] [2, 3, 4, 5] rfl rfl rfl rfl (by decide) ⟨rfl, rfl⟩ 0 0 rfl rfl (Nat.le_of_ble_eq_true rfl) (Nat.le_of_ble_eq_true rfl) rfl (Nat.le_of_ble_eq_true rfl) dX6_load_28 31 rfl (fun v1 w2 h3 => ?_) (fun _ _ h => h.elim)
  obtain ⟨rfl, i8, j8, rfl, h8, e14, ef8, fj8⟩ := h3
  show rn C (xSt F V0 [(b 8, .inl (1, 5, .inr (.inl dt))), (b 3, .inl (1, 111, .inr (.inl dr))), (b 1, .inl (1, 111, .inr (.inl r))), (b 7, .inl (1, 5, .inr (.inl t))), (b 0, .inr (5, mF b i8 j8)), (b 13, .inl (0, 600, .inl bf))]) 0 0 31 [(0, .ref (b 0)), (1, .int (nI e))] []
  refine r_aload_n hC 0 dX6_load_31 rfl 32 rfl ?_
  refine r_invVw hC kX6 (b 0) [] [(b 1, .inl (1, 111, .inr (.inl r))), (b 7, .inl (1, 5, .inr (.inl t))), (b 13, .inl (0, 600, .inl bf))] mVX6_clears q2704 4 rfl (metX6_clears _ _ hG b i8 j8 _ _) [4, 1, 0] [2, 3, 5] rfl rfl rfl rfl (by decide) ⟨rfl, rfl⟩ 0 0 rfl rfl (Nat.le_of_ble_eq_true rfl) (Nat.le_of_ble_eq_true rfl) rfl (Nat.le_of_ble_eq_true rfl) dX6_load_32 35 rfl (fun v4 w5 h6 => ?_) (fun _ _ h => h.elim)
  obtain ⟨rfl, rfl⟩ := h6
  show rn C (xSt F V0 [(b 1, .inl (1, 111, .inr (.inl r))), (b 7, .inl (1, 5, .inr (.inl t))), (b 13, .inl (0, 600, .inl bf)), (b 0, .inr (5, mF b i8 j8)), (b 3, .inl (1, 111, .inr (.inl z0))), (b 8, .inl (1, 5, .inr (.inl told0)))]) 0 0 35 [(0, .ref (b 0)), (1, .int (nI e))] []
  refine r_aload_n hC 0 dX6_load_35 rfl 36 rfl ?_
  refine r_invVw hC kX6 (b 0) [] [(b 1, .inl (1, 111, .inr (.inl r))), (b 7, .inl (1, 5, .inr (.inl t)))] mVX6_settingsRead q2928 3 rfl (metX6_settingsRead _ _ hG b i8 j8 bf e he (.ok (tBeg bf e 0)) h8 told0 z0 (e + 1) mu_0) [3, 2, 5, 4] [0, 1] rfl rfl rfl rfl (by decide) ⟨rfl, rfl⟩ 0 0 rfl rfl (Nat.le_of_ble_eq_true rfl) (Nat.le_of_ble_eq_true rfl) rfl (Nat.le_of_ble_eq_true rfl) dX6_load_36 39 rfl (fun v8 w9 h10 => ?_) (fun _ _ h => h.elim)
  obtain ⟨rfl, i7, j7, rfl, hr7, gi7, fj7⟩ := h10
  show rn C (xSt F V0 [(b 1, .inl (1, 111, .inr (.inl r))), (b 7, .inl (1, 5, .inr (.inl t))), (b 0, .inr (5, mF b i7 j7)), (b 13, .inl (0, 600, .inl bf)), (b 8, .inl (1, 5, .inr (.inl ((ldS bf e).2.1)))), (b 3, .inl (1, 111, .inr (.inl ((ldS bf e).2.2))))]) 0 0 39 [(0, .ref (b 0)), (1, .int (nI e))] []
  refine r_iconst hC 0 dX6_load_39 ic_0 40 rfl ?_
  refine r_istore_n hC 2 [(2, .int 0), (0, .ref (b 0)), (1, .int (nI e))] dX6_load_40 rfl (Nat.le_of_ble_eq_true rfl) rfl 41 rfl ?_
  refine r_iload_n hC 0 dX6_load_41 rfl 42 rfl ?_
  refine r_iconst hC 3 dX6_load_42 ic_3 43 rfl ?_
  refine r_icge hC 57 dX6_load_43 (by decide) 46 rfl (fun h => absurd h (by decide)) (fun _ => ?_)
  refine r_aload_n hC 1 dX6_load_46 rfl 47 rfl ?_
  refine r_iload_n hC 0 dX6_load_47 rfl 48 rfl ?_
  refine r_invVw hC kX6 (b 0) [.int 0] [(b 1, .inl (1, 111, .inr (.inl r))), (b 7, .inl (1, 5, .inr (.inl t))), (b 8, .inl (1, 5, .inr (.inl ((ldS bf e).2.1))))] mVX6_bodyRead q2977 2 rfl (metX6_bodyRead0 _ _ hG b i7 j7 bf e he ((ldS bf e).1) hr7 ((ldS bf e).2.2)) [2, 3, 5] [0, 1, 4] rfl rfl rfl rfl (by decide) ⟨rfl, rfl⟩ 0 0 rfl rfl (Nat.le_of_ble_eq_true rfl) (Nat.le_of_ble_eq_true rfl) rfl (Nat.le_of_ble_eq_true rfl) dX6_load_48 51 rfl (fun v12 w13 h14 => ?_) (fun _ _ h => h.elim)
  obtain ⟨rfl, i11, j11, rfl, hr11, gi11, fj11⟩ := h14
  show rn C (xSt F V0 [(b 1, .inl (1, 111, .inr (.inl r))), (b 7, .inl (1, 5, .inr (.inl t))), (b 8, .inl (1, 5, .inr (.inl ((ldS bf e).2.1)))), (b 0, .inr (5, mF b i11 j11)), (b 13, .inl (0, 600, .inl bf)), (b 3, .inl (1, 111, .inr (.inl (ldR1 bf e))))]) 0 0 51 [(2, .int 0), (0, .ref (b 0)), (1, .int (nI e))] []
  refine r_iinc hC 1 2 0 [(2, .int 1), (0, .ref (b 0)), (1, .int (nI e))] dX6_load_51 rfl (by decide) (Nat.le_of_ble_eq_true rfl) rfl 54 rfl ?_
  refine r_goto hC 41 dX6_load_54 (by decide) ?_
  refine r_iload_n hC 0 dX6_load_41 rfl 42 rfl ?_
  refine r_iconst hC 3 dX6_load_42 ic_3 43 rfl ?_
  refine r_icge hC 57 dX6_load_43 (by decide) 46 rfl (fun h => absurd h (by decide)) (fun _ => ?_)
  refine r_aload_n hC 1 dX6_load_46 rfl 47 rfl ?_
  refine r_iload_n hC 0 dX6_load_47 rfl 48 rfl ?_
  refine r_invVw hC kX6 (b 0) [.int 1] [(b 1, .inl (1, 111, .inr (.inl r))), (b 7, .inl (1, 5, .inr (.inl t))), (b 8, .inl (1, 5, .inr (.inl ((ldS bf e).2.1))))] mVX6_bodyRead q2977 3 rfl (metX6_bodyRead1 _ _ hG b i11 j11 bf e he (ldB1 bf e) hr11 (ldR1 bf e)) [3, 4, 5] [0, 1, 2] rfl rfl rfl rfl (by decide) ⟨rfl, rfl⟩ 0 0 rfl rfl (Nat.le_of_ble_eq_true rfl) (Nat.le_of_ble_eq_true rfl) rfl (Nat.le_of_ble_eq_true rfl) dX6_load_48 51 rfl (fun v16 w17 h18 => ?_) (fun _ _ h => h.elim)
  obtain ⟨rfl, i15, j15, rfl, hr15, gi15, fj15⟩ := h18
  show rn C (xSt F V0 [(b 1, .inl (1, 111, .inr (.inl r))), (b 7, .inl (1, 5, .inr (.inl t))), (b 8, .inl (1, 5, .inr (.inl ((ldS bf e).2.1)))), (b 0, .inr (5, mF b i15 j15)), (b 13, .inl (0, 600, .inl bf)), (b 3, .inl (1, 111, .inr (.inl (ldR2 bf e))))]) 0 0 51 [(2, .int 1), (0, .ref (b 0)), (1, .int (nI e))] []
  refine r_iinc hC 2 2 0 [(2, .int 2), (0, .ref (b 0)), (1, .int (nI e))] dX6_load_51 rfl (by decide) (Nat.le_of_ble_eq_true rfl) rfl 54 rfl ?_
  refine r_goto hC 41 dX6_load_54 (by decide) ?_
  refine r_iload_n hC 0 dX6_load_41 rfl 42 rfl ?_
  refine r_iconst hC 3 dX6_load_42 ic_3 43 rfl ?_
  refine r_icge hC 57 dX6_load_43 (by decide) 46 rfl (fun h => absurd h (by decide)) (fun _ => ?_)
  refine r_aload_n hC 1 dX6_load_46 rfl 47 rfl ?_
  refine r_iload_n hC 0 dX6_load_47 rfl 48 rfl ?_
  refine r_invVw hC kX6 (b 0) [.int 2] [(b 1, .inl (1, 111, .inr (.inl r))), (b 7, .inl (1, 5, .inr (.inl t))), (b 8, .inl (1, 5, .inr (.inl ((ldS bf e).2.1))))] mVX6_bodyRead q2977 3 rfl (metX6_bodyRead2 _ _ hG b i15 j15 bf e he (ldB2 bf e) hr15 (ldR2 bf e)) [3, 4, 5] [0, 1, 2] rfl rfl rfl rfl (by decide) ⟨rfl, rfl⟩ 0 0 rfl rfl (Nat.le_of_ble_eq_true rfl) (Nat.le_of_ble_eq_true rfl) rfl (Nat.le_of_ble_eq_true rfl) dX6_load_48 51 rfl (fun v20 w21 h22 => ?_) (fun _ _ h => h.elim)
  obtain ⟨rfl, i19, j19, rfl, hr19, gi19, fj19⟩ := h22
  show rn C (xSt F V0 [(b 1, .inl (1, 111, .inr (.inl r))), (b 7, .inl (1, 5, .inr (.inl t))), (b 8, .inl (1, 5, .inr (.inl ((ldS bf e).2.1)))), (b 0, .inr (5, mF b i19 j19)), (b 13, .inl (0, 600, .inl bf)), (b 3, .inl (1, 111, .inr (.inl (ldR bf e))))]) 0 0 51 [(2, .int 2), (0, .ref (b 0)), (1, .int (nI e))] []
  refine r_iinc hC 3 2 0 [(2, .int 3), (0, .ref (b 0)), (1, .int (nI e))] dX6_load_51 rfl (by decide) (Nat.le_of_ble_eq_true rfl) rfl 54 rfl ?_
  refine r_goto hC 41 dX6_load_54 (by decide) ?_
  refine r_iload_n hC 0 dX6_load_41 rfl 42 rfl ?_
  refine r_iconst hC 3 dX6_load_42 ic_3 43 rfl ?_
  refine r_icge hC 57 dX6_load_43 (by decide) 46 rfl (fun _ => ?_) (fun h => absurd h (by decide))
  replace hr19 : rdP bf e i19 j19 (ldB3 bf e) := hr19
  refine r_aload_n hC 1 dX6_load_57 rfl 58 rfl ?_
  rcases Bool.eq_false_or_eq_true (okP (ldB3 bf e)) with hk23 | hk23
  · skip
    refine r_invVr hC kX6 (b 0) [] (.int 1) mVX6_isGood q2945 (fun _ h => h.get 3 rfl) (metX6_isGood _ _ hG b i19 _ 1 (by rw [rd_good hr19, hk23]; rfl)) (fun _ h => h.in.sub [3] rfl rfl) ⟨rfl, rfl⟩ 0 0 rfl rfl (Nat.le_of_ble_eq_true rfl) (Nat.le_of_ble_eq_true rfl) rfl (Nat.le_of_ble_eq_true rfl) dX6_load_58 61 rfl ?_
    refine r_ifeq hC 77 dX6_load_61 (by decide) 64 rfl (fun h => absurd h (by decide)) (fun _ => ?_)
    refine r_aload_n hC 1 dX6_load_64 rfl 65 rfl ?_
    refine r_get (v := .int (i19 18)) hC kX6 18 rfl q2771 (fun _ h => h.get 3 rfl) rfl dX6_load_65 68 rfl ?_
    refine r_ifeq hC 77 dX6_load_68 (by decide) 71 rfl (fun c24 => ?_) (fun c24 => ?_)
    · skip
      refine r_aload_n hC 1 dX6_load_77 rfl 78 rfl ?_
      refine r_invVr hC kX6 (b 0) [] (.int 1) mVX6_isGood q2945 (fun _ h => h.get 3 rfl) (metX6_isGood _ _ hG b i19 _ 1 (by rw [rd_good hr19, hk23]; rfl)) (fun _ h => h.in.sub [3] rfl rfl) ⟨rfl, rfl⟩ 0 0 rfl rfl (Nat.le_of_ble_eq_true rfl) (Nat.le_of_ble_eq_true rfl) rfl (Nat.le_of_ble_eq_true rfl) dX6_load_78 81 rfl ?_
      refine r_ifne hC 92 dX6_load_81 (by decide) 84 rfl (fun _ => ?_) (fun h => absurd h (by decide))
      refine r_aload_n hC 1 dX6_load_92 rfl 93 rfl ?_
      refine r_invVw hC kX6 (b 0) [] [(b 13, .inl (0, 600, .inl bf))] mVX6_becomes q2714 3 rfl (metX6_becomes _ _ hG b i19 j19 _ _ _ _ (tOK_setL tOK_0) mOK_b3) [3, 5, 2, 0, 1] [4] rfl rfl rfl rfl (by decide) ⟨rfl, rfl⟩ 0 0 rfl rfl (Nat.le_of_ble_eq_true rfl) (Nat.le_of_ble_eq_true rfl) rfl (Nat.le_of_ble_eq_true rfl) dX6_load_93 96 rfl (fun v25 w26 h27 => ?_) (fun _ _ h => h.elim)
      obtain ⟨rfl, rfl⟩ := h27
      show rn C (xSt F V0 [(b 13, .inl (0, 600, .inl bf)), (b 0, .inr (5, mF b (va_up (va_up (va_up i19 10 0) 9 0) 11 0) j19)), (b 3, .inl (1, 111, .inr (.inl (ldR bf e)))), (b 8, .inl (1, 5, .inr (.inl ((ldS bf e).2.1)))), (b 1, .inl (1, 111, .inr (.inl (begR ((ldS bf e).2.1) (ldR bf e))))), (b 7, .inl (1, 5, .inr (.inl ((ldS bf e).2.1))))]) 0 0 96 [(2, .int 3), (0, .ref (b 0)), (1, .int (nI e))] []
      refine r_iconst hC 3 dX6_load_96 ic_3 97 rfl ?_
      exact r_iret hC (Nat.le_of_ble_eq_true rfl) (Nat.le_of_ble_eq_true rfl) (fun V9 h => hQ _ _ ⟨[(b 0, .inr (5, mF b (va_up (va_up (va_up i19 10 0) 9 0) 11 0) j19)), (b 13, .inl (0, 600, .inl bf)), (b 8, .inl (1, 5, .inr (.inl ((ldS bf e).2.1)))), (b 3, .inl (1, 111, .inr (.inl (ldR bf e)))), (b 1, .inl (1, 111, .inr (.inl (begR ((ldS bf e).2.1) (ldR bf e))))), (b 7, .inl (1, 5, .inr (.inl ((ldS bf e).2.1))))], Or.inr ⟨_, _, (congrArg okP (end_k ((rd_kind hr19 hk23).mp c24))).trans hk23, rfl, rfl, (((((((gI_refl i8).trans gi7).trans gi11).trans gi15).trans gi19) 0 (by decide) (by decide) (by decide) (by decide) (by decide)).trans (ef8 0 (by decide) (by decide) (by decide) (by decide) (by decide) (by decide) (by decide))), (((((((gI_refl i8).trans gi7).trans gi11).trans gi15).trans gi19) 14 (by decide) (by decide) (by decide) (by decide) (by decide)).trans e14), (by obtain ⟨g, q1, q2, q3, q4⟩ := rd_ok hr19 hk23; exact q4), (ldF_of ef8 (((((gI_refl i8).trans gi7).trans gi11).trans gi15).trans gi19)), (fj8.trans (((((fJ_refl j8).trans fj7).trans fj11).trans fj15).trans fj19))⟩, by rw [← hV0, ← hF]; exact (h.sub [1, 0, 3, 2, 4, 5] rfl rfl)⟩) dX6_load_97
    · skip
      refine r_aload_n hC 1 dX6_load_71 rfl 72 rfl ?_
      refine r_iconst hC 1 dX6_load_72 ic_1 73 rfl ?_
      refine r_invVw hC kX6 (b 0) [.int 1] [(b 1, .inl (1, 111, .inr (.inl r))), (b 7, .inl (1, 5, .inr (.inl t))), (b 8, .inl (1, 5, .inr (.inl ((ldS bf e).2.1)))), (b 13, .inl (0, 600, .inl bf)), (b 3, .inl (1, 111, .inr (.inl (ldR bf e))))] mVX6_wrongs q2953 3 rfl (metX6_wrongsP _ _ hG b i19 j19 bf e he (ldB3 bf e) hr19 1 (by decide)) [3] [0, 1, 2, 4, 5] rfl rfl rfl rfl (by decide) ⟨rfl, rfl⟩ 0 0 rfl rfl (Nat.le_of_ble_eq_true rfl) (Nat.le_of_ble_eq_true rfl) rfl (Nat.le_of_ble_eq_true rfl) dX6_load_73 76 rfl (fun v29 w30 h31 => ?_) (fun _ _ h => h.elim)
      obtain ⟨rfl, i28, j28, rfl, hr28, gi28, fj28⟩ := h31
      show rn C (xSt F V0 [(b 1, .inl (1, 111, .inr (.inl r))), (b 7, .inl (1, 5, .inr (.inl t))), (b 8, .inl (1, 5, .inr (.inl ((ldS bf e).2.1)))), (b 13, .inl (0, 600, .inl bf)), (b 3, .inl (1, 111, .inr (.inl (ldR bf e)))), (b 0, .inr (5, mF b i28 j28))]) 0 0 76 [(2, .int 3), (0, .ref (b 0)), (1, .int (nI e))] [.int 0]
      refine r_pop hC dX6_load_76 rfl 77 rfl ?_
      refine r_aload_n hC 1 dX6_load_77 rfl 78 rfl ?_
      refine r_invVr hC kX6 (b 0) [] (.int 0) mVX6_isGood q2945 (fun _ h => h.get 5 rfl) (metX6_isGood _ _ hG b i28 _ 0 (by rw [rd_good hr28, okP_wr]; rfl)) (fun _ h => h.in.sub [5] rfl rfl) ⟨rfl, rfl⟩ 0 0 rfl rfl (Nat.le_of_ble_eq_true rfl) (Nat.le_of_ble_eq_true rfl) rfl (Nat.le_of_ble_eq_true rfl) dX6_load_78 81 rfl ?_
      refine r_ifne hC 92 dX6_load_81 (by decide) 84 rfl (fun h => absurd h (by decide)) (fun _ => ?_)
      refine r_bipush hC (-10) dX6_load_84 bp_m10 86 rfl ?_
      refine r_aload_n hC 1 dX6_load_86 rfl 87 rfl ?_
      refine r_get (v := .int (i28 21)) hC kX6 21 rfl q2774 (fun _ h => h.get 5 rfl) rfl dX6_load_87 90 rfl ?_
      refine r_isub hC ((-10) - (i28 21)) dX6_load_90  (rfl) 91 rfl ?_
      exact r_iret hC (Nat.le_of_ble_eq_true rfl) (Nat.le_of_ble_eq_true rfl) (fun V9 h => hQ _ _ (by obtain ⟨c, p, e1, e2, e3⟩ := rd_err hr28 okP_wr; exact ⟨[(b 0, .inr (5, mF b i28 j28)), (b 13, .inl (0, 600, .inl bf)), (b 8, .inl (1, 5, .inr (.inl ((ldS bf e).2.1)))), (b 3, .inl (1, 111, .inr (.inl (ldR bf e)))), (b 1, .inl (1, 111, .inr (.inl r))), (b 7, .inl (1, 5, .inr (.inl t)))], Or.inl ⟨c, p, _, _, _, _, (end_n (fun h => c24 ((rd_kind hr19 hk23).mpr h))).trans e1, by rw [e2], rfl, ((((((((gI_refl i8).trans gi7).trans gi11).trans gi15).trans gi19).trans gi28) 0 (by decide) (by decide) (by decide) (by decide) (by decide)).trans (ef8 0 (by decide) (by decide) (by decide) (by decide) (by decide) (by decide) (by decide))), ((((((((gI_refl i8).trans gi7).trans gi11).trans gi15).trans gi19).trans gi28) 14 (by decide) (by decide) (by decide) (by decide) (by decide)).trans e14), e3, (ldF_of ef8 ((((((gI_refl i8).trans gi7).trans gi11).trans gi15).trans gi19).trans gi28)), (fj8.trans ((((((fJ_refl j8).trans fj7).trans fj11).trans fj15).trans fj19).trans fj28))⟩, by rw [← hV0, ← hF]; exact (h.sub [5, 3, 2, 4, 0, 1] rfl rfl)⟩)) dX6_load_91
  · skip
    refine r_invVr hC kX6 (b 0) [] (.int 0) mVX6_isGood q2945 (fun _ h => h.get 3 rfl) (metX6_isGood _ _ hG b i19 _ 0 (by rw [rd_good hr19, hk23]; rfl)) (fun _ h => h.in.sub [3] rfl rfl) ⟨rfl, rfl⟩ 0 0 rfl rfl (Nat.le_of_ble_eq_true rfl) (Nat.le_of_ble_eq_true rfl) rfl (Nat.le_of_ble_eq_true rfl) dX6_load_58 61 rfl ?_
    refine r_ifeq hC 77 dX6_load_61 (by decide) 64 rfl (fun _ => ?_) (fun h => absurd h (by decide))
    refine r_aload_n hC 1 dX6_load_77 rfl 78 rfl ?_
    refine r_invVr hC kX6 (b 0) [] (.int 0) mVX6_isGood q2945 (fun _ h => h.get 3 rfl) (metX6_isGood _ _ hG b i19 _ 0 (by rw [rd_good hr19, hk23]; rfl)) (fun _ h => h.in.sub [3] rfl rfl) ⟨rfl, rfl⟩ 0 0 rfl rfl (Nat.le_of_ble_eq_true rfl) (Nat.le_of_ble_eq_true rfl) rfl (Nat.le_of_ble_eq_true rfl) dX6_load_78 81 rfl ?_
    refine r_ifne hC 92 dX6_load_81 (by decide) 84 rfl (fun h => absurd h (by decide)) (fun _ => ?_)
    refine r_bipush hC (-10) dX6_load_84 bp_m10 86 rfl ?_
    refine r_aload_n hC 1 dX6_load_86 rfl 87 rfl ?_
    refine r_get (v := .int (i19 21)) hC kX6 21 rfl q2774 (fun _ h => h.get 3 rfl) rfl dX6_load_87 90 rfl ?_
    refine r_isub hC ((-10) - (i19 21)) dX6_load_90  (rfl) 91 rfl ?_
    exact r_iret hC (Nat.le_of_ble_eq_true rfl) (Nat.le_of_ble_eq_true rfl) (fun V9 h => hQ _ _ (by obtain ⟨c, p, e1, e2, e3⟩ := rd_err hr19 hk23; exact ⟨[(b 0, .inr (5, mF b i19 j19)), (b 13, .inl (0, 600, .inl bf)), (b 8, .inl (1, 5, .inr (.inl ((ldS bf e).2.1)))), (b 3, .inl (1, 111, .inr (.inl (ldR bf e)))), (b 1, .inl (1, 111, .inr (.inl r))), (b 7, .inl (1, 5, .inr (.inl t)))], Or.inl ⟨c, p, _, _, _, _, (end_bad hk23).trans e1, by rw [e2], rfl, (((((((gI_refl i8).trans gi7).trans gi11).trans gi15).trans gi19) 0 (by decide) (by decide) (by decide) (by decide) (by decide)).trans (ef8 0 (by decide) (by decide) (by decide) (by decide) (by decide) (by decide) (by decide))), (((((((gI_refl i8).trans gi7).trans gi11).trans gi15).trans gi19) 14 (by decide) (by decide) (by decide) (by decide) (by decide)).trans e14), e3, (ldF_of ef8 (((((gI_refl i8).trans gi7).trans gi11).trans gi15).trans gi19)), (fj8.trans (((((fJ_refl j8).trans fj7).trans fj11).trans fj15).trans fj19))⟩, by rw [← hV0, ← hF]; exact (h.sub [3, 4, 2, 5, 0, 1] rfl rfl)⟩)) dX6_load_91
set_option maxHeartbeats 4000000 in
set_option maxRecDepth 100000 in
theorem metX6_loadB (l : Launch) (G : xG) (hG : xGood G) (b : Nat → Nat) (i : Nat → Int32) (j : Nat → Int64) (x : Int32) (hx : bI (m_in x.toInt64 0 (i 14).toInt64) = 0) : xWm l G yX6_load (Cond.code yX6_load cX6_load 3 (some .int)) { frames := 1, locals := 25, cells := 0, slots := 0 } [.ref (b 0), .int x] [(b 0, .inr (5, mF b i j))] (fun v w' => v = some (.int 0) ∧ w' = [(b 0, .inr (5, mF b (va_up i 0 1) j))]) (fun _ _ => False) := by
  intro V hV
  refine xMet_of RX6 hG rfl (by decide) (Nat.le_of_ble_eq_true rfl) fun C hC hQ hX hl hg _ => ?_
  subst hl hg
  obtain ⟨V0, hV0⟩ : ∃ V0, V0 = V := ⟨_, rfl⟩
  obtain ⟨F, hF⟩ : ∃ F, F = xF [(b 0, .inr (5, mF b i j))] := ⟨_, rfl⟩
  refine rn.mono (J := xSt F V0 [(b 0, .inr (5, mF b i j))]) (fun V9 h => by rw [h, hV0, hF]; exact hV.st) ?_
  show rn C (xSt F V0 [(b 0, .inr (5, mF b i j))]) 0 0 0 [(0, .ref (b 0)), (1, .int x)] []
  refine r_aload_n hC 0 dX6_load_0 rfl 1 rfl ?_
  refine r_iconst hC 0 dX6_load_1 ic_0 2 rfl ?_
  refine r_put (J := xSt F V0 [(b 0, .inr (5, mF b (va_up i 0 0) j))]) hC kX6 0 rfl q2753 rfl (fun _ h => h.get 0 rfl) (Nat.le_of_ble_eq_true rfl) rfl rfl dX6_load_2 (fun _ h => h.set 0 _ rfl) 5 rfl ?_
  refine r_aload_n hC 0 dX6_load_5 rfl 6 rfl ?_
  refine r_iload_n hC 1 dX6_load_6 rfl 7 rfl ?_
  refine r_i2l hC x.toInt64 dX6_load_7 (rfl) 8 rfl ?_
  refine r_lconst hC 0 dX6_load_8 lc_0 9 rfl ?_
  refine r_aload_n hC 0 dX6_load_9 rfl 10 rfl ?_
  refine r_get (v := .int (i 14)) hC kX6 14 rfl q2767 (fun _ h => h.get 0 rfl) rfl dX6_load_10 13 rfl ?_
  refine r_i2l hC ((i 14).toInt64) dX6_load_13 (rfl) 14 rfl ?_
  refine r_invSr hC [.long x.toInt64, .long 0, .long ((i 14).toInt64)] (.int 0) mSX6_in q2891 (metX6_inB _ _ hG x.toInt64 0 ((i 14).toInt64) 0 (hx)) (fun _ _ => xIn.nil) ⟨rfl, rfl⟩ 0 0 rfl rfl (Nat.le_of_ble_eq_true rfl) (Nat.le_of_ble_eq_true rfl) rfl (Nat.le_of_ble_eq_true rfl) dX6_load_14 17 rfl ?_
  refine r_iconst hC 1 dX6_load_17 ic_1 18 rfl ?_
  refine r_invVw hC kX6 (b 0) [.int 0, .int 1] [] mVX6_fails q2894 0 rfl (metX6_fails0 _ _ hG b _ _ 1) [0] [] rfl rfl rfl rfl (by decide) ⟨rfl, rfl⟩ 0 0 rfl rfl (Nat.le_of_ble_eq_true rfl) (Nat.le_of_ble_eq_true rfl) rfl (Nat.le_of_ble_eq_true rfl) dX6_load_18 21 rfl (fun v1 w2 h3 => ?_) (fun _ _ h => h.elim)
  obtain ⟨rfl, rfl⟩ := h3
  show rn C (xSt F V0 [(b 0, .inr (5, mF b (va_up (va_up i 0 0) 0 1) j))]) 0 0 21 [(0, .ref (b 0)), (1, .int x)] [.int 1]
  refine r_ifeq hC 26 dX6_load_21 (by decide) 24 rfl (fun h => absurd h (by decide)) (fun _ => ?_)
  refine r_iconst hC 0 dX6_load_24 ic_0 25 rfl ?_
  exact r_iret hC (Nat.le_of_ble_eq_true rfl) (Nat.le_of_ble_eq_true rfl) (fun V9 h => hQ _ _ ⟨[(b 0, .inr (5, mF b (va_up (va_up i 0 0) 0 1) j))], ⟨rfl, by simp only [bx_uu]⟩, by rw [← hV0, ← hF]; exact h⟩) dX6_load_25
