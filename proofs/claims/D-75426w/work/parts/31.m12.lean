/-! ===== the reference: the best period, changes ===== -/
set_option maxRecDepth 100000
def best1 (kd : Nat) (pa : Nat → Int64) (c : Nat) (s : Int32 × Int64) : Int32 × Int64 := if fitsQ kd c = true then (if errQ kd pa c < s.2 then (nI c, errQ kd pa c) else s) else s
def bestL (kd : Nat) (pa : Nat → Int64) : Nat → Nat → Int32 × Int64 → Int32 × Int64
  | 0, _, s => s
  | f + 1, c, s => bestL kd pa f (c + 1) (best1 kd pa c s)
def bestQ (t r pa : Nat → Int64) (kd N : Nat) : Int32 := (bestL kd (pathQ t r pa N).2.2 ((pathQ t r pa N).1 + 1 - 2) 2 (-1, 4611686018427387904)).1
set_option maxHeartbeats 4000000 in
set_option maxRecDepth 100000 in
theorem lpX6_best {C : xC} {F : Nat → Prop} {V0 : xV} {k n : Nat} (hG : xGood (xGG C)) (hC : xCtx C RX6 cX6_bestPeriod 10 (some .int) { frames := 8, locals := 201, cells := 0, slots := 0 }) (hk0 : k = 0) (hn0 : n = 0) (b : Nat → Nat) (i : Nat → Int32) (j : Nat → Int64) (t r th g h0 pa : Nat → Int64) (kd Mn : Nat) (hkd : kd < 4) (hM : Mn ≤ 300) : ∀ (f c : Nat) (e : Int32 × Int64), (c + f = Mn + 1 ∧ 1 < c) → (rn C (xSt F V0 [(b 0, .inr (5, mF b i j)), (b 7, .inl (1, 5, .inr (.inl t))), (b 1, .inl (1, 111, .inr (.inl r))), (b 2, .inl (1, 111, .inr (.inl th))), (b 23, .inl (1, 6, .inr (.inl g))), (b 24, .inl (1, 21, .inr (.inl h0))), (b 25, .inl (1, 1806, .inr (.inl pa)))]) k n 119 [(4, .int (bestL kd pa f c e).1)] []) → rn C (xSt F V0 [(b 0, .inr (5, mF b i j)), (b 7, .inl (1, 5, .inr (.inl t))), (b 1, .inl (1, 111, .inr (.inl r))), (b 2, .inl (1, 111, .inr (.inl th))), (b 23, .inl (1, 6, .inr (.inl g))), (b 24, .inl (1, 21, .inr (.inl h0))), (b 25, .inl (1, 1806, .inr (.inl pa)))]) k n 67 [(7, .int (nI c)), (4, .int e.1), (5, .long e.2), (3, .int (nI Mn)), (0, .ref (b 0)), (1, .int (nI kd))] [] := by
  subst hk0 hn0
  intro f
  induction f with
  | zero =>
    intro c e hc kx
    refine r_iload hC 0 dX6_bestPeriod_67 rfl 69 rfl ?_
    refine r_iload_n hC 3 dX6_bestPeriod_69 rfl 70 rfl ?_
    refine r_icgt hC 119 dX6_bestPeriod_70 (by decide) 73 rfl (fun _ => ?_) (fun h => absurd (nI_lt (by omega) (by omega)) h)
    refine rn.sub (lv' := [(4, .int e.1)]) [1] rfl ?_
    exact kx
  | succ f ih =>
    intro c e hc kx
    refine r_iload hC 0 dX6_bestPeriod_67 rfl 69 rfl ?_
    refine r_iload_n hC 3 dX6_bestPeriod_69 rfl 70 rfl ?_
    refine r_icgt hC 119 dX6_bestPeriod_70 (by decide) 73 rfl (fun h => absurd h (nI_nlt (by omega) (by omega))) (fun _ => ?_)
    refine r_iload_n hC 5 dX6_bestPeriod_73 rfl 74 rfl ?_
    refine r_iload hC 0 dX6_bestPeriod_74 rfl 76 rfl ?_
    refine r_invSr hC [.int (nI kd), .int (nI c)] (.int (bI (fitsQ kd c))) mSX6_fits q3175 (metX6_fits _ _ hG c (by omega) kd (by omega) _ rfl) (fun _ _ => xIn.nil) ⟨rfl, rfl⟩ 0 0 rfl rfl (Nat.le_of_ble_eq_true rfl) (Nat.le_of_ble_eq_true rfl) rfl (Nat.le_of_ble_eq_true rfl) dX6_bestPeriod_76 79 rfl ?_
    refine r_ifne hC 85 dX6_bestPeriod_79 (by decide) 82 rfl (fun c1 => ?_) (fun c1 => ?_)
    · skip
      refine r_aload_n hC 4 dX6_bestPeriod_85 rfl 86 rfl ?_
      refine r_iload_n hC 5 dX6_bestPeriod_86 rfl 87 rfl ?_
      refine r_iload hC 0 dX6_bestPeriod_87 rfl 89 rfl ?_
      refine r_invVr hC kX6 (b 0) [.int (nI kd), .int (nI c)] (.long (errQ kd pa c)) mVX6_errorOf q3190 (fun _ h => h.get 0 rfl) (metX6_errorOf _ _ hG b _ _ _ c (by omega) (by omega) kd (by omega)) (fun _ h => h.in.sub [0, 6] rfl rfl) ⟨rfl, rfl⟩ 0 0 rfl rfl (Nat.le_of_ble_eq_true rfl) (Nat.le_of_ble_eq_true rfl) rfl (Nat.le_of_ble_eq_true rfl) dX6_bestPeriod_89 92 rfl ?_
      refine r_lstore hC 8 [(8, .long (errQ kd pa c)), (7, .int (nI c)), (4, .int e.1), (5, .long e.2), (3, .int (nI Mn)), (0, .ref (b 0)), (1, .int (nI kd))] dX6_bestPeriod_92 (Nat.le_of_ble_eq_true rfl) rfl 94 rfl ?_
      refine r_lload hC 0 dX6_bestPeriod_94 rfl 96 rfl ?_
      refine r_lload hC 3 dX6_bestPeriod_96 rfl 98 rfl ?_
      refine r_lclt hC 105 dX6_bestPeriod_98 dX6_bestPeriod_99 (by decide) 102 rfl (fun c2 => ?_) (fun c2 => ?_)
      · skip
        refine r_iload hC 1 dX6_bestPeriod_105 rfl 107 rfl ?_
        refine r_istore hC 4 [(4, .int (nI c)), (8, .long (errQ kd pa c)), (7, .int (nI c)), (5, .long e.2), (3, .int (nI Mn)), (0, .ref (b 0)), (1, .int (nI kd))] dX6_bestPeriod_107 (Nat.le_of_ble_eq_true rfl) rfl 109 rfl ?_
        refine r_lload hC 1 dX6_bestPeriod_109 rfl 111 rfl ?_
        refine r_lstore hC 5 [(5, .long (errQ kd pa c)), (4, .int (nI c)), (8, .long (errQ kd pa c)), (7, .int (nI c)), (3, .int (nI Mn)), (0, .ref (b 0)), (1, .int (nI kd))] dX6_bestPeriod_111 (Nat.le_of_ble_eq_true rfl) rfl 113 rfl ?_
        refine r_iinc hC (nI (c + 1)) 7 3 [(7, .int (nI (c + 1))), (5, .long (errQ kd pa c)), (4, .int (nI c)), (8, .long (errQ kd pa c)), (3, .int (nI Mn)), (0, .ref (b 0)), (1, .int (nI kd))] dX6_bestPeriod_113 rfl (nI_add c 1) (Nat.le_of_ble_eq_true rfl) rfl 116 rfl ?_
        refine r_goto hC 67 dX6_bestPeriod_116 (by decide) ?_
        have hb : best1 kd pa c e = (nI c, errQ kd pa c) := by rw [best1, if_pos (bI_n0.mp c1), if_pos c2]
        rw [bestL, hb] at kx
        refine rn.sub (lv' := [(7, .int (nI (c + 1))), (4, .int (nI c)), (5, .long (errQ kd pa c)), (3, .int (nI Mn)), (0, .ref (b 0)), (1, .int (nI kd))]) [0, 2, 1, 4, 5, 6] rfl ?_
        exact ih (c + 1) (nI c, errQ kd pa c) (by omega) kx
      · skip
        refine r_goto hC 113 dX6_bestPeriod_102 (by decide) ?_
        refine r_iinc hC (nI (c + 1)) 7 1 [(7, .int (nI (c + 1))), (8, .long (errQ kd pa c)), (4, .int e.1), (5, .long e.2), (3, .int (nI Mn)), (0, .ref (b 0)), (1, .int (nI kd))] dX6_bestPeriod_113 rfl (nI_add c 1) (Nat.le_of_ble_eq_true rfl) rfl 116 rfl ?_
        refine r_goto hC 67 dX6_bestPeriod_116 (by decide) ?_
        have hb : best1 kd pa c e = e := by rw [best1, if_pos (bI_n0.mp c1), if_neg c2]
        rw [bestL, hb] at kx
        refine rn.sub (lv' := [(7, .int (nI (c + 1))), (4, .int e.1), (5, .long e.2), (3, .int (nI Mn)), (0, .ref (b 0)), (1, .int (nI kd))]) [0, 2, 3, 4, 5, 6] rfl ?_
        exact ih (c + 1) e (by omega) kx
    · skip
      refine r_goto hC 113 dX6_bestPeriod_82 (by decide) ?_
      refine r_iinc hC (nI (c + 1)) 7 0 [(7, .int (nI (c + 1))), (4, .int e.1), (5, .long e.2), (3, .int (nI Mn)), (0, .ref (b 0)), (1, .int (nI kd))] dX6_bestPeriod_113 rfl (nI_add c 1) (Nat.le_of_ble_eq_true rfl) rfl 116 rfl ?_
      refine r_goto hC 67 dX6_bestPeriod_116 (by decide) ?_
      have hb : best1 kd pa c e = e := by rw [best1, if_neg (by rw [bI_0.mp c1]; decide)]
      rw [bestL, hb] at kx
      refine rn.sub (lv' := [(7, .int (nI (c + 1))), (4, .int e.1), (5, .long e.2), (3, .int (nI Mn)), (0, .ref (b 0)), (1, .int (nI kd))]) [0, 1, 2, 3, 4, 5] rfl ?_
      exact ih (c + 1) e (by omega) kx
set_option maxHeartbeats 4000000 in
set_option maxRecDepth 100000 in
theorem metX6_bestPeriodG (l : Launch) (G : xG) (hG : xGood G) (b : Nat → Nat) (i : Nat → Int32) (j : Nat → Int64) (t r th g h0 pa : Nat → Int64) (kd N : Nat) (ht : tOK t) (hm : mOK r) (hkd : kd < 4) (hN : N ≤ 300) (hN2 : 2 ≤ N) : xWm l G yX6_bestPeriod (Cond.code yX6_bestPeriod cX6_bestPeriod 10 (some .int)) { frames := 8, locals := 201, cells := 0, slots := 0 } [.ref (b 0), .int (nI kd), .int (nI N)] [(b 0, .inr (5, mF b i j)), (b 7, .inl (1, 5, .inr (.inl t))), (b 1, .inl (1, 111, .inr (.inl r))), (b 2, .inl (1, 111, .inr (.inl th))), (b 23, .inl (1, 6, .inr (.inl g))), (b 24, .inl (1, 21, .inr (.inl h0))), (b 25, .inl (1, 1806, .inr (.inl pa)))] (fun v w' => ∃ th' g' h' : Nat → Int64, v = some (.int (bestQ t r pa kd N)) ∧ w' = [(b 0, .inr (5, mF b (va_up i 0 0) j)), (b 7, .inl (1, 5, .inr (.inl t))), (b 1, .inl (1, 111, .inr (.inl r))), (b 2, .inl (1, 111, .inr (.inl th'))), (b 23, .inl (1, 6, .inr (.inl g'))), (b 24, .inl (1, 21, .inr (.inl h'))), (b 25, .inl (1, 1806, .inr (.inl ((pathQ t r pa N).2.2))))]) (fun _ _ => False) := by
  intro V hV
  refine xMet_of RX6 hG rfl (by decide) (Nat.le_of_ble_eq_true rfl) fun C hC hQ hX hl hg _ => ?_
  subst hl hg
  obtain ⟨V0, hV0⟩ : ∃ V0, V0 = V := ⟨_, rfl⟩
  obtain ⟨F, hF⟩ : ∃ F, F = xF [(b 0, .inr (5, mF b i j)), (b 7, .inl (1, 5, .inr (.inl t))), (b 1, .inl (1, 111, .inr (.inl r))), (b 2, .inl (1, 111, .inr (.inl th))), (b 23, .inl (1, 6, .inr (.inl g))), (b 24, .inl (1, 21, .inr (.inl h0))), (b 25, .inl (1, 1806, .inr (.inl pa)))] := ⟨_, rfl⟩
  refine rn.mono (J := xSt F V0 [(b 0, .inr (5, mF b i j)), (b 7, .inl (1, 5, .inr (.inl t))), (b 1, .inl (1, 111, .inr (.inl r))), (b 2, .inl (1, 111, .inr (.inl th))), (b 23, .inl (1, 6, .inr (.inl g))), (b 24, .inl (1, 21, .inr (.inl h0))), (b 25, .inl (1, 1806, .inr (.inl pa)))]) (fun V9 h => by rw [h, hV0, hF]; exact hV.st) ?_
  show rn C (xSt F V0 [(b 0, .inr (5, mF b i j)), (b 7, .inl (1, 5, .inr (.inl t))), (b 1, .inl (1, 111, .inr (.inl r))), (b 2, .inl (1, 111, .inr (.inl th))), (b 23, .inl (1, 6, .inr (.inl g))), (b 24, .inl (1, 21, .inr (.inl h0))), (b 25, .inl (1, 1806, .inr (.inl pa)))]) 0 0 0 [(0, .ref (b 0)), (1, .int (nI kd)), (2, .int (nI N))] []
  refine r_aload_n hC 0 dX6_bestPeriod_0 rfl 1 rfl ?_
  refine r_iconst hC 0 dX6_bestPeriod_1 ic_0 2 rfl ?_
  refine r_put (J := xSt F V0 [(b 0, .inr (5, mF b (va_up i 0 0) j)), (b 7, .inl (1, 5, .inr (.inl t))), (b 1, .inl (1, 111, .inr (.inl r))), (b 2, .inl (1, 111, .inr (.inl th))), (b 23, .inl (1, 6, .inr (.inl g))), (b 24, .inl (1, 21, .inr (.inl h0))), (b 25, .inl (1, 1806, .inr (.inl pa)))]) hC kX6 0 rfl q2753 rfl (fun _ h => h.get 0 rfl) (Nat.le_of_ble_eq_true rfl) rfl rfl dX6_bestPeriod_2 (fun _ h => h.set 0 _ rfl) 5 rfl ?_
  refine r_aload_n hC 0 dX6_bestPeriod_5 rfl 6 rfl ?_
  refine r_iload_n hC 1 dX6_bestPeriod_6 rfl 7 rfl ?_
  refine r_i2l hC ((nI kd).toInt64) dX6_bestPeriod_7 (rfl) 8 rfl ?_
  refine r_lconst hC 0 dX6_bestPeriod_8 lc_0 9 rfl ?_
  refine r_ldc2 hC q3173 dX6_bestPeriod_9 12 rfl ?_
  refine r_invSr hC [.long ((nI kd).toInt64), .long 0, .long 3] (.int 1) mSX6_in q2891 (metX6_inB _ _ hG ((nI kd).toInt64) 0 3 1 (in_n (N := 3) (by omega) rfl (by decide))) (fun _ _ => xIn.nil) ⟨rfl, rfl⟩ 0 0 rfl rfl (Nat.le_of_ble_eq_true rfl) (Nat.le_of_ble_eq_true rfl) rfl (Nat.le_of_ble_eq_true rfl) dX6_bestPeriod_12 15 rfl ?_
  refine r_ifeq hC 36 dX6_bestPeriod_15 (by decide) 18 rfl (fun h => absurd h (by decide)) (fun _ => ?_)
  refine r_iload_n hC 2 dX6_bestPeriod_18 rfl 19 rfl ?_
  refine r_i2l hC ((nI N).toInt64) dX6_bestPeriod_19 (rfl) 20 rfl ?_
  refine r_ldc2 hC q2728 dX6_bestPeriod_20 23 rfl ?_
  refine r_ldc2 hC q3174 dX6_bestPeriod_23 26 rfl ?_
  refine r_invSr hC [.long ((nI N).toInt64), .long 2, .long 300] (.int 1) mSX6_in q2891 (metX6_inB _ _ hG ((nI N).toInt64) 2 300 1 (in_lo (L := 2) (N := 300) (by omega) (by omega) rfl rfl (by decide))) (fun _ _ => xIn.nil) ⟨rfl, rfl⟩ 0 0 rfl rfl (Nat.le_of_ble_eq_true rfl) (Nat.le_of_ble_eq_true rfl) rfl (Nat.le_of_ble_eq_true rfl) dX6_bestPeriod_26 29 rfl ?_
  refine r_ifeq hC 36 dX6_bestPeriod_29 (by decide) 32 rfl (fun h => absurd h (by decide)) (fun _ => ?_)
  refine r_iconst hC 1 dX6_bestPeriod_32 ic_1 33 rfl ?_
  refine r_goto hC 37 dX6_bestPeriod_33 (by decide) ?_
  refine r_iconst hC 1 dX6_bestPeriod_37 ic_1 38 rfl ?_
  refine r_invVr hC kX6 (b 0) [.int 1, .int 1] (.int 0) mVX6_fails q2894 (fun _ h => h.get 0 rfl) (metX6_fails1 _ _ hG b _ _ 1) (fun _ h => h.in.sub [0] rfl rfl) ⟨rfl, rfl⟩ 0 0 rfl rfl (Nat.le_of_ble_eq_true rfl) (Nat.le_of_ble_eq_true rfl) rfl (Nat.le_of_ble_eq_true rfl) dX6_bestPeriod_38 41 rfl ?_
  refine r_ifeq hC 46 dX6_bestPeriod_41 (by decide) 44 rfl (fun _ => ?_) (fun h => absurd h (by decide))
  refine r_aload_n hC 0 dX6_bestPeriod_46 rfl 47 rfl ?_
  refine r_aload_n hC 0 dX6_bestPeriod_47 rfl 48 rfl ?_
  refine r_get (v := .ref (b 1)) hC kX6 1 rfl q2754 (fun _ h => h.get 0 rfl) rfl dX6_bestPeriod_48 51 rfl ?_
  refine r_iload_n hC 2 dX6_bestPeriod_51 rfl 52 rfl ?_
  refine r_invVw hC kX6 (b 0) [.ref (b 1), .int (nI N)] [] mVX6_laysPath q3182 0 rfl (metX6_laysPath _ _ hG b _ _ (b 1) _ _ _ _ _ _ N ht hm (by omega)) [0, 1, 3, 4, 5, 6, 2] [] rfl rfl rfl rfl (by decide) ⟨rfl, rfl⟩ 0 0 rfl rfl (Nat.le_of_ble_eq_true rfl) (Nat.le_of_ble_eq_true rfl) rfl (Nat.le_of_ble_eq_true rfl) dX6_bestPeriod_52 55 rfl (fun v4 w5 h6 => ?_) (fun _ _ h => h.elim)
  obtain ⟨th1, g2, h3, rfl, rfl⟩ := h6
  show rn C (xSt F V0 [(b 0, .inr (5, mF b (va_up i 0 0) j)), (b 7, .inl (1, 5, .inr (.inl t))), (b 2, .inl (1, 111, .inr (.inl th1))), (b 23, .inl (1, 6, .inr (.inl g2))), (b 24, .inl (1, 21, .inr (.inl h3))), (b 25, .inl (1, 1806, .inr (.inl ((pathQ t r pa N).2.2)))), (b 1, .inl (1, 111, .inr (.inl r)))]) 0 0 55 [(0, .ref (b 0)), (1, .int (nI kd)), (2, .int (nI N))] [.int (nI ((pathQ t r pa N).1))]
  refine r_istore_n hC 3 [(3, .int (nI ((pathQ t r pa N).1))), (0, .ref (b 0)), (1, .int (nI kd)), (2, .int (nI N))] dX6_bestPeriod_55 rfl (Nat.le_of_ble_eq_true rfl) rfl 56 rfl ?_
  refine r_iconst hC (-1) dX6_bestPeriod_56 ic_m1 57 rfl ?_
  refine r_istore hC 4 [(4, .int (-1)), (3, .int (nI ((pathQ t r pa N).1))), (0, .ref (b 0)), (1, .int (nI kd)), (2, .int (nI N))] dX6_bestPeriod_57 (Nat.le_of_ble_eq_true rfl) rfl 59 rfl ?_
  refine r_ldc2 hC q3227 dX6_bestPeriod_59 62 rfl ?_
  refine r_lstore hC 5 [(5, .long 4611686018427387904), (4, .int (-1)), (3, .int (nI ((pathQ t r pa N).1))), (0, .ref (b 0)), (1, .int (nI kd)), (2, .int (nI N))] dX6_bestPeriod_62 (Nat.le_of_ble_eq_true rfl) rfl 64 rfl ?_
  refine r_iconst hC 2 dX6_bestPeriod_64 ic_2 65 rfl ?_
  refine r_istore hC 7 [(7, .int 2), (5, .long 4611686018427387904), (4, .int (-1)), (3, .int (nI ((pathQ t r pa N).1))), (0, .ref (b 0)), (1, .int (nI kd)), (2, .int (nI N))] dX6_bestPeriod_65 (Nat.le_of_ble_eq_true rfl) rfl 67 rfl ?_
  refine rn.mono (J := xSt F V0 [(b 0, .inr (5, mF b (va_up i 0 0) j)), (b 7, .inl (1, 5, .inr (.inl t))), (b 1, .inl (1, 111, .inr (.inl r))), (b 2, .inl (1, 111, .inr (.inl th1))), (b 23, .inl (1, 6, .inr (.inl g2))), (b 24, .inl (1, 21, .inr (.inl h3))), (b 25, .inl (1, 1806, .inr (.inl ((pathQ t r pa N).2.2))))]) (fun _ h => h.sub [0, 1, 6, 2, 3, 4, 5] rfl rfl) ?_
  refine rn.sub (lv' := [(7, .int 2), (4, .int (-1)), (5, .long 4611686018427387904), (3, .int (nI ((pathQ t r pa N).1))), (0, .ref (b 0)), (1, .int (nI kd))]) [0, 2, 1, 3, 4, 5] rfl ?_
  have hle : (pathQ t r pa N).1 ≤ N := pathL_le
  have hJ : rn C (xSt F V0 [(b 0, .inr (5, mF b (va_up i 0 0) j)), (b 7, .inl (1, 5, .inr (.inl t))), (b 1, .inl (1, 111, .inr (.inl r))), (b 2, .inl (1, 111, .inr (.inl th1))), (b 23, .inl (1, 6, .inr (.inl g2))), (b 24, .inl (1, 21, .inr (.inl h3))), (b 25, .inl (1, 1806, .inr (.inl ((pathQ t r pa N).2.2))))]) 0 0 119 [(4, .int (bestQ t r pa kd N))] [] → rn C (xSt F V0 [(b 0, .inr (5, mF b (va_up i 0 0) j)), (b 7, .inl (1, 5, .inr (.inl t))), (b 1, .inl (1, 111, .inr (.inl r))), (b 2, .inl (1, 111, .inr (.inl th1))), (b 23, .inl (1, 6, .inr (.inl g2))), (b 24, .inl (1, 21, .inr (.inl h3))), (b 25, .inl (1, 1806, .inr (.inl ((pathQ t r pa N).2.2))))]) 0 0 67 [(7, .int 2), (4, .int (-1)), (5, .long 4611686018427387904), (3, .int (nI ((pathQ t r pa N).1))), (0, .ref (b 0)), (1, .int (nI kd))] [] := by
    intro kJ
    by_cases h1 : 1 ≤ (pathQ t r pa N).1
    · exact lpX6_best hG hC rfl rfl b (va_up i 0 0) j t r th1 g2 h3 ((pathQ t r pa N).2.2) kd (pathQ t r pa N).1 hkd (by omega) ((pathQ t r pa N).1 + 1 - 2) 2 (-1, 4611686018427387904) (by omega) kJ
    · have h0 : (pathQ t r pa N).1 = 0 := by omega
      have hb : bestQ t r pa kd N = -1 := by unfold bestQ; rw [h0]; rfl
      rw [hb] at kJ
      refine r_iload hC 0 dX6_bestPeriod_67 rfl 69 rfl ?_
      refine r_iload_n hC 3 dX6_bestPeriod_69 rfl 70 rfl ?_
      refine r_icgt hC 119 dX6_bestPeriod_70 (by decide) 73 rfl (fun _ => ?_) (fun h => absurd (by rw [h0]; decide) h)
      refine rn.sub (lv' := [(4, .int (-1))]) [1] rfl ?_
      exact kJ
  refine hJ ?_
  refine r_iload hC 0 dX6_bestPeriod_119 rfl 121 rfl ?_
  exact r_iret hC (Nat.le_of_ble_eq_true rfl) (Nat.le_of_ble_eq_true rfl) (fun V9 h => hQ _ _ ⟨[(b 0, .inr (5, mF b (va_up i 0 0) j)), (b 7, .inl (1, 5, .inr (.inl t))), (b 1, .inl (1, 111, .inr (.inl r))), (b 2, .inl (1, 111, .inr (.inl th1))), (b 23, .inl (1, 6, .inr (.inl g2))), (b 24, .inl (1, 21, .inr (.inl h3))), (b 25, .inl (1, 1806, .inr (.inl ((pathQ t r pa N).2.2))))], ⟨th1, g2, h3, rfl, rfl⟩, by rw [← hV0, ← hF]; exact h⟩) dX6_bestPeriod_121
set_option maxHeartbeats 4000000 in
set_option maxRecDepth 100000 in
theorem metX6_bestPeriodB1 (l : Launch) (G : xG) (hG : xGood G) (b : Nat → Nat) (i : Nat → Int32) (j : Nat → Int64) (x y : Int32) (hx : bI (m_in x.toInt64 0 3) = 0) : xWm l G yX6_bestPeriod (Cond.code yX6_bestPeriod cX6_bestPeriod 10 (some .int)) { frames := 1, locals := 25, cells := 0, slots := 0 } [.ref (b 0), .int x, .int y] [(b 0, .inr (5, mF b i j))] (fun v w' => v = some (.int 0) ∧ w' = [(b 0, .inr (5, mF b (va_up i 0 1) j))]) (fun _ _ => False) := by
  intro V hV
  refine xMet_of RX6 hG rfl (by decide) (Nat.le_of_ble_eq_true rfl) fun C hC hQ hX hl hg _ => ?_
  subst hl hg
  obtain ⟨V0, hV0⟩ : ∃ V0, V0 = V := ⟨_, rfl⟩
  obtain ⟨F, hF⟩ : ∃ F, F = xF [(b 0, .inr (5, mF b i j))] := ⟨_, rfl⟩
  refine rn.mono (J := xSt F V0 [(b 0, .inr (5, mF b i j))]) (fun V9 h => by rw [h, hV0, hF]; exact hV.st) ?_
  show rn C (xSt F V0 [(b 0, .inr (5, mF b i j))]) 0 0 0 [(0, .ref (b 0)), (1, .int x), (2, .int y)] []
  refine r_aload_n hC 0 dX6_bestPeriod_0 rfl 1 rfl ?_
  refine r_iconst hC 0 dX6_bestPeriod_1 ic_0 2 rfl ?_
  refine r_put (J := xSt F V0 [(b 0, .inr (5, mF b (va_up i 0 0) j))]) hC kX6 0 rfl q2753 rfl (fun _ h => h.get 0 rfl) (Nat.le_of_ble_eq_true rfl) rfl rfl dX6_bestPeriod_2 (fun _ h => h.set 0 _ rfl) 5 rfl ?_
  refine r_aload_n hC 0 dX6_bestPeriod_5 rfl 6 rfl ?_
  refine r_iload_n hC 1 dX6_bestPeriod_6 rfl 7 rfl ?_
  refine r_i2l hC x.toInt64 dX6_bestPeriod_7 (rfl) 8 rfl ?_
  refine r_lconst hC 0 dX6_bestPeriod_8 lc_0 9 rfl ?_
  refine r_ldc2 hC q3173 dX6_bestPeriod_9 12 rfl ?_
  refine r_invSr hC [.long x.toInt64, .long 0, .long 3] (.int 0) mSX6_in q2891 (metX6_inB _ _ hG x.toInt64 0 3 0 (hx)) (fun _ _ => xIn.nil) ⟨rfl, rfl⟩ 0 0 rfl rfl (Nat.le_of_ble_eq_true rfl) (Nat.le_of_ble_eq_true rfl) rfl (Nat.le_of_ble_eq_true rfl) dX6_bestPeriod_12 15 rfl ?_
  refine r_ifeq hC 36 dX6_bestPeriod_15 (by decide) 18 rfl (fun _ => ?_) (fun h => absurd h (by decide))
  refine r_iconst hC 0 dX6_bestPeriod_36 ic_0 37 rfl ?_
  refine r_iconst hC 1 dX6_bestPeriod_37 ic_1 38 rfl ?_
  refine r_invVw hC kX6 (b 0) [.int 0, .int 1] [] mVX6_fails q2894 0 rfl (metX6_fails0 _ _ hG b _ _ 1) [0] [] rfl rfl rfl rfl (by decide) ⟨rfl, rfl⟩ 0 0 rfl rfl (Nat.le_of_ble_eq_true rfl) (Nat.le_of_ble_eq_true rfl) rfl (Nat.le_of_ble_eq_true rfl) dX6_bestPeriod_38 41 rfl (fun v1 w2 h3 => ?_) (fun _ _ h => h.elim)
  obtain ⟨rfl, rfl⟩ := h3
  show rn C (xSt F V0 [(b 0, .inr (5, mF b (va_up (va_up i 0 0) 0 1) j))]) 0 0 41 [(0, .ref (b 0)), (1, .int x), (2, .int y)] [.int 1]
  refine r_ifeq hC 46 dX6_bestPeriod_41 (by decide) 44 rfl (fun h => absurd h (by decide)) (fun _ => ?_)
  refine r_iconst hC 0 dX6_bestPeriod_44 ic_0 45 rfl ?_
  exact r_iret hC (Nat.le_of_ble_eq_true rfl) (Nat.le_of_ble_eq_true rfl) (fun V9 h => hQ _ _ ⟨[(b 0, .inr (5, mF b (va_up (va_up i 0 0) 0 1) j))], ⟨rfl, by simp only [bx_uu]⟩, by rw [← hV0, ← hF]; exact h⟩) dX6_bestPeriod_45
set_option maxHeartbeats 4000000 in
set_option maxRecDepth 100000 in
theorem metX6_bestPeriodB2 (l : Launch) (G : xG) (hG : xGood G) (b : Nat → Nat) (i : Nat → Int32) (j : Nat → Int64) (x y : Int32) (hx : bI (m_in x.toInt64 0 3) = 1) (hy : bI (m_in y.toInt64 2 300) = 0) : xWm l G yX6_bestPeriod (Cond.code yX6_bestPeriod cX6_bestPeriod 10 (some .int)) { frames := 1, locals := 25, cells := 0, slots := 0 } [.ref (b 0), .int x, .int y] [(b 0, .inr (5, mF b i j))] (fun v w' => v = some (.int 0) ∧ w' = [(b 0, .inr (5, mF b (va_up i 0 1) j))]) (fun _ _ => False) := by
  intro V hV
  refine xMet_of RX6 hG rfl (by decide) (Nat.le_of_ble_eq_true rfl) fun C hC hQ hX hl hg _ => ?_
  subst hl hg
  obtain ⟨V0, hV0⟩ : ∃ V0, V0 = V := ⟨_, rfl⟩
  obtain ⟨F, hF⟩ : ∃ F, F = xF [(b 0, .inr (5, mF b i j))] := ⟨_, rfl⟩
  refine rn.mono (J := xSt F V0 [(b 0, .inr (5, mF b i j))]) (fun V9 h => by rw [h, hV0, hF]; exact hV.st) ?_
  show rn C (xSt F V0 [(b 0, .inr (5, mF b i j))]) 0 0 0 [(0, .ref (b 0)), (1, .int x), (2, .int y)] []
  refine r_aload_n hC 0 dX6_bestPeriod_0 rfl 1 rfl ?_
  refine r_iconst hC 0 dX6_bestPeriod_1 ic_0 2 rfl ?_
  refine r_put (J := xSt F V0 [(b 0, .inr (5, mF b (va_up i 0 0) j))]) hC kX6 0 rfl q2753 rfl (fun _ h => h.get 0 rfl) (Nat.le_of_ble_eq_true rfl) rfl rfl dX6_bestPeriod_2 (fun _ h => h.set 0 _ rfl) 5 rfl ?_
  refine r_aload_n hC 0 dX6_bestPeriod_5 rfl 6 rfl ?_
  refine r_iload_n hC 1 dX6_bestPeriod_6 rfl 7 rfl ?_
  refine r_i2l hC x.toInt64 dX6_bestPeriod_7 (rfl) 8 rfl ?_
  refine r_lconst hC 0 dX6_bestPeriod_8 lc_0 9 rfl ?_
  refine r_ldc2 hC q3173 dX6_bestPeriod_9 12 rfl ?_
  refine r_invSr hC [.long x.toInt64, .long 0, .long 3] (.int 1) mSX6_in q2891 (metX6_inB _ _ hG x.toInt64 0 3 1 (hx)) (fun _ _ => xIn.nil) ⟨rfl, rfl⟩ 0 0 rfl rfl (Nat.le_of_ble_eq_true rfl) (Nat.le_of_ble_eq_true rfl) rfl (Nat.le_of_ble_eq_true rfl) dX6_bestPeriod_12 15 rfl ?_
  refine r_ifeq hC 36 dX6_bestPeriod_15 (by decide) 18 rfl (fun h => absurd h (by decide)) (fun _ => ?_)
  refine r_iload_n hC 2 dX6_bestPeriod_18 rfl 19 rfl ?_
  refine r_i2l hC y.toInt64 dX6_bestPeriod_19 (rfl) 20 rfl ?_
  refine r_ldc2 hC q2728 dX6_bestPeriod_20 23 rfl ?_
  refine r_ldc2 hC q3174 dX6_bestPeriod_23 26 rfl ?_
  refine r_invSr hC [.long y.toInt64, .long 2, .long 300] (.int 0) mSX6_in q2891 (metX6_inB _ _ hG y.toInt64 2 300 0 (hy)) (fun _ _ => xIn.nil) ⟨rfl, rfl⟩ 0 0 rfl rfl (Nat.le_of_ble_eq_true rfl) (Nat.le_of_ble_eq_true rfl) rfl (Nat.le_of_ble_eq_true rfl) dX6_bestPeriod_26 29 rfl ?_
  refine r_ifeq hC 36 dX6_bestPeriod_29 (by decide) 32 rfl (fun _ => ?_) (fun h => absurd h (by decide))
  refine r_iconst hC 0 dX6_bestPeriod_36 ic_0 37 rfl ?_
  refine r_iconst hC 1 dX6_bestPeriod_37 ic_1 38 rfl ?_
  refine r_invVw hC kX6 (b 0) [.int 0, .int 1] [] mVX6_fails q2894 0 rfl (metX6_fails0 _ _ hG b _ _ 1) [0] [] rfl rfl rfl rfl (by decide) ⟨rfl, rfl⟩ 0 0 rfl rfl (Nat.le_of_ble_eq_true rfl) (Nat.le_of_ble_eq_true rfl) rfl (Nat.le_of_ble_eq_true rfl) dX6_bestPeriod_38 41 rfl (fun v1 w2 h3 => ?_) (fun _ _ h => h.elim)
  obtain ⟨rfl, rfl⟩ := h3
  show rn C (xSt F V0 [(b 0, .inr (5, mF b (va_up (va_up i 0 0) 0 1) j))]) 0 0 41 [(0, .ref (b 0)), (1, .int x), (2, .int y)] [.int 1]
  refine r_ifeq hC 46 dX6_bestPeriod_41 (by decide) 44 rfl (fun h => absurd h (by decide)) (fun _ => ?_)
  refine r_iconst hC 0 dX6_bestPeriod_44 ic_0 45 rfl ?_
  exact r_iret hC (Nat.le_of_ble_eq_true rfl) (Nat.le_of_ble_eq_true rfl) (fun V9 h => hQ _ _ ⟨[(b 0, .inr (5, mF b (va_up (va_up i 0 0) 0 1) j))], ⟨rfl, by simp only [bx_uu]⟩, by rw [← hV0, ← hF]; exact h⟩) dX6_bestPeriod_45
def chBy (q : Nat) (x : Int64) : Int64 := if nI (q % 2) = 0 then x else -x
def chQ (r : Nat → Int64) (q : Nat) (x : Int64) : Nat → Int64 :=
  va_up (va_up r (6 + 5 * (q / 4) + (3 + (q / 2) % 2)) (r (6 + 5 * (q / 4) + (3 + (q / 2) % 2)) + chBy q x)) (6 + 5 * 2 + (3 + (q / 2) % 2)) ((va_up r (6 + 5 * (q / 4) + (3 + (q / 2) % 2)) (r (6 + 5 * (q / 4) + (3 + (q / 2) % 2)) + chBy q x)) (6 + 5 * 2 + (3 + (q / 2) % 2)) - chBy q x)
set_option maxHeartbeats 4000000 in
set_option maxRecDepth 100000 in
theorem metX6_changes (l : Launch) (G : xG) (hG : xGood G) (b : Nat → Nat) (i : Nat → Int32) (j : Nat → Int64) (r tr : Nat → Int64) (q : Nat) (hq : q < 8) (x : Int64) : xWm l G yX6_changes (Cond.code yX6_changes cX6_changes 7 (some .boolean)) { frames := 2, locals := 47, cells := 0, slots := 0 } [.ref (b 0), .int (nI q), .long x] [(b 0, .inr (5, mF b i j)), (b 1, .inl (1, 111, .inr (.inl r))), (b 4, .inl (1, 111, .inr (.inl tr)))] (fun v w' => v = some (.int (bI (isInQ (chQ r q x)))) ∧ w' = [(b 0, .inr (5, mF b i j)), (b 1, .inl (1, 111, .inr (.inl r))), (b 4, .inl (1, 111, .inr (.inl (chQ r q x))))]) (fun _ _ => False) := by
  intro V hV
  refine xMet_of RX6 hG rfl (by decide) (Nat.le_of_ble_eq_true rfl) fun C hC hQ hX hl hg _ => ?_
  subst hl hg
  obtain ⟨V0, hV0⟩ : ∃ V0, V0 = V := ⟨_, rfl⟩
  obtain ⟨F, hF⟩ : ∃ F, F = xF [(b 0, .inr (5, mF b i j)), (b 1, .inl (1, 111, .inr (.inl r))), (b 4, .inl (1, 111, .inr (.inl tr)))] := ⟨_, rfl⟩
  refine rn.mono (J := xSt F V0 [(b 0, .inr (5, mF b i j)), (b 1, .inl (1, 111, .inr (.inl r))), (b 4, .inl (1, 111, .inr (.inl tr)))]) (fun V9 h => by rw [h, hV0, hF]; exact hV.st) ?_
  show rn C (xSt F V0 [(b 0, .inr (5, mF b i j)), (b 1, .inl (1, 111, .inr (.inl r))), (b 4, .inl (1, 111, .inr (.inl tr)))]) 0 0 0 [(0, .ref (b 0)), (1, .int (nI q)), (2, .long x)] []
  refine r_aload_n hC 0 dX6_changes_0 rfl 1 rfl ?_
  refine r_get (v := .ref (b 1)) hC kX6 1 rfl q2754 (fun _ h => h.get 0 rfl) rfl dX6_changes_1 4 rfl ?_
  refine r_aload_n hC 0 dX6_changes_4 rfl 5 rfl ?_
  refine r_get (v := .ref (b 4)) hC kX6 4 rfl q2757 (fun _ h => h.get 0 rfl) rfl dX6_changes_5 8 rfl ?_
  refine r_invSw hC [.ref (b 1), .ref (b 4)] [(b 0, .inr (5, mF b i j))] mSX6_copy q2718 (metX6_copy _ _ hG (b 1) (b 4) _ _) [1, 2] [0] rfl rfl rfl rfl (by decide) ⟨rfl, rfl⟩ 0 0 rfl rfl (Nat.le_of_ble_eq_true rfl) (Nat.le_of_ble_eq_true rfl) rfl (Nat.le_of_ble_eq_true rfl) dX6_changes_8 11 rfl (fun v1 w2 h3 => ?_) (fun _ _ h => h.elim)
  obtain ⟨rfl, rfl⟩ := h3
  show rn C (xSt F V0 [(b 0, .inr (5, mF b i j)), (b 1, .inl (1, 111, .inr (.inl r))), (b 4, .inl (1, 111, .inr (.inl r)))]) 0 0 11 [(0, .ref (b 0)), (1, .int (nI q)), (2, .long x)] []
  refine r_iconst hC 3 dX6_changes_11 ic_3 12 rfl ?_
  refine r_iload_n hC 1 dX6_changes_12 rfl 13 rfl ?_
  refine r_iconst hC 2 dX6_changes_13 ic_2 14 rfl ?_
  refine r_idiv hC (nI (q / 2)) dX6_changes_14 (by decide) (pk_div (a := q) (d := 2) (by omega) (by omega) (by omega)) 15 rfl ?_
  refine r_iconst hC 2 dX6_changes_15 ic_2 16 rfl ?_
  refine r_irem hC (nI ((q / 2) % 2)) dX6_changes_16 (by decide) (pk_rem (a := q / 2) (d := 2) (by omega) (by omega) (by omega)) 17 rfl ?_
  refine r_iadd hC (nI (3 + (q / 2) % 2)) dX6_changes_17  (nI_add 3 ((q / 2) % 2)) 18 rfl ?_
  refine r_istore hC 4 [(4, .int (nI (3 + (q / 2) % 2))), (0, .ref (b 0)), (1, .int (nI q)), (2, .long x)] dX6_changes_18 (Nat.le_of_ble_eq_true rfl) rfl 20 rfl ?_
  refine r_iload_n hC 2 dX6_changes_20 rfl 21 rfl ?_
  refine r_iconst hC 2 dX6_changes_21 ic_2 22 rfl ?_
  refine r_irem hC (nI (q % 2)) dX6_changes_22 (by decide) (pk_rem (a := q) (d := 2) (by omega) (by omega) (by omega)) 23 rfl ?_
  have J4 : rn C (xSt F V0 [(b 0, .inr (5, mF b i j)), (b 1, .inl (1, 111, .inr (.inl r))), (b 4, .inl (1, 111, .inr (.inl r)))]) 0 0 32 [(4, .int (nI (3 + (q / 2) % 2))), (0, .ref (b 0)), (1, .int (nI q)), (2, .long x)] [.long (if (nI (q % 2)) = 0 then x else -x)] → rn C (xSt F V0 [(b 0, .inr (5, mF b i j)), (b 1, .inl (1, 111, .inr (.inl r))), (b 4, .inl (1, 111, .inr (.inl r)))]) 0 0 23 [(4, .int (nI (3 + (q / 2) % 2))), (0, .ref (b 0)), (1, .int (nI q)), (2, .long x)] [.int (nI (q % 2))] := by
    intro kJ
    refine r_ifne hC 30 dX6_changes_23 (by decide) 26 rfl (fun c5 => ?_) (fun c5 => ?_)
    · rw [if_neg c5] at kJ
      refine r_lload_n hC 3 dX6_changes_30 rfl 31 rfl ?_
      refine r_lneg hC (-x) dX6_changes_31 (rfl) 32 rfl ?_
      exact kJ
    · rw [if_pos c5] at kJ
      refine r_lload_n hC 3 dX6_changes_26 rfl 27 rfl ?_
      refine r_goto hC 32 dX6_changes_27 (by decide) ?_
      exact kJ
  refine J4 ?_
  clear J4
  refine r_lstore hC 5 [(5, .long (if (nI (q % 2)) = 0 then x else -x)), (4, .int (nI (3 + (q / 2) % 2))), (0, .ref (b 0)), (1, .int (nI q)), (2, .long x)] dX6_changes_32 (Nat.le_of_ble_eq_true rfl) rfl 34 rfl ?_
  refine r_aload_n hC 2 dX6_changes_34 rfl 35 rfl ?_
  refine r_get (v := .ref (b 4)) hC kX6 4 rfl q2757 (fun _ h => h.get 0 rfl) rfl dX6_changes_35 38 rfl ?_
  refine r_iload_n hC 3 dX6_changes_38 rfl 39 rfl ?_
  refine r_iconst hC 4 dX6_changes_39 ic_4 40 rfl ?_
  refine r_idiv hC (nI (q / 4)) dX6_changes_40 (by decide) (pk_div (a := q) (d := 4) (by omega) (by omega) (by omega)) 41 rfl ?_
  refine r_iload hC 1 dX6_changes_41 rfl 43 rfl ?_
  refine r_invSr hC [.int (nI (q / 4)), .int (nI (3 + (q / 2) % 2))] (.int (nI (6 + 5 * (q / 4) + (3 + (q / 2) % 2)))) mSX6_at q2711 (metX6_at _ _ hG (q / 4) (3 + (q / 2) % 2)) (fun _ _ => xIn.nil) ⟨rfl, rfl⟩ 0 0 rfl rfl (Nat.le_of_ble_eq_true rfl) (Nat.le_of_ble_eq_true rfl) rfl (Nat.le_of_ble_eq_true rfl) dX6_changes_43 46 rfl ?_
  refine r_dup2 hC dX6_changes_46 rfl rfl 47 rfl ?_
  refine r_lald hC (6 + 5 * (q / 4) + (3 + (q / 2) % 2)) (xix_n (6 + 5 * (q / 4) + (3 + (q / 2) % 2)) (by omega) (Nat.le_of_ble_eq_true rfl)) (fun _ h => h.get 2 rfl) (r (6 + 5 * (q / 4) + (3 + (q / 2) % 2))) (rfl) dX6_changes_47 48 rfl ?_
  refine r_lload hC 0 dX6_changes_48 rfl 50 rfl ?_
  refine r_ladd hC ((r (6 + 5 * (q / 4) + (3 + (q / 2) % 2))) + (if (nI (q % 2)) = 0 then x else -x)) dX6_changes_50  (rfl) 51 rfl ?_
  refine r_last (J := xSt F V0 [(b 0, .inr (5, mF b i j)), (b 1, .inl (1, 111, .inr (.inl r))), (b 4, .inl (1, 111, .inr (.inl (va_up r (6 + 5 * (q / 4) + (3 + (q / 2) % 2)) ((r (6 + 5 * (q / 4) + (3 + (q / 2) % 2))) + (if (nI (q % 2)) = 0 then x else -x))))))]) hC (6 + 5 * (q / 4) + (3 + (q / 2) % 2)) (xix_n (6 + 5 * (q / 4) + (3 + (q / 2) % 2)) (by omega) (Nat.le_of_ble_eq_true rfl)) (fun _ h => h.get 2 rfl) dX6_changes_51 (fun _ h => h.set 2 _ rfl) 52 rfl ?_
  generalize hu6 : va_up r (6 + 5 * (q / 4) + (3 + (q / 2) % 2)) ((r (6 + 5 * (q / 4) + (3 + (q / 2) % 2))) + (if (nI (q % 2)) = 0 then x else -x)) = u6
  refine r_aload_n hC 2 dX6_changes_52 rfl 53 rfl ?_
  refine r_get (v := .ref (b 4)) hC kX6 4 rfl q2757 (fun _ h => h.get 0 rfl) rfl dX6_changes_53 56 rfl ?_
  refine r_iconst hC 2 dX6_changes_56 ic_2 57 rfl ?_
  refine r_iload hC 1 dX6_changes_57 rfl 59 rfl ?_
  refine r_invSr hC [.int 2, .int (nI (3 + (q / 2) % 2))] (.int (nI (6 + 5 * 2 + (3 + (q / 2) % 2)))) mSX6_at q2711 (metX6_at _ _ hG 2 (3 + (q / 2) % 2)) (fun _ _ => xIn.nil) ⟨rfl, rfl⟩ 0 0 rfl rfl (Nat.le_of_ble_eq_true rfl) (Nat.le_of_ble_eq_true rfl) rfl (Nat.le_of_ble_eq_true rfl) dX6_changes_59 62 rfl ?_
  refine r_dup2 hC dX6_changes_62 rfl rfl 63 rfl ?_
  refine r_lald hC (6 + 5 * 2 + (3 + (q / 2) % 2)) (xix_n (6 + 5 * 2 + (3 + (q / 2) % 2)) (by omega) (Nat.le_of_ble_eq_true rfl)) (fun _ h => h.get 2 rfl) (u6 (6 + 5 * 2 + (3 + (q / 2) % 2))) (rfl) dX6_changes_63 64 rfl ?_
  refine r_lload hC 0 dX6_changes_64 rfl 66 rfl ?_
  refine r_lsub hC ((u6 (6 + 5 * 2 + (3 + (q / 2) % 2))) - (if (nI (q % 2)) = 0 then x else -x)) dX6_changes_66  (rfl) 67 rfl ?_
  refine r_last (J := xSt F V0 [(b 0, .inr (5, mF b i j)), (b 1, .inl (1, 111, .inr (.inl r))), (b 4, .inl (1, 111, .inr (.inl (va_up u6 (6 + 5 * 2 + (3 + (q / 2) % 2)) ((u6 (6 + 5 * 2 + (3 + (q / 2) % 2))) - (if (nI (q % 2)) = 0 then x else -x))))))]) hC (6 + 5 * 2 + (3 + (q / 2) % 2)) (xix_n (6 + 5 * 2 + (3 + (q / 2) % 2)) (by omega) (Nat.le_of_ble_eq_true rfl)) (fun _ h => h.get 2 rfl) dX6_changes_67 (fun _ h => h.set 2 _ rfl) 68 rfl ?_
  generalize hu7 : va_up u6 (6 + 5 * 2 + (3 + (q / 2) % 2)) ((u6 (6 + 5 * 2 + (3 + (q / 2) % 2))) - (if (nI (q % 2)) = 0 then x else -x)) = u7
  refine r_aload_n hC 2 dX6_changes_68 rfl 69 rfl ?_
  refine r_get (v := .ref (b 4)) hC kX6 4 rfl q2757 (fun _ h => h.get 0 rfl) rfl dX6_changes_69 72 rfl ?_
  refine r_invSr hC [.ref (b 4)] (.int (bI (isInQ u7))) mSX6_isIn q3096 (metX6_isIn _ _ hG (b 4) _) (fun _ h => h.in.sub [2] rfl rfl) ⟨rfl, rfl⟩ 0 0 rfl rfl (Nat.le_of_ble_eq_true rfl) (Nat.le_of_ble_eq_true rfl) rfl (Nat.le_of_ble_eq_true rfl) dX6_changes_72 75 rfl ?_
  subst hu7
  subst hu6
  exact r_zret hC (bI_nar _) (Nat.le_of_ble_eq_true rfl) (Nat.le_of_ble_eq_true rfl) (fun V9 h => hQ _ _ ⟨[(b 0, .inr (5, mF b i j)), (b 1, .inl (1, 111, .inr (.inl r))), (b 4, .inl (1, 111, .inr (.inl (va_up (va_up r (6 + 5 * (q / 4) + (3 + (q / 2) % 2)) ((r (6 + 5 * (q / 4) + (3 + (q / 2) % 2))) + (if (nI (q % 2)) = 0 then x else -x))) (6 + 5 * 2 + (3 + (q / 2) % 2)) (((va_up r (6 + 5 * (q / 4) + (3 + (q / 2) % 2)) ((r (6 + 5 * (q / 4) + (3 + (q / 2) % 2))) + (if (nI (q % 2)) = 0 then x else -x))) (6 + 5 * 2 + (3 + (q / 2) % 2))) - (if (nI (q % 2)) = 0 then x else -x))))))], ⟨rfl, rfl⟩, by rw [← hV0, ← hF]; exact h⟩) dX6_changes_75
