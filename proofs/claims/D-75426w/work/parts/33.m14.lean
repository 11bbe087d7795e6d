/-! ===== the reference: refine ===== -/
set_option maxRecDepth 100000
/-- one round of refine: the error, the size, the row, the path -/
def ref1 (t : Nat → Int64) (kd N : Nat) (s : Int64 × Int64 × (Nat → Int64) × (Nat → Int64)) : Int64 × Int64 × (Nat → Int64) × (Nat → Int64) :=
  (rndV (rndR t s.2.2.1 s.2.1 kd N s.1 s.2.2.2) s.1, rndX (rndR t s.2.2.1 s.2.1 kd N s.1 s.2.2.2) s.2.1, rndN (rndR t s.2.2.1 s.2.1 kd N s.1 s.2.2.2) s.2.2.1 s.2.1, (rndR t s.2.2.1 s.2.1 kd N s.1 s.2.2.2).2.2)
def refL (t : Nat → Int64) (kd N : Nat) : Nat → Int64 × Int64 × (Nat → Int64) × (Nat → Int64) → Int64 × Int64 × (Nat → Int64) × (Nat → Int64)
  | 0, s => s
  | f + 1, s => if s.2.1 ≤ 0 then s else refL t kd N f (ref1 t kd N s)
theorem mOK_rnd {t r pa : Nat → Int64} {x pr : Int64} {kd N : Nat} (h : mOK r) : mOK (rndN (rndR t r x kd N pr pa) r x) := by
  cases hs : (rndR t r x kd N pr pa).1 with
  | none => rw [rndN_n hs]; exact h
  | some q => rw [rndN_s hs]; exact mOK_ch h (rndR_lt hs)
set_option maxHeartbeats 4000000 in
set_option maxRecDepth 100000 in
theorem lpX6_refine {C : xC} {F : Nat → Prop} {V0 : xV} {k n : Nat} (hG : xGood (xGG C)) (hC : xCtx C RX6 cX6_refine 8 (some .int) { frames := 10, locals := 254, cells := 0, slots := 0 }) (hk0 : k = 0) (hn0 : n = 0) (b : Nat → Nat) (i : Nat → Int32) (t hy : Nat → Int64) (kd N rd : Nat) (ht : tOK t) (hkd : kd < 4) (hN : N ≤ 300) (hN2 : 2 ≤ N) (hrd : rd ≤ 20) : ∀ (f c : Nat) (its : Int64) (j r pa th tr g h0 : Nat → Int64) (R : Int64 × Int64 × (Nat → Int64) × (Nat → Int64)), c + f = rd → mOK r → R = refL t kd N f (its, j 26, r, pa) → (∀ j' th' tr' g' h' : Nat → Int64, j' = va_up j 26 R.2.1 → rn C (xSt F V0 [(b 0, .inr (5, mF b i j')), (b 7, .inl (1, 5, .inr (.inl t))), (b 1, .inl (1, 111, .inr (.inl R.2.2.1))), (b 2, .inl (1, 111, .inr (.inl th'))), (b 4, .inl (1, 111, .inr (.inl tr'))), (b 23, .inl (1, 6, .inr (.inl g'))), (b 24, .inl (1, 21, .inr (.inl h'))), (b 25, .inl (1, 1806, .inr (.inl R.2.2.2))), (b 6, .inl (1, 1110, .inr (.inl hy)))]) k n 123 [(5, .long R.1)] []) → rn C (xSt F V0 [(b 0, .inr (5, mF b i j)), (b 7, .inl (1, 5, .inr (.inl t))), (b 1, .inl (1, 111, .inr (.inl r))), (b 2, .inl (1, 111, .inr (.inl th))), (b 4, .inl (1, 111, .inr (.inl tr))), (b 23, .inl (1, 6, .inr (.inl g))), (b 24, .inl (1, 21, .inr (.inl h0))), (b 25, .inl (1, 1806, .inr (.inl pa))), (b 6, .inl (1, 1110, .inr (.inl hy)))]) k n 91 [(7, .int (nI c)), (5, .long its), (4, .int (nI rd)), (0, .ref (b 0)), (1, .int (nI kd)), (2, .int (nI N))] [] := by
  subst hk0 hn0
  intro f
  induction f with
  | zero =>
    intro c its j r pa th tr g h0 R hc hm hR kx
    obtain rfl : c = rd := by omega
    refine r_iload hC 0 dX6_refine_91 rfl 93 rfl ?_
    refine r_iload hC 2 dX6_refine_93 rfl 95 rfl ?_
    refine r_icge hC 123 dX6_refine_95 (by decide) 98 rfl (fun _ => ?_) (fun h => absurd (Int32.le_refl _) h)
    rw [refL] at hR
    subst hR
    refine rn.sub (lv' := [(5, .long its)]) [1] rfl ?_
    exact kx _ _ _ _ _ up_id.symm
  | succ f ih =>
    intro c its j r pa th tr g h0 R hc hm hR kx
    refine r_iload hC 0 dX6_refine_91 rfl 93 rfl ?_
    refine r_iload hC 2 dX6_refine_93 rfl 95 rfl ?_
    refine r_icge hC 123 dX6_refine_95 (by decide) 98 rfl (fun h => absurd h (nI_ge (by omega) (by omega))) (fun _ => ?_)
    refine r_aload_n hC 3 dX6_refine_98 rfl 99 rfl ?_
    refine r_get (v := .long (j 26)) hC kX6 26 rfl q2779 (fun _ h => h.get 0 rfl) rfl dX6_refine_99 102 rfl ?_
    refine r_lconst hC 0 dX6_refine_102 lc_0 103 rfl ?_
    refine r_lcle hC 123 dX6_refine_103 dX6_refine_104 (by decide) 107 rfl (fun c1 => ?_) (fun c1 => ?_)
    · skip
      rw [refL, if_pos c1] at hR
      subst hR
      refine rn.sub (lv' := [(5, .long its)]) [1] rfl ?_
      exact kx _ _ _ _ _ up_id.symm
    · skip
      refine r_aload_n hC 3 dX6_refine_107 rfl 108 rfl ?_
      refine r_iload_n hC 4 dX6_refine_108 rfl 109 rfl ?_
      refine r_iload_n hC 5 dX6_refine_109 rfl 110 rfl ?_
      refine r_lload hC 1 dX6_refine_110 rfl 112 rfl ?_
      refine r_invVw hC kX6 (b 0) [.int (nI kd), .int (nI N), .long its] [(b 6, .inl (1, 1110, .inr (.inl hy)))] mVX6_round q3237 0 rfl (metX6_round _ _ hG b _ _ _ _ _ _ _ _ _ kd N its ht hm (by omega) (by omega) (by omega)) [0, 1, 2, 3, 4, 5, 6, 7] [8] rfl rfl rfl rfl (by decide) ⟨rfl, rfl⟩ 0 0 rfl rfl (Nat.le_of_ble_eq_true rfl) (Nat.le_of_ble_eq_true rfl) rfl (Nat.le_of_ble_eq_true rfl) dX6_refine_112 115 rfl (fun v6 w7 h8 => ?_) (fun _ _ h => h.elim)
      obtain ⟨th2, tr3, g4, h5, rfl, rfl⟩ := h8
      show rn C (xSt F V0 [(b 6, .inl (1, 1110, .inr (.inl hy))), (b 0, .inr (5, mF b i (va_up j 26 (rndX (rndR t r (j 26) kd N its pa) (j 26))))), (b 7, .inl (1, 5, .inr (.inl t))), (b 1, .inl (1, 111, .inr (.inl (rndN (rndR t r (j 26) kd N its pa) r (j 26))))), (b 2, .inl (1, 111, .inr (.inl th2))), (b 4, .inl (1, 111, .inr (.inl tr3))), (b 23, .inl (1, 6, .inr (.inl g4))), (b 24, .inl (1, 21, .inr (.inl h5))), (b 25, .inl (1, 1806, .inr (.inl ((rndR t r (j 26) kd N its pa).2.2))))]) 0 0 115 [(7, .int (nI c)), (5, .long its), (4, .int (nI rd)), (0, .ref (b 0)), (1, .int (nI kd)), (2, .int (nI N))] [.long (rndV (rndR t r (j 26) kd N its pa) its)]
      refine r_lstore hC 5 [(5, .long (rndV (rndR t r (j 26) kd N its pa) its)), (7, .int (nI c)), (4, .int (nI rd)), (0, .ref (b 0)), (1, .int (nI kd)), (2, .int (nI N))] dX6_refine_115 (Nat.le_of_ble_eq_true rfl) rfl 117 rfl ?_
      refine r_iinc hC (nI (c + 1)) 7 1 [(7, .int (nI (c + 1))), (5, .long (rndV (rndR t r (j 26) kd N its pa) its)), (4, .int (nI rd)), (0, .ref (b 0)), (1, .int (nI kd)), (2, .int (nI N))] dX6_refine_117 rfl (nI_add c 1) (Nat.le_of_ble_eq_true rfl) rfl 120 rfl ?_
      refine r_goto hC 91 dX6_refine_120 (by decide) ?_
      rw [refL, if_neg c1] at hR
      refine rn.mono (J := xSt F V0 [(b 0, .inr (5, mF b i (va_up j 26 (rndX (rndR t r (j 26) kd N its pa) (j 26))))), (b 7, .inl (1, 5, .inr (.inl t))), (b 1, .inl (1, 111, .inr (.inl (rndN (rndR t r (j 26) kd N its pa) r (j 26))))), (b 2, .inl (1, 111, .inr (.inl th2))), (b 4, .inl (1, 111, .inr (.inl tr3))), (b 23, .inl (1, 6, .inr (.inl g4))), (b 24, .inl (1, 21, .inr (.inl h5))), (b 25, .inl (1, 1806, .inr (.inl ((rndR t r (j 26) kd N its pa).2.2)))), (b 6, .inl (1, 1110, .inr (.inl hy)))]) (fun _ h => h.sub [1, 2, 3, 4, 5, 6, 7, 8, 0] rfl rfl) ?_
      refine rn.sub (lv' := [(7, .int (nI (c + 1))), (5, .long (rndV (rndR t r (j 26) kd N its pa) its)), (4, .int (nI rd)), (0, .ref (b 0)), (1, .int (nI kd)), (2, .int (nI N))]) [0, 1, 2, 3, 4, 5] rfl ?_
      have hb : ref1 t kd N (its, j 26, r, pa) = (rndV (rndR t r (j 26) kd N its pa) its, va_up j 26 (rndX (rndR t r (j 26) kd N its pa) (j 26)) 26, rndN (rndR t r (j 26) kd N its pa) r (j 26), (rndR t r (j 26) kd N its pa).2.2) := by rw [up_same, ref1]
      rw [hb] at hR
      exact ih (c + 1) (rndV (rndR t r (j 26) kd N its pa) its) (va_up j 26 (rndX (rndR t r (j 26) kd N its pa) (j 26))) (rndN (rndR t r (j 26) kd N its pa) r (j 26)) ((rndR t r (j 26) kd N its pa).2.2) th2 tr3 g4 h5 R (by omega) (mOK_rnd hm) hR (fun j9 th9 tr9 g9 h9 e9 => kx j9 th9 tr9 g9 h9 (e9.trans (bx_uu _ _ _ _)))
set_option maxHeartbeats 4000000 in
set_option maxRecDepth 100000 in
theorem metX6_refineF (l : Launch) (G : xG) (hG : xGood G) (b : Nat → Nat) (i : Nat → Int32) (j : Nat → Int64) (t r th tr g h0 pa hy : Nat → Int64) (kd N sz rd : Nat) (ht : tOK t) (hm : mOK r) (hkd : kd < 4) (hN : N ≤ 300) (hN2 : 2 ≤ N) (hf : bI (fitsQ kd N) = 1) (hs1 : 1 ≤ sz) (hs2 : sz ≤ 1000000) (hr1 : 1 ≤ rd) (hr2 : rd ≤ 20) (rc : Nat) (hrc : rc ≤ 10) (hi : i 10 = nI rc) (hE : errF t r pa kd N = 4611686018427387904) : xWm l G yX6_refine (Cond.code yX6_refine cX6_refine 8 (some .int)) { frames := 10, locals := 254, cells := 0, slots := 0 } [.ref (b 0), .int (nI kd), .int (nI N), .int (nI sz), .int (nI rd)] [(b 0, .inr (5, mF b i j)), (b 7, .inl (1, 5, .inr (.inl t))), (b 1, .inl (1, 111, .inr (.inl r))), (b 2, .inl (1, 111, .inr (.inl th))), (b 4, .inl (1, 111, .inr (.inl tr))), (b 23, .inl (1, 6, .inr (.inl g))), (b 24, .inl (1, 21, .inr (.inl h0))), (b 25, .inl (1, 1806, .inr (.inl pa))), (b 6, .inl (1, 1110, .inr (.inl hy)))] (fun v w' => ∃ th' tr' g' h' : Nat → Int64, v = some (.int (-4)) ∧ w' = [(b 0, .inr (5, mF b (va_up i 0 0) j)), (b 7, .inl (1, 5, .inr (.inl t))), (b 1, .inl (1, 111, .inr (.inl r))), (b 2, .inl (1, 111, .inr (.inl th'))), (b 4, .inl (1, 111, .inr (.inl tr'))), (b 23, .inl (1, 6, .inr (.inl g'))), (b 24, .inl (1, 21, .inr (.inl h'))), (b 25, .inl (1, 1806, .inr (.inl ((pathQ t r pa N).2.2)))), (b 6, .inl (1, 1110, .inr (.inl hy)))]) (fun _ _ => False) := by
  intro V hV
  refine xMet_of RX6 hG rfl (by decide) (Nat.le_of_ble_eq_true rfl) fun C hC hQ hX hl hg _ => ?_
  subst hl hg
  obtain ⟨V0, hV0⟩ : ∃ V0, V0 = V := ⟨_, rfl⟩
  obtain ⟨F, hF⟩ : ∃ F, F = xF [(b 0, .inr (5, mF b i j)), (b 7, .inl (1, 5, .inr (.inl t))), (b 1, .inl (1, 111, .inr (.inl r))), (b 2, .inl (1, 111, .inr (.inl th))), (b 4, .inl (1, 111, .inr (.inl tr))), (b 23, .inl (1, 6, .inr (.inl g))), (b 24, .inl (1, 21, .inr (.inl h0))), (b 25, .inl (1, 1806, .inr (.inl pa))), (b 6, .inl (1, 1110, .inr (.inl hy)))] := ⟨_, rfl⟩
  refine rn.mono (J := xSt F V0 [(b 0, .inr (5, mF b i j)), (b 7, .inl (1, 5, .inr (.inl t))), (b 1, .inl (1, 111, .inr (.inl r))), (b 2, .inl (1, 111, .inr (.inl th))), (b 4, .inl (1, 111, .inr (.inl tr))), (b 23, .inl (1, 6, .inr (.inl g))), (b 24, .inl (1, 21, .inr (.inl h0))), (b 25, .inl (1, 1806, .inr (.inl pa))), (b 6, .inl (1, 1110, .inr (.inl hy)))]) (fun V9 h => by rw [h, hV0, hF]; exact hV.st) ?_
  show rn C (xSt F V0 [(b 0, .inr (5, mF b i j)), (b 7, .inl (1, 5, .inr (.inl t))), (b 1, .inl (1, 111, .inr (.inl r))), (b 2, .inl (1, 111, .inr (.inl th))), (b 4, .inl (1, 111, .inr (.inl tr))), (b 23, .inl (1, 6, .inr (.inl g))), (b 24, .inl (1, 21, .inr (.inl h0))), (b 25, .inl (1, 1806, .inr (.inl pa))), (b 6, .inl (1, 1110, .inr (.inl hy)))]) 0 0 0 [(0, .ref (b 0)), (1, .int (nI kd)), (2, .int (nI N)), (3, .int (nI sz)), (4, .int (nI rd))] []
  refine r_aload_n hC 0 dX6_refine_0 rfl 1 rfl ?_
  refine r_iconst hC 0 dX6_refine_1 ic_0 2 rfl ?_
  refine r_put (J := xSt F V0 [(b 0, .inr (5, mF b (va_up i 0 0) j)), (b 7, .inl (1, 5, .inr (.inl t))), (b 1, .inl (1, 111, .inr (.inl r))), (b 2, .inl (1, 111, .inr (.inl th))), (b 4, .inl (1, 111, .inr (.inl tr))), (b 23, .inl (1, 6, .inr (.inl g))), (b 24, .inl (1, 21, .inr (.inl h0))), (b 25, .inl (1, 1806, .inr (.inl pa))), (b 6, .inl (1, 1110, .inr (.inl hy)))]) hC kX6 0 rfl q2753 rfl (fun _ h => h.get 0 rfl) (Nat.le_of_ble_eq_true rfl) rfl rfl dX6_refine_2 (fun _ h => h.set 0 _ rfl) 5 rfl ?_
  refine r_aload_n hC 0 dX6_refine_5 rfl 6 rfl ?_
  refine r_aload_n hC 0 dX6_refine_6 rfl 7 rfl ?_
  refine r_iload_n hC 1 dX6_refine_7 rfl 8 rfl ?_
  refine r_iload_n hC 2 dX6_refine_8 rfl 9 rfl ?_
  refine r_invVr hC kX6 (b 0) [.int (nI kd), .int (nI N)] (.int 1) mVX6_isAsked q3169 (fun _ h => h.get 0 rfl) (metX6_isAskedG _ _ hG b _ _ kd N hkd hN hN2 hf) (fun _ h => h.in.sub [0] rfl rfl) ⟨rfl, rfl⟩ 0 0 rfl rfl (Nat.le_of_ble_eq_true rfl) (Nat.le_of_ble_eq_true rfl) rfl (Nat.le_of_ble_eq_true rfl) dX6_refine_9 12 rfl ?_
  refine r_ifeq hC 44 dX6_refine_12 (by decide) 15 rfl (fun h => absurd h (by decide)) (fun _ => ?_)
  refine r_iload_n hC 3 dX6_refine_15 rfl 16 rfl ?_
  refine r_i2l hC ((nI sz).toInt64) dX6_refine_16 (rfl) 17 rfl ?_
  refine r_lconst hC 1 dX6_refine_17 lc_1 18 rfl ?_
  refine r_ldc2 hC q3084 dX6_refine_18 21 rfl ?_
  refine r_invSr hC [.long ((nI sz).toInt64), .long 1, .long 1000000] (.int 1) mSX6_in q2891 (metX6_inB _ _ hG ((nI sz).toInt64) 1 1000000 1 (in_lo (L := 1) (N := 1000000) (by omega) (by omega) rfl rfl (by decide))) (fun _ _ => xIn.nil) ⟨rfl, rfl⟩ 0 0 rfl rfl (Nat.le_of_ble_eq_true rfl) (Nat.le_of_ble_eq_true rfl) rfl (Nat.le_of_ble_eq_true rfl) dX6_refine_21 24 rfl ?_
  refine r_ifeq hC 44 dX6_refine_24 (by decide) 27 rfl (fun h => absurd h (by decide)) (fun _ => ?_)
  refine r_iload hC 4 dX6_refine_27 rfl 29 rfl ?_
  refine r_i2l hC ((nI rd).toInt64) dX6_refine_29 (rfl) 30 rfl ?_
  refine r_lconst hC 1 dX6_refine_30 lc_1 31 rfl ?_
  refine r_ldc2 hC q3236 dX6_refine_31 34 rfl ?_
  refine r_invSr hC [.long ((nI rd).toInt64), .long 1, .long 20] (.int 1) mSX6_in q2891 (metX6_inB _ _ hG ((nI rd).toInt64) 1 20 1 (in_lo (L := 1) (N := 20) (by omega) (by omega) rfl rfl (by decide))) (fun _ _ => xIn.nil) ⟨rfl, rfl⟩ 0 0 rfl rfl (Nat.le_of_ble_eq_true rfl) (Nat.le_of_ble_eq_true rfl) rfl (Nat.le_of_ble_eq_true rfl) dX6_refine_34 37 rfl ?_
  refine r_ifeq hC 44 dX6_refine_37 (by decide) 40 rfl (fun h => absurd h (by decide)) (fun _ => ?_)
  refine r_iconst hC 1 dX6_refine_40 ic_1 41 rfl ?_
  refine r_goto hC 45 dX6_refine_41 (by decide) ?_
  refine r_iconst hC 1 dX6_refine_45 ic_1 46 rfl ?_
  refine r_invVr hC kX6 (b 0) [.int 1, .int 1] (.int 0) mVX6_fails q2894 (fun _ h => h.get 0 rfl) (metX6_fails1 _ _ hG b _ _ 1) (fun _ h => h.in.sub [0] rfl rfl) ⟨rfl, rfl⟩ 0 0 rfl rfl (Nat.le_of_ble_eq_true rfl) (Nat.le_of_ble_eq_true rfl) rfl (Nat.le_of_ble_eq_true rfl) dX6_refine_46 49 rfl ?_
  refine r_ifeq hC 54 dX6_refine_49 (by decide) 52 rfl (fun _ => ?_) (fun h => absurd h (by decide))
  refine r_aload_n hC 0 dX6_refine_54 rfl 55 rfl ?_
  refine r_aload_n hC 0 dX6_refine_55 rfl 56 rfl ?_
  refine r_get (v := .ref (b 1)) hC kX6 1 rfl q2754 (fun _ h => h.get 0 rfl) rfl dX6_refine_56 59 rfl ?_
  refine r_iload_n hC 1 dX6_refine_59 rfl 60 rfl ?_
  refine r_iload_n hC 2 dX6_refine_60 rfl 61 rfl ?_
  refine r_invVw hC kX6 (b 0) [.ref (b 1), .int (nI kd), .int (nI N)] [(b 4, .inl (1, 111, .inr (.inl tr))), (b 6, .inl (1, 1110, .inr (.inl hy)))] mVX6_errorFrom q3178 0 rfl (metX6_errorFrom _ _ hG b _ _ (b 1) _ _ _ _ _ _ N kd ht hm (by omega) (by omega) (by omega)) [0, 1, 3, 5, 6, 7, 2] [4, 8] rfl rfl rfl rfl (by decide) ⟨rfl, rfl⟩ 0 0 rfl rfl (Nat.le_of_ble_eq_true rfl) (Nat.le_of_ble_eq_true rfl) rfl (Nat.le_of_ble_eq_true rfl) dX6_refine_61 64 rfl (fun v4 w5 h6 => ?_) (fun _ _ h => h.elim)
  obtain ⟨th1, g2, h3, rfl, rfl⟩ := h6
  show rn C (xSt F V0 [(b 4, .inl (1, 111, .inr (.inl tr))), (b 6, .inl (1, 1110, .inr (.inl hy))), (b 0, .inr (5, mF b (va_up i 0 0) j)), (b 7, .inl (1, 5, .inr (.inl t))), (b 2, .inl (1, 111, .inr (.inl th1))), (b 23, .inl (1, 6, .inr (.inl g2))), (b 24, .inl (1, 21, .inr (.inl h3))), (b 25, .inl (1, 1806, .inr (.inl ((pathQ t r pa N).2.2)))), (b 1, .inl (1, 111, .inr (.inl r)))]) 0 0 64 [(0, .ref (b 0)), (1, .int (nI kd)), (2, .int (nI N)), (3, .int (nI sz)), (4, .int (nI rd))] [.long (errF t r pa kd N)]
  refine r_lstore hC 5 [(5, .long (errF t r pa kd N)), (0, .ref (b 0)), (1, .int (nI kd)), (2, .int (nI N)), (3, .int (nI sz)), (4, .int (nI rd))] dX6_refine_64 (Nat.le_of_ble_eq_true rfl) rfl 66 rfl ?_
  refine r_lload hC 0 dX6_refine_66 rfl 68 rfl ?_
  refine r_ldc2 hC q3227 dX6_refine_68 71 rfl ?_
  refine r_lcne hC 78 dX6_refine_71 dX6_refine_72 (by decide) 75 rfl (fun h => absurd (hE) h) (fun _ => ?_)
  refine r_bipush hC (-4) dX6_refine_75 bp_m4 77 rfl ?_
  exact r_iret hC (Nat.le_of_ble_eq_true rfl) (Nat.le_of_ble_eq_true rfl) (fun V9 h => hQ _ _ ⟨[(b 0, .inr (5, mF b (va_up i 0 0) j)), (b 7, .inl (1, 5, .inr (.inl t))), (b 1, .inl (1, 111, .inr (.inl r))), (b 2, .inl (1, 111, .inr (.inl th1))), (b 4, .inl (1, 111, .inr (.inl tr))), (b 23, .inl (1, 6, .inr (.inl g2))), (b 24, .inl (1, 21, .inr (.inl h3))), (b 25, .inl (1, 1806, .inr (.inl ((pathQ t r pa N).2.2)))), (b 6, .inl (1, 1110, .inr (.inl hy)))], ⟨th1, tr, g2, h3, rfl, rfl⟩, by rw [← hV0, ← hF]; exact (h.sub [2, 3, 8, 4, 0, 5, 6, 7, 1] rfl rfl)⟩) dX6_refine_77
set_option maxHeartbeats 4000000 in
set_option maxRecDepth 100000 in
theorem metX6_refineR (l : Launch) (G : xG) (hG : xGood G) (b : Nat → Nat) (i : Nat → Int32) (j : Nat → Int64) (t r th tr g h0 pa hy : Nat → Int64) (kd N sz rd : Nat) (ht : tOK t) (hm : mOK r) (hkd : kd < 4) (hN : N ≤ 300) (hN2 : 2 ≤ N) (hf : bI (fitsQ kd N) = 1) (hs1 : 1 ≤ sz) (hs2 : sz ≤ 1000000) (hr1 : 1 ≤ rd) (hr2 : rd ≤ 20) (rc : Nat) (hrc : rc ≤ 10) (hi : i 10 = nI rc) (hE : ¬ errF t r pa kd N = 4611686018427387904) (R : Int64 × Int64 × (Nat → Int64) × (Nat → Int64)) (hR : R = refL t kd N rd (errF t r pa kd N, va_up j 26 (nI sz).toInt64 26, r, (pathQ t r pa N).2.2)) : xWm l G yX6_refine (Cond.code yX6_refine cX6_refine 8 (some .int)) { frames := 10, locals := 254, cells := 0, slots := 0 } [.ref (b 0), .int (nI kd), .int (nI N), .int (nI sz), .int (nI rd)] [(b 0, .inr (5, mF b i j)), (b 7, .inl (1, 5, .inr (.inl t))), (b 1, .inl (1, 111, .inr (.inl r))), (b 2, .inl (1, 111, .inr (.inl th))), (b 4, .inl (1, 111, .inr (.inl tr))), (b 23, .inl (1, 6, .inr (.inl g))), (b 24, .inl (1, 21, .inr (.inl h0))), (b 25, .inl (1, 1806, .inr (.inl pa))), (b 6, .inl (1, 1110, .inr (.inl hy)))] (fun v w' => ∃ th' tr' g' h' : Nat → Int64, v = some (.int R.1.toInt32) ∧ w' = [(b 0, .inr (5, mF b (va_up (va_up (va_up i 0 0) 10 (nI (recN rc))) 11 0) (va_up j 26 R.2.1))), (b 7, .inl (1, 5, .inr (.inl t))), (b 1, .inl (1, 111, .inr (.inl R.2.2.1))), (b 2, .inl (1, 111, .inr (.inl th'))), (b 4, .inl (1, 111, .inr (.inl tr'))), (b 23, .inl (1, 6, .inr (.inl g'))), (b 24, .inl (1, 21, .inr (.inl h'))), (b 25, .inl (1, 1806, .inr (.inl R.2.2.2))), (b 6, .inl (1, 1110, .inr (.inl (recH hy r rc))))]) (fun _ _ => False) := by
  intro V hV
  refine xMet_of RX6 hG rfl (by decide) (Nat.le_of_ble_eq_true rfl) fun C hC hQ hX hl hg _ => ?_
  subst hl hg
  obtain ⟨V0, hV0⟩ : ∃ V0, V0 = V := ⟨_, rfl⟩
  obtain ⟨F, hF⟩ : ∃ F, F = xF [(b 0, .inr (5, mF b i j)), (b 7, .inl (1, 5, .inr (.inl t))), (b 1, .inl (1, 111, .inr (.inl r))), (b 2, .inl (1, 111, .inr (.inl th))), (b 4, .inl (1, 111, .inr (.inl tr))), (b 23, .inl (1, 6, .inr (.inl g))), (b 24, .inl (1, 21, .inr (.inl h0))), (b 25, .inl (1, 1806, .inr (.inl pa))), (b 6, .inl (1, 1110, .inr (.inl hy)))] := ⟨_, rfl⟩
  refine rn.mono (J := xSt F V0 [(b 0, .inr (5, mF b i j)), (b 7, .inl (1, 5, .inr (.inl t))), (b 1, .inl (1, 111, .inr (.inl r))), (b 2, .inl (1, 111, .inr (.inl th))), (b 4, .inl (1, 111, .inr (.inl tr))), (b 23, .inl (1, 6, .inr (.inl g))), (b 24, .inl (1, 21, .inr (.inl h0))), (b 25, .inl (1, 1806, .inr (.inl pa))), (b 6, .inl (1, 1110, .inr (.inl hy)))]) (fun V9 h => by rw [h, hV0, hF]; exact hV.st) ?_
  show rn C (xSt F V0 [(b 0, .inr (5, mF b i j)), (b 7, .inl (1, 5, .inr (.inl t))), (b 1, .inl (1, 111, .inr (.inl r))), (b 2, .inl (1, 111, .inr (.inl th))), (b 4, .inl (1, 111, .inr (.inl tr))), (b 23, .inl (1, 6, .inr (.inl g))), (b 24, .inl (1, 21, .inr (.inl h0))), (b 25, .inl (1, 1806, .inr (.inl pa))), (b 6, .inl (1, 1110, .inr (.inl hy)))]) 0 0 0 [(0, .ref (b 0)), (1, .int (nI kd)), (2, .int (nI N)), (3, .int (nI sz)), (4, .int (nI rd))] []
  refine r_aload_n hC 0 dX6_refine_0 rfl 1 rfl ?_
  refine r_iconst hC 0 dX6_refine_1 ic_0 2 rfl ?_
  refine r_put (J := xSt F V0 [(b 0, .inr (5, mF b (va_up i 0 0) j)), (b 7, .inl (1, 5, .inr (.inl t))), (b 1, .inl (1, 111, .inr (.inl r))), (b 2, .inl (1, 111, .inr (.inl th))), (b 4, .inl (1, 111, .inr (.inl tr))), (b 23, .inl (1, 6, .inr (.inl g))), (b 24, .inl (1, 21, .inr (.inl h0))), (b 25, .inl (1, 1806, .inr (.inl pa))), (b 6, .inl (1, 1110, .inr (.inl hy)))]) hC kX6 0 rfl q2753 rfl (fun _ h => h.get 0 rfl) (Nat.le_of_ble_eq_true rfl) rfl rfl dX6_refine_2 (fun _ h => h.set 0 _ rfl) 5 rfl ?_
  refine r_aload_n hC 0 dX6_refine_5 rfl 6 rfl ?_
  refine r_aload_n hC 0 dX6_refine_6 rfl 7 rfl ?_
  refine r_iload_n hC 1 dX6_refine_7 rfl 8 rfl ?_
  refine r_iload_n hC 2 dX6_refine_8 rfl 9 rfl ?_
  refine r_invVr hC kX6 (b 0) [.int (nI kd), .int (nI N)] (.int 1) mVX6_isAsked q3169 (fun _ h => h.get 0 rfl) (metX6_isAskedG _ _ hG b _ _ kd N hkd hN hN2 hf) (fun _ h => h.in.sub [0] rfl rfl) ⟨rfl, rfl⟩ 0 0 rfl rfl (Nat.le_of_ble_eq_true rfl) (Nat.le_of_ble_eq_true rfl) rfl (Nat.le_of_ble_eq_true rfl) dX6_refine_9 12 rfl ?_
  refine r_ifeq hC 44 dX6_refine_12 (by decide) 15 rfl (fun h => absurd h (by decide)) (fun _ => ?_)
  refine r_iload_n hC 3 dX6_refine_15 rfl 16 rfl ?_
  refine r_i2l hC ((nI sz).toInt64) dX6_refine_16 (rfl) 17 rfl ?_
  refine r_lconst hC 1 dX6_refine_17 lc_1 18 rfl ?_
  refine r_ldc2 hC q3084 dX6_refine_18 21 rfl ?_
  refine r_invSr hC [.long ((nI sz).toInt64), .long 1, .long 1000000] (.int 1) mSX6_in q2891 (metX6_inB _ _ hG ((nI sz).toInt64) 1 1000000 1 (in_lo (L := 1) (N := 1000000) (by omega) (by omega) rfl rfl (by decide))) (fun _ _ => xIn.nil) ⟨rfl, rfl⟩ 0 0 rfl rfl (Nat.le_of_ble_eq_true rfl) (Nat.le_of_ble_eq_true rfl) rfl (Nat.le_of_ble_eq_true rfl) dX6_refine_21 24 rfl ?_
  refine r_ifeq hC 44 dX6_refine_24 (by decide) 27 rfl (fun h => absurd h (by decide)) (fun _ => ?_)
  refine r_iload hC 4 dX6_refine_27 rfl 29 rfl ?_
  refine r_i2l hC ((nI rd).toInt64) dX6_refine_29 (rfl) 30 rfl ?_
  refine r_lconst hC 1 dX6_refine_30 lc_1 31 rfl ?_
  refine r_ldc2 hC q3236 dX6_refine_31 34 rfl ?_
  refine r_invSr hC [.long ((nI rd).toInt64), .long 1, .long 20] (.int 1) mSX6_in q2891 (metX6_inB _ _ hG ((nI rd).toInt64) 1 20 1 (in_lo (L := 1) (N := 20) (by omega) (by omega) rfl rfl (by decide))) (fun _ _ => xIn.nil) ⟨rfl, rfl⟩ 0 0 rfl rfl (Nat.le_of_ble_eq_true rfl) (Nat.le_of_ble_eq_true rfl) rfl (Nat.le_of_ble_eq_true rfl) dX6_refine_34 37 rfl ?_
  refine r_ifeq hC 44 dX6_refine_37 (by decide) 40 rfl (fun h => absurd h (by decide)) (fun _ => ?_)
  refine r_iconst hC 1 dX6_refine_40 ic_1 41 rfl ?_
  refine r_goto hC 45 dX6_refine_41 (by decide) ?_
  refine r_iconst hC 1 dX6_refine_45 ic_1 46 rfl ?_
  refine r_invVr hC kX6 (b 0) [.int 1, .int 1] (.int 0) mVX6_fails q2894 (fun _ h => h.get 0 rfl) (metX6_fails1 _ _ hG b _ _ 1) (fun _ h => h.in.sub [0] rfl rfl) ⟨rfl, rfl⟩ 0 0 rfl rfl (Nat.le_of_ble_eq_true rfl) (Nat.le_of_ble_eq_true rfl) rfl (Nat.le_of_ble_eq_true rfl) dX6_refine_46 49 rfl ?_
  refine r_ifeq hC 54 dX6_refine_49 (by decide) 52 rfl (fun _ => ?_) (fun h => absurd h (by decide))
  refine r_aload_n hC 0 dX6_refine_54 rfl 55 rfl ?_
  refine r_aload_n hC 0 dX6_refine_55 rfl 56 rfl ?_
  refine r_get (v := .ref (b 1)) hC kX6 1 rfl q2754 (fun _ h => h.get 0 rfl) rfl dX6_refine_56 59 rfl ?_
  refine r_iload_n hC 1 dX6_refine_59 rfl 60 rfl ?_
  refine r_iload_n hC 2 dX6_refine_60 rfl 61 rfl ?_
  refine r_invVw hC kX6 (b 0) [.ref (b 1), .int (nI kd), .int (nI N)] [(b 4, .inl (1, 111, .inr (.inl tr))), (b 6, .inl (1, 1110, .inr (.inl hy)))] mVX6_errorFrom q3178 0 rfl (metX6_errorFrom _ _ hG b _ _ (b 1) _ _ _ _ _ _ N kd ht hm (by omega) (by omega) (by omega)) [0, 1, 3, 5, 6, 7, 2] [4, 8] rfl rfl rfl rfl (by decide) ⟨rfl, rfl⟩ 0 0 rfl rfl (Nat.le_of_ble_eq_true rfl) (Nat.le_of_ble_eq_true rfl) rfl (Nat.le_of_ble_eq_true rfl) dX6_refine_61 64 rfl (fun v4 w5 h6 => ?_) (fun _ _ h => h.elim)
  obtain ⟨th1, g2, h3, rfl, rfl⟩ := h6
  show rn C (xSt F V0 [(b 4, .inl (1, 111, .inr (.inl tr))), (b 6, .inl (1, 1110, .inr (.inl hy))), (b 0, .inr (5, mF b (va_up i 0 0) j)), (b 7, .inl (1, 5, .inr (.inl t))), (b 2, .inl (1, 111, .inr (.inl th1))), (b 23, .inl (1, 6, .inr (.inl g2))), (b 24, .inl (1, 21, .inr (.inl h3))), (b 25, .inl (1, 1806, .inr (.inl ((pathQ t r pa N).2.2)))), (b 1, .inl (1, 111, .inr (.inl r)))]) 0 0 64 [(0, .ref (b 0)), (1, .int (nI kd)), (2, .int (nI N)), (3, .int (nI sz)), (4, .int (nI rd))] [.long (errF t r pa kd N)]
  refine r_lstore hC 5 [(5, .long (errF t r pa kd N)), (0, .ref (b 0)), (1, .int (nI kd)), (2, .int (nI N)), (3, .int (nI sz)), (4, .int (nI rd))] dX6_refine_64 (Nat.le_of_ble_eq_true rfl) rfl 66 rfl ?_
  refine r_lload hC 0 dX6_refine_66 rfl 68 rfl ?_
  refine r_ldc2 hC q3227 dX6_refine_68 71 rfl ?_
  refine r_lcne hC 78 dX6_refine_71 dX6_refine_72 (by decide) 75 rfl (fun _ => ?_) (fun h => absurd h (hE))
  refine r_aload_n hC 1 dX6_refine_78 rfl 79 rfl ?_
  refine r_invVw hC kX6 (b 0) [] [(b 4, .inl (1, 111, .inr (.inl tr))), (b 7, .inl (1, 5, .inr (.inl t))), (b 2, .inl (1, 111, .inr (.inl th1))), (b 23, .inl (1, 6, .inr (.inl g2))), (b 24, .inl (1, 21, .inr (.inl h3))), (b 25, .inl (1, 1806, .inr (.inl ((pathQ t r pa N).2.2))))] mVX6_begins q3114 2 rfl (metX6_begins _ _ hG b (va_up i 0 0) _ _ _ rc hrc (show (va_up i 0 0) 10 = nI rc from hi)) [2, 8, 1] [0, 3, 4, 5, 6, 7] rfl rfl rfl rfl (by decide) ⟨rfl, rfl⟩ 0 0 rfl rfl (Nat.le_of_ble_eq_true rfl) (Nat.le_of_ble_eq_true rfl) rfl (Nat.le_of_ble_eq_true rfl) dX6_refine_79 82 rfl (fun v7 w8 h9 => ?_) (fun _ _ h => h.elim)
  obtain ⟨rfl, rfl⟩ := h9
  show rn C (xSt F V0 [(b 4, .inl (1, 111, .inr (.inl tr))), (b 7, .inl (1, 5, .inr (.inl t))), (b 2, .inl (1, 111, .inr (.inl th1))), (b 23, .inl (1, 6, .inr (.inl g2))), (b 24, .inl (1, 21, .inr (.inl h3))), (b 25, .inl (1, 1806, .inr (.inl ((pathQ t r pa N).2.2)))), (b 0, .inr (5, mF b (va_up (va_up (va_up i 0 0) 10 (nI (recN rc))) 11 0) j)), (b 1, .inl (1, 111, .inr (.inl r))), (b 6, .inl (1, 1110, .inr (.inl (recH hy r rc))))]) 0 0 82 [(5, .long (errF t r pa kd N)), (0, .ref (b 0)), (1, .int (nI kd)), (2, .int (nI N)), (3, .int (nI sz)), (4, .int (nI rd))] []
  refine r_aload_n hC 1 dX6_refine_82 rfl 83 rfl ?_
  refine r_iload_n hC 4 dX6_refine_83 rfl 84 rfl ?_
  refine r_i2l hC ((nI sz).toInt64) dX6_refine_84 (rfl) 85 rfl ?_
  refine r_put (J := xSt F V0 [(b 4, .inl (1, 111, .inr (.inl tr))), (b 7, .inl (1, 5, .inr (.inl t))), (b 2, .inl (1, 111, .inr (.inl th1))), (b 23, .inl (1, 6, .inr (.inl g2))), (b 24, .inl (1, 21, .inr (.inl h3))), (b 25, .inl (1, 1806, .inr (.inl ((pathQ t r pa N).2.2)))), (b 0, .inr (5, mF b (va_up (va_up (va_up i 0 0) 10 (nI (recN rc))) 11 0) (va_up j 26 ((nI sz).toInt64)))), (b 1, .inl (1, 111, .inr (.inl r))), (b 6, .inl (1, 1110, .inr (.inl (recH hy r rc))))]) hC kX6 26 rfl q2779 rfl (fun _ h => h.get 6 rfl) (Nat.le_of_ble_eq_true rfl) rfl rfl dX6_refine_85 (fun _ h => h.set 6 _ rfl) 88 rfl ?_
  refine r_iconst hC 0 dX6_refine_88 ic_0 89 rfl ?_
  refine r_istore hC 7 [(7, .int 0), (5, .long (errF t r pa kd N)), (0, .ref (b 0)), (1, .int (nI kd)), (2, .int (nI N)), (3, .int (nI sz)), (4, .int (nI rd))] dX6_refine_89 (Nat.le_of_ble_eq_true rfl) rfl 91 rfl ?_
  refine rn.mono (J := xSt F V0 [(b 0, .inr (5, mF b (va_up (va_up (va_up i 0 0) 10 (nI (recN rc))) 11 0) (va_up j 26 ((nI sz).toInt64)))), (b 7, .inl (1, 5, .inr (.inl t))), (b 1, .inl (1, 111, .inr (.inl r))), (b 2, .inl (1, 111, .inr (.inl th1))), (b 4, .inl (1, 111, .inr (.inl tr))), (b 23, .inl (1, 6, .inr (.inl g2))), (b 24, .inl (1, 21, .inr (.inl h3))), (b 25, .inl (1, 1806, .inr (.inl ((pathQ t r pa N).2.2)))), (b 6, .inl (1, 1110, .inr (.inl (recH hy r rc))))]) (fun _ h => h.sub [6, 1, 7, 2, 0, 3, 4, 5, 8] rfl rfl) ?_
  refine rn.sub (lv' := [(7, .int 0), (5, .long (errF t r pa kd N)), (4, .int (nI rd)), (0, .ref (b 0)), (1, .int (nI kd)), (2, .int (nI N))]) [0, 1, 6, 2, 3, 4] rfl ?_
  refine lpX6_refine hG hC rfl rfl b (va_up (va_up (va_up i 0 0) 10 (nI (recN rc))) 11 0) t (recH hy r rc) kd N rd ht hkd hN hN2 hr2 rd 0 (errF t r pa kd N) (va_up j 26 ((nI sz).toInt64)) r ((pathQ t r pa N).2.2) th1 tr g2 h3 R (by omega) hm hR (fun j9 th9 tr9 g9 h9 e9 => ?_)
  refine r_lload hC 0 dX6_refine_123 rfl 125 rfl ?_
  refine r_l2i hC R.1.toInt32 dX6_refine_125 (rfl) 126 rfl ?_
  exact r_iret hC (Nat.le_of_ble_eq_true rfl) (Nat.le_of_ble_eq_true rfl) (fun V9 h => hQ _ _ ⟨[(b 0, .inr (5, mF b (va_up (va_up (va_up i 0 0) 10 (nI (recN rc))) 11 0) j9)), (b 7, .inl (1, 5, .inr (.inl t))), (b 1, .inl (1, 111, .inr (.inl R.2.2.1))), (b 2, .inl (1, 111, .inr (.inl th9))), (b 4, .inl (1, 111, .inr (.inl tr9))), (b 23, .inl (1, 6, .inr (.inl g9))), (b 24, .inl (1, 21, .inr (.inl h9))), (b 25, .inl (1, 1806, .inr (.inl R.2.2.2))), (b 6, .inl (1, 1110, .inr (.inl (recH hy r rc))))], ⟨th9, tr9, g9, h9, rfl, by rw [e9, bx_uu]⟩, by rw [← hV0, ← hF]; exact h⟩) dX6_refine_126
set_option maxHeartbeats 4000000 in
set_option maxRecDepth 100000 in
theorem metX6_refineB3 (l : Launch) (G : xG) (hG : xGood G) (b : Nat → Nat) (i : Nat → Int32) (j : Nat → Int64) (kd N : Nat) (p q : Int32) (hkd : kd < 4) (hN : N ≤ 300) (hN2 : 2 ≤ N) (hf : bI (fitsQ kd N) = 0) : xWm l G yX6_refine (Cond.code yX6_refine cX6_refine 8 (some .int)) { frames := 2, locals := 47, cells := 0, slots := 0 } [.ref (b 0), .int (nI kd), .int (nI N), .int p, .int q] [(b 0, .inr (5, mF b i j))] (fun v w' => v = some (.int 0) ∧ w' = [(b 0, .inr (5, mF b (va_up i 0 1) j))]) (fun _ _ => False) := by
  intro V hV
  refine xMet_of RX6 hG rfl (by decide) (Nat.le_of_ble_eq_true rfl) fun C hC hQ hX hl hg _ => ?_
  subst hl hg
  obtain ⟨V0, hV0⟩ : ∃ V0, V0 = V := ⟨_, rfl⟩
  obtain ⟨F, hF⟩ : ∃ F, F = xF [(b 0, .inr (5, mF b i j))] := ⟨_, rfl⟩
  refine rn.mono (J := xSt F V0 [(b 0, .inr (5, mF b i j))]) (fun V9 h => by rw [h, hV0, hF]; exact hV.st) ?_
  show rn C (xSt F V0 [(b 0, .inr (5, mF b i j))]) 0 0 0 [(0, .ref (b 0)), (1, .int (nI kd)), (2, .int (nI N)), (3, .int p), (4, .int q)] []
  refine r_aload_n hC 0 dX6_refine_0 rfl 1 rfl ?_
  refine r_iconst hC 0 dX6_refine_1 ic_0 2 rfl ?_
  refine r_put (J := xSt F V0 [(b 0, .inr (5, mF b (va_up i 0 0) j))]) hC kX6 0 rfl q2753 rfl (fun _ h => h.get 0 rfl) (Nat.le_of_ble_eq_true rfl) rfl rfl dX6_refine_2 (fun _ h => h.set 0 _ rfl) 5 rfl ?_
  refine r_aload_n hC 0 dX6_refine_5 rfl 6 rfl ?_
  refine r_aload_n hC 0 dX6_refine_6 rfl 7 rfl ?_
  refine r_iload_n hC 1 dX6_refine_7 rfl 8 rfl ?_
  refine r_iload_n hC 2 dX6_refine_8 rfl 9 rfl ?_
  refine r_invVr hC kX6 (b 0) [.int (nI kd), .int (nI N)] (.int 0) mVX6_isAsked q3169 (fun _ h => h.get 0 rfl) (metX6_isAskedB3 _ _ hG b _ _ kd N hkd hN hN2 hf) (fun _ h => h.in.sub [0] rfl rfl) ⟨rfl, rfl⟩ 0 0 rfl rfl (Nat.le_of_ble_eq_true rfl) (Nat.le_of_ble_eq_true rfl) rfl (Nat.le_of_ble_eq_true rfl) dX6_refine_9 12 rfl ?_
  refine r_ifeq hC 44 dX6_refine_12 (by decide) 15 rfl (fun _ => ?_) (fun h => absurd h (by decide))
  refine r_iconst hC 0 dX6_refine_44 ic_0 45 rfl ?_
  refine r_iconst hC 1 dX6_refine_45 ic_1 46 rfl ?_
  refine r_invVw hC kX6 (b 0) [.int 0, .int 1] [] mVX6_fails q2894 0 rfl (metX6_fails0 _ _ hG b _ _ 1) [0] [] rfl rfl rfl rfl (by decide) ⟨rfl, rfl⟩ 0 0 rfl rfl (Nat.le_of_ble_eq_true rfl) (Nat.le_of_ble_eq_true rfl) rfl (Nat.le_of_ble_eq_true rfl) dX6_refine_46 49 rfl (fun v1 w2 h3 => ?_) (fun _ _ h => h.elim)
  obtain ⟨rfl, rfl⟩ := h3
  show rn C (xSt F V0 [(b 0, .inr (5, mF b (va_up (va_up i 0 0) 0 1) j))]) 0 0 49 [(0, .ref (b 0)), (1, .int (nI kd)), (2, .int (nI N)), (3, .int p), (4, .int q)] [.int 1]
  refine r_ifeq hC 54 dX6_refine_49 (by decide) 52 rfl (fun h => absurd h (by decide)) (fun _ => ?_)
  refine r_iconst hC 0 dX6_refine_52 ic_0 53 rfl ?_
  exact r_iret hC (Nat.le_of_ble_eq_true rfl) (Nat.le_of_ble_eq_true rfl) (fun V9 h => hQ _ _ ⟨[(b 0, .inr (5, mF b (va_up (va_up i 0 0) 0 1) j))], ⟨rfl, by simp only [bx_uu]⟩, by rw [← hV0, ← hF]; exact h⟩) dX6_refine_53
set_option maxHeartbeats 4000000 in
set_option maxRecDepth 100000 in
theorem metX6_refineB1 (l : Launch) (G : xG) (hG : xGood G) (b : Nat → Nat) (i : Nat → Int32) (j : Nat → Int64) (x y p q : Int32) (hx : bI (m_in x.toInt64 0 3) = 0) : xWm l G yX6_refine (Cond.code yX6_refine cX6_refine 8 (some .int)) { frames := 2, locals := 47, cells := 0, slots := 0 } [.ref (b 0), .int x, .int y, .int p, .int q] [(b 0, .inr (5, mF b i j))] (fun v w' => v = some (.int 0) ∧ w' = [(b 0, .inr (5, mF b (va_up i 0 1) j))]) (fun _ _ => False) := by
  intro V hV
  refine xMet_of RX6 hG rfl (by decide) (Nat.le_of_ble_eq_true rfl) fun C hC hQ hX hl hg _ => ?_
  subst hl hg
  obtain ⟨V0, hV0⟩ : ∃ V0, V0 = V := ⟨_, rfl⟩
  obtain ⟨F, hF⟩ : ∃ F, F = xF [(b 0, .inr (5, mF b i j))] := ⟨_, rfl⟩
  refine rn.mono (J := xSt F V0 [(b 0, .inr (5, mF b i j))]) (fun V9 h => by rw [h, hV0, hF]; exact hV.st) ?_
  show rn C (xSt F V0 [(b 0, .inr (5, mF b i j))]) 0 0 0 [(0, .ref (b 0)), (1, .int x), (2, .int y), (3, .int p), (4, .int q)] []
  refine r_aload_n hC 0 dX6_refine_0 rfl 1 rfl ?_
  refine r_iconst hC 0 dX6_refine_1 ic_0 2 rfl ?_
  refine r_put (J := xSt F V0 [(b 0, .inr (5, mF b (va_up i 0 0) j))]) hC kX6 0 rfl q2753 rfl (fun _ h => h.get 0 rfl) (Nat.le_of_ble_eq_true rfl) rfl rfl dX6_refine_2 (fun _ h => h.set 0 _ rfl) 5 rfl ?_
  refine r_aload_n hC 0 dX6_refine_5 rfl 6 rfl ?_
  refine r_aload_n hC 0 dX6_refine_6 rfl 7 rfl ?_
  refine r_iload_n hC 1 dX6_refine_7 rfl 8 rfl ?_
  refine r_iload_n hC 2 dX6_refine_8 rfl 9 rfl ?_
  refine r_invVr hC kX6 (b 0) [.int x, .int y] (.int 0) mVX6_isAsked q3169 (fun _ h => h.get 0 rfl) (metX6_isAskedB1 _ _ hG b _ _ x y hx) (fun _ h => h.in.sub [0] rfl rfl) ⟨rfl, rfl⟩ 0 0 rfl rfl (Nat.le_of_ble_eq_true rfl) (Nat.le_of_ble_eq_true rfl) rfl (Nat.le_of_ble_eq_true rfl) dX6_refine_9 12 rfl ?_
  refine r_ifeq hC 44 dX6_refine_12 (by decide) 15 rfl (fun _ => ?_) (fun h => absurd h (by decide))
  refine r_iconst hC 0 dX6_refine_44 ic_0 45 rfl ?_
  refine r_iconst hC 1 dX6_refine_45 ic_1 46 rfl ?_
  refine r_invVw hC kX6 (b 0) [.int 0, .int 1] [] mVX6_fails q2894 0 rfl (metX6_fails0 _ _ hG b _ _ 1) [0] [] rfl rfl rfl rfl (by decide) ⟨rfl, rfl⟩ 0 0 rfl rfl (Nat.le_of_ble_eq_true rfl) (Nat.le_of_ble_eq_true rfl) rfl (Nat.le_of_ble_eq_true rfl) dX6_refine_46 49 rfl (fun v1 w2 h3 => ?_) (fun _ _ h => h.elim)
  obtain ⟨rfl, rfl⟩ := h3
  show rn C (xSt F V0 [(b 0, .inr (5, mF b (va_up (va_up i 0 0) 0 1) j))]) 0 0 49 [(0, .ref (b 0)), (1, .int x), (2, .int y), (3, .int p), (4, .int q)] [.int 1]
  refine r_ifeq hC 54 dX6_refine_49 (by decide) 52 rfl (fun h => absurd h (by decide)) (fun _ => ?_)
  refine r_iconst hC 0 dX6_refine_52 ic_0 53 rfl ?_
  exact r_iret hC (Nat.le_of_ble_eq_true rfl) (Nat.le_of_ble_eq_true rfl) (fun V9 h => hQ _ _ ⟨[(b 0, .inr (5, mF b (va_up (va_up i 0 0) 0 1) j))], ⟨rfl, by simp only [bx_uu]⟩, by rw [← hV0, ← hF]; exact h⟩) dX6_refine_53
set_option maxHeartbeats 4000000 in
set_option maxRecDepth 100000 in
theorem metX6_refineB2 (l : Launch) (G : xG) (hG : xGood G) (b : Nat → Nat) (i : Nat → Int32) (j : Nat → Int64) (x y p q : Int32) (hx : bI (m_in x.toInt64 0 3) = 1) (hy : bI (m_in y.toInt64 2 300) = 0) : xWm l G yX6_refine (Cond.code yX6_refine cX6_refine 8 (some .int)) { frames := 2, locals := 47, cells := 0, slots := 0 } [.ref (b 0), .int x, .int y, .int p, .int q] [(b 0, .inr (5, mF b i j))] (fun v w' => v = some (.int 0) ∧ w' = [(b 0, .inr (5, mF b (va_up i 0 1) j))]) (fun _ _ => False) := by
  intro V hV
  refine xMet_of RX6 hG rfl (by decide) (Nat.le_of_ble_eq_true rfl) fun C hC hQ hX hl hg _ => ?_
  subst hl hg
  obtain ⟨V0, hV0⟩ : ∃ V0, V0 = V := ⟨_, rfl⟩
  obtain ⟨F, hF⟩ : ∃ F, F = xF [(b 0, .inr (5, mF b i j))] := ⟨_, rfl⟩
  refine rn.mono (J := xSt F V0 [(b 0, .inr (5, mF b i j))]) (fun V9 h => by rw [h, hV0, hF]; exact hV.st) ?_
  show rn C (xSt F V0 [(b 0, .inr (5, mF b i j))]) 0 0 0 [(0, .ref (b 0)), (1, .int x), (2, .int y), (3, .int p), (4, .int q)] []
  refine r_aload_n hC 0 dX6_refine_0 rfl 1 rfl ?_
  refine r_iconst hC 0 dX6_refine_1 ic_0 2 rfl ?_
  refine r_put (J := xSt F V0 [(b 0, .inr (5, mF b (va_up i 0 0) j))]) hC kX6 0 rfl q2753 rfl (fun _ h => h.get 0 rfl) (Nat.le_of_ble_eq_true rfl) rfl rfl dX6_refine_2 (fun _ h => h.set 0 _ rfl) 5 rfl ?_
  refine r_aload_n hC 0 dX6_refine_5 rfl 6 rfl ?_
  refine r_aload_n hC 0 dX6_refine_6 rfl 7 rfl ?_
  refine r_iload_n hC 1 dX6_refine_7 rfl 8 rfl ?_
  refine r_iload_n hC 2 dX6_refine_8 rfl 9 rfl ?_
  refine r_invVr hC kX6 (b 0) [.int x, .int y] (.int 0) mVX6_isAsked q3169 (fun _ h => h.get 0 rfl) (metX6_isAskedB2 _ _ hG b _ _ x y hx hy) (fun _ h => h.in.sub [0] rfl rfl) ⟨rfl, rfl⟩ 0 0 rfl rfl (Nat.le_of_ble_eq_true rfl) (Nat.le_of_ble_eq_true rfl) rfl (Nat.le_of_ble_eq_true rfl) dX6_refine_9 12 rfl ?_
  refine r_ifeq hC 44 dX6_refine_12 (by decide) 15 rfl (fun _ => ?_) (fun h => absurd h (by decide))
  refine r_iconst hC 0 dX6_refine_44 ic_0 45 rfl ?_
  refine r_iconst hC 1 dX6_refine_45 ic_1 46 rfl ?_
  refine r_invVw hC kX6 (b 0) [.int 0, .int 1] [] mVX6_fails q2894 0 rfl (metX6_fails0 _ _ hG b _ _ 1) [0] [] rfl rfl rfl rfl (by decide) ⟨rfl, rfl⟩ 0 0 rfl rfl (Nat.le_of_ble_eq_true rfl) (Nat.le_of_ble_eq_true rfl) rfl (Nat.le_of_ble_eq_true rfl) dX6_refine_46 49 rfl (fun v1 w2 h3 => ?_) (fun _ _ h => h.elim)
  obtain ⟨rfl, rfl⟩ := h3
  show rn C (xSt F V0 [(b 0, .inr (5, mF b (va_up (va_up i 0 0) 0 1) j))]) 0 0 49 [(0, .ref (b 0)), (1, .int x), (2, .int y), (3, .int p), (4, .int q)] [.int 1]
  refine r_ifeq hC 54 dX6_refine_49 (by decide) 52 rfl (fun h => absurd h (by decide)) (fun _ => ?_)
  refine r_iconst hC 0 dX6_refine_52 ic_0 53 rfl ?_
  exact r_iret hC (Nat.le_of_ble_eq_true rfl) (Nat.le_of_ble_eq_true rfl) (fun V9 h => hQ _ _ ⟨[(b 0, .inr (5, mF b (va_up (va_up i 0 0) 0 1) j))], ⟨rfl, by simp only [bx_uu]⟩, by rw [← hV0, ← hF]; exact h⟩) dX6_refine_53
set_option maxHeartbeats 4000000 in
set_option maxRecDepth 100000 in
theorem metX6_refineB4 (l : Launch) (G : xG) (hG : xGood G) (b : Nat → Nat) (i : Nat → Int32) (j : Nat → Int64) (kd N : Nat) (p q : Int32) (hkd : kd < 4) (hN : N ≤ 300) (hN2 : 2 ≤ N) (hf : bI (fitsQ kd N) = 1) (hp : bI (m_in p.toInt64 1 1000000) = 0) : xWm l G yX6_refine (Cond.code yX6_refine cX6_refine 8 (some .int)) { frames := 2, locals := 47, cells := 0, slots := 0 } [.ref (b 0), .int (nI kd), .int (nI N), .int p, .int q] [(b 0, .inr (5, mF b i j))] (fun v w' => v = some (.int 0) ∧ w' = [(b 0, .inr (5, mF b (va_up i 0 1) j))]) (fun _ _ => False) := by
  intro V hV
  refine xMet_of RX6 hG rfl (by decide) (Nat.le_of_ble_eq_true rfl) fun C hC hQ hX hl hg _ => ?_
  subst hl hg
  obtain ⟨V0, hV0⟩ : ∃ V0, V0 = V := ⟨_, rfl⟩
  obtain ⟨F, hF⟩ : ∃ F, F = xF [(b 0, .inr (5, mF b i j))] := ⟨_, rfl⟩
  refine rn.mono (J := xSt F V0 [(b 0, .inr (5, mF b i j))]) (fun V9 h => by rw [h, hV0, hF]; exact hV.st) ?_
  show rn C (xSt F V0 [(b 0, .inr (5, mF b i j))]) 0 0 0 [(0, .ref (b 0)), (1, .int (nI kd)), (2, .int (nI N)), (3, .int p), (4, .int q)] []
  refine r_aload_n hC 0 dX6_refine_0 rfl 1 rfl ?_
  refine r_iconst hC 0 dX6_refine_1 ic_0 2 rfl ?_
  refine r_put (J := xSt F V0 [(b 0, .inr (5, mF b (va_up i 0 0) j))]) hC kX6 0 rfl q2753 rfl (fun _ h => h.get 0 rfl) (Nat.le_of_ble_eq_true rfl) rfl rfl dX6_refine_2 (fun _ h => h.set 0 _ rfl) 5 rfl ?_
  refine r_aload_n hC 0 dX6_refine_5 rfl 6 rfl ?_
  refine r_aload_n hC 0 dX6_refine_6 rfl 7 rfl ?_
  refine r_iload_n hC 1 dX6_refine_7 rfl 8 rfl ?_
  refine r_iload_n hC 2 dX6_refine_8 rfl 9 rfl ?_
  refine r_invVr hC kX6 (b 0) [.int (nI kd), .int (nI N)] (.int 1) mVX6_isAsked q3169 (fun _ h => h.get 0 rfl) (metX6_isAskedG _ _ hG b _ _ kd N hkd hN hN2 hf) (fun _ h => h.in.sub [0] rfl rfl) ⟨rfl, rfl⟩ 0 0 rfl rfl (Nat.le_of_ble_eq_true rfl) (Nat.le_of_ble_eq_true rfl) rfl (Nat.le_of_ble_eq_true rfl) dX6_refine_9 12 rfl ?_
  refine r_ifeq hC 44 dX6_refine_12 (by decide) 15 rfl (fun h => absurd h (by decide)) (fun _ => ?_)
  refine r_iload_n hC 3 dX6_refine_15 rfl 16 rfl ?_
  refine r_i2l hC p.toInt64 dX6_refine_16 (rfl) 17 rfl ?_
  refine r_lconst hC 1 dX6_refine_17 lc_1 18 rfl ?_
  refine r_ldc2 hC q3084 dX6_refine_18 21 rfl ?_
  refine r_invSr hC [.long p.toInt64, .long 1, .long 1000000] (.int 0) mSX6_in q2891 (metX6_inB _ _ hG p.toInt64 1 1000000 0 (hp)) (fun _ _ => xIn.nil) ⟨rfl, rfl⟩ 0 0 rfl rfl (Nat.le_of_ble_eq_true rfl) (Nat.le_of_ble_eq_true rfl) rfl (Nat.le_of_ble_eq_true rfl) dX6_refine_21 24 rfl ?_
  refine r_ifeq hC 44 dX6_refine_24 (by decide) 27 rfl (fun _ => ?_) (fun h => absurd h (by decide))
  refine r_iconst hC 0 dX6_refine_44 ic_0 45 rfl ?_
  refine r_iconst hC 1 dX6_refine_45 ic_1 46 rfl ?_
  refine r_invVw hC kX6 (b 0) [.int 0, .int 1] [] mVX6_fails q2894 0 rfl (metX6_fails0 _ _ hG b _ _ 1) [0] [] rfl rfl rfl rfl (by decide) ⟨rfl, rfl⟩ 0 0 rfl rfl (Nat.le_of_ble_eq_true rfl) (Nat.le_of_ble_eq_true rfl) rfl (Nat.le_of_ble_eq_true rfl) dX6_refine_46 49 rfl (fun v1 w2 h3 => ?_) (fun _ _ h => h.elim)
  obtain ⟨rfl, rfl⟩ := h3
  show rn C (xSt F V0 [(b 0, .inr (5, mF b (va_up (va_up i 0 0) 0 1) j))]) 0 0 49 [(0, .ref (b 0)), (1, .int (nI kd)), (2, .int (nI N)), (3, .int p), (4, .int q)] [.int 1]
  refine r_ifeq hC 54 dX6_refine_49 (by decide) 52 rfl (fun h => absurd h (by decide)) (fun _ => ?_)
  refine r_iconst hC 0 dX6_refine_52 ic_0 53 rfl ?_
  exact r_iret hC (Nat.le_of_ble_eq_true rfl) (Nat.le_of_ble_eq_true rfl) (fun V9 h => hQ _ _ ⟨[(b 0, .inr (5, mF b (va_up (va_up i 0 0) 0 1) j))], ⟨rfl, by simp only [bx_uu]⟩, by rw [← hV0, ← hF]; exact h⟩) dX6_refine_53
set_option maxHeartbeats 4000000 in
set_option maxRecDepth 100000 in
theorem metX6_refineB5 (l : Launch) (G : xG) (hG : xGood G) (b : Nat → Nat) (i : Nat → Int32) (j : Nat → Int64) (kd N : Nat) (p q : Int32) (hkd : kd < 4) (hN : N ≤ 300) (hN2 : 2 ≤ N) (hf : bI (fitsQ kd N) = 1) (hp : bI (m_in p.toInt64 1 1000000) = 1) (hq : bI (m_in q.toInt64 1 20) = 0) : xWm l G yX6_refine (Cond.code yX6_refine cX6_refine 8 (some .int)) { frames := 2, locals := 47, cells := 0, slots := 0 } [.ref (b 0), .int (nI kd), .int (nI N), .int p, .int q] [(b 0, .inr (5, mF b i j))] (fun v w' => v = some (.int 0) ∧ w' = [(b 0, .inr (5, mF b (va_up i 0 1) j))]) (fun _ _ => False) := by
  intro V hV
  refine xMet_of RX6 hG rfl (by decide) (Nat.le_of_ble_eq_true rfl) fun C hC hQ hX hl hg _ => ?_
  subst hl hg
  obtain ⟨V0, hV0⟩ : ∃ V0, V0 = V := ⟨_, rfl⟩
  obtain ⟨F, hF⟩ : ∃ F, F = xF [(b 0, .inr (5, mF b i j))] := ⟨_, rfl⟩
  refine rn.mono (J := xSt F V0 [(b 0, .inr (5, mF b i j))]) (fun V9 h => by rw [h, hV0, hF]; exact hV.st) ?_
  show rn C (xSt F V0 [(b 0, .inr (5, mF b i j))]) 0 0 0 [(0, .ref (b 0)), (1, .int (nI kd)), (2, .int (nI N)), (3, .int p), (4, .int q)] []
  refine r_aload_n hC 0 dX6_refine_0 rfl 1 rfl ?_
  refine r_iconst hC 0 dX6_refine_1 ic_0 2 rfl ?_
  refine r_put (J := xSt F V0 [(b 0, .inr (5, mF b (va_up i 0 0) j))]) hC kX6 0 rfl q2753 rfl (fun _ h => h.get 0 rfl) (Nat.le_of_ble_eq_true rfl) rfl rfl dX6_refine_2 (fun _ h => h.set 0 _ rfl) 5 rfl ?_
  refine r_aload_n hC 0 dX6_refine_5 rfl 6 rfl ?_
  refine r_aload_n hC 0 dX6_refine_6 rfl 7 rfl ?_
  refine r_iload_n hC 1 dX6_refine_7 rfl 8 rfl ?_
  refine r_iload_n hC 2 dX6_refine_8 rfl 9 rfl ?_
  refine r_invVr hC kX6 (b 0) [.int (nI kd), .int (nI N)] (.int 1) mVX6_isAsked q3169 (fun _ h => h.get 0 rfl) (metX6_isAskedG _ _ hG b _ _ kd N hkd hN hN2 hf) (fun _ h => h.in.sub [0] rfl rfl) ⟨rfl, rfl⟩ 0 0 rfl rfl (Nat.le_of_ble_eq_true rfl) (Nat.le_of_ble_eq_true rfl) rfl (Nat.le_of_ble_eq_true rfl) dX6_refine_9 12 rfl ?_
  refine r_ifeq hC 44 dX6_refine_12 (by decide) 15 rfl (fun h => absurd h (by decide)) (fun _ => ?_)
  refine r_iload_n hC 3 dX6_refine_15 rfl 16 rfl ?_
  refine r_i2l hC p.toInt64 dX6_refine_16 (rfl) 17 rfl ?_
  refine r_lconst hC 1 dX6_refine_17 lc_1 18 rfl ?_
  refine r_ldc2 hC q3084 dX6_refine_18 21 rfl ?_
  refine r_invSr hC [.long p.toInt64, .long 1, .long 1000000] (.int 1) mSX6_in q2891 (metX6_inB _ _ hG p.toInt64 1 1000000 1 (hp)) (fun _ _ => xIn.nil) ⟨rfl, rfl⟩ 0 0 rfl rfl (Nat.le_of_ble_eq_true rfl) (Nat.le_of_ble_eq_true rfl) rfl (Nat.le_of_ble_eq_true rfl) dX6_refine_21 24 rfl ?_
  refine r_ifeq hC 44 dX6_refine_24 (by decide) 27 rfl (fun h => absurd h (by decide)) (fun _ => ?_)
  refine r_iload hC 4 dX6_refine_27 rfl 29 rfl ?_
  refine r_i2l hC q.toInt64 dX6_refine_29 (rfl) 30 rfl ?_
  refine r_lconst hC 1 dX6_refine_30 lc_1 31 rfl ?_
  refine r_ldc2 hC q3236 dX6_refine_31 34 rfl ?_
  refine r_invSr hC [.long q.toInt64, .long 1, .long 20] (.int 0) mSX6_in q2891 (metX6_inB _ _ hG q.toInt64 1 20 0 (hq)) (fun _ _ => xIn.nil) ⟨rfl, rfl⟩ 0 0 rfl rfl (Nat.le_of_ble_eq_true rfl) (Nat.le_of_ble_eq_true rfl) rfl (Nat.le_of_ble_eq_true rfl) dX6_refine_34 37 rfl ?_
  refine r_ifeq hC 44 dX6_refine_37 (by decide) 40 rfl (fun _ => ?_) (fun h => absurd h (by decide))
  refine r_iconst hC 0 dX6_refine_44 ic_0 45 rfl ?_
  refine r_iconst hC 1 dX6_refine_45 ic_1 46 rfl ?_
  refine r_invVw hC kX6 (b 0) [.int 0, .int 1] [] mVX6_fails q2894 0 rfl (metX6_fails0 _ _ hG b _ _ 1) [0] [] rfl rfl rfl rfl (by decide) ⟨rfl, rfl⟩ 0 0 rfl rfl (Nat.le_of_ble_eq_true rfl) (Nat.le_of_ble_eq_true rfl) rfl (Nat.le_of_ble_eq_true rfl) dX6_refine_46 49 rfl (fun v1 w2 h3 => ?_) (fun _ _ h => h.elim)
  obtain ⟨rfl, rfl⟩ := h3
  show rn C (xSt F V0 [(b 0, .inr (5, mF b (va_up (va_up i 0 0) 0 1) j))]) 0 0 49 [(0, .ref (b 0)), (1, .int (nI kd)), (2, .int (nI N)), (3, .int p), (4, .int q)] [.int 1]
  refine r_ifeq hC 54 dX6_refine_49 (by decide) 52 rfl (fun h => absurd h (by decide)) (fun _ => ?_)
  refine r_iconst hC 0 dX6_refine_52 ic_0 53 rfl ?_
  exact r_iret hC (Nat.le_of_ble_eq_true rfl) (Nat.le_of_ble_eq_true rfl) (fun V9 h => hQ _ _ ⟨[(b 0, .inr (5, mF b (va_up (va_up i 0 0) 0 1) j))], ⟨rfl, by simp only [bx_uu]⟩, by rw [← hV0, ← hF]; exact h⟩) dX6_refine_53
