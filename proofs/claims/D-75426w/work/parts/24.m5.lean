/-! ===== the reference: what is told ===== -/
set_option maxRecDepth 100000
theorem nIl_toInt {p : Nat} (h : p < 2 ^ 31) : (nI p).toInt64.toInt = (p : Int) := by rw [nI_l h, lN_toInt h]
theorem in_yes {x lo hi : Int64} (h1 : lo.toInt ≤ x.toInt) (h2 : x.toInt ≤ hi.toInt) : m_in x lo hi = true := by
  have a : ¬ x < lo := fun h => by have := Int64.lt_iff_toInt_lt.mp h; omega
  have b : ¬ hi < x := fun h => by have := Int64.lt_iff_toInt_lt.mp h; omega
  simp [m_in, a, b]
theorem in_iff {x lo hi : Int64} : m_in x lo hi = true ↔ lo.toInt ≤ x.toInt ∧ x.toInt ≤ hi.toInt := by
  constructor
  · intro h
    simp only [m_in, Bool.and_eq_true, Bool.not_eq_true', decide_eq_false_iff_not] at h
    have a : ¬ x.toInt < lo.toInt := fun q => h.1 (Int64.lt_iff_toInt_lt.mpr q)
    have b : ¬ hi.toInt < x.toInt := fun q => h.2 (Int64.lt_iff_toInt_lt.mpr q)
    omega
  · intro h; exact in_yes h.1 h.2
theorem in_n {p N : Nat} {hi : Int64} (hp : p ≤ N) (hh : hi.toInt = N) (h : N < 2 ^ 31) : bI (m_in (nI p).toInt64 0 hi) = 1 := by
  rw [in_yes (by rw [nIl_toInt (by omega)]; exact Int.natCast_nonneg p) (by rw [nIl_toInt (by omega), hh]; omega)]
  rfl
theorem i_lt0 (x : Int32) : x.toInt64.toInt = x.toInt := Int32.toInt_toInt64 x
/-- a good number, as a natural one -/
theorem in_get {x : Int32} {N : Nat} {hi : Int64} (h : ¬ bI (m_in x.toInt64 0 hi) = 0) (hh : hi.toInt = N) : ∃ p, p ≤ N ∧ x = nI p := by
  have h1 := in_iff.mp (bI_n0.mp h)
  rw [i_lt0, hh] at h1
  have h0 : ¬ x < 0 := fun q => by have := Int32.lt_iff_toInt_lt.mp q; have e : (0 : Int32).toInt = 0 := rfl; have e2 : (0 : Int64).toInt = 0 := rfl; omega
  obtain ⟨j, hj, rfl⟩ := nI_of h0
  rw [nI_toInt hj] at h1
  exact ⟨j, by omega, rfl⟩
set_option maxHeartbeats 4000000 in
set_option maxRecDepth 100000 in
theorem metX6_inB (l : Launch) (G : xG) (hG : xGood G) (v lo hi : Int64) (z : Int32) (hz : bI (m_in v lo hi) = z) : xRm l G yX6_in (Cond.code yX6_in cX6_in 6 (some .boolean)) { frames := 0, locals := 0, cells := 0, slots := 0 } [.long v, .long lo, .long hi] [] (some (.int z)) := by
  intro V hV
  refine xMet_of RX6 hG rfl (by decide) (Nat.le_of_ble_eq_true rfl) fun C hC hQ hX hl hg _ => ?_
  subst hl hg
  refine rn.mono (J := xRo [] V) (fun V9 h => ⟨h, hV⟩) ?_
  show rn C (xRo [] V) 0 0 0 [(0, .long v), (2, .long lo), (4, .long hi)] []
  refine r_lload_n hC 0 dX6_in_0 rfl 1 rfl ?_
  refine r_lload_n hC 1 dX6_in_1 rfl 2 rfl ?_
  refine r_lclt hC 17 dX6_in_2 dX6_in_3 (by decide) 6 rfl (fun c1 => ?_) (fun c1 => ?_)
  · skip
    refine r_iconst hC 0 dX6_in_17 ic_0 18 rfl ?_
    exact r_zret hC (by decide) (Nat.le_of_ble_eq_true rfl) (Nat.le_of_ble_eq_true rfl) (fun V9 h => hQ _ _ ⟨by rw [← hz]; simp [m_in, bI, c1], h.1⟩) dX6_in_18
  · skip
    refine r_lload_n hC 0 dX6_in_6 rfl 7 rfl ?_
    refine r_lload hC 2 dX6_in_7 rfl 9 rfl ?_
    refine r_lcgt hC 17 dX6_in_9 dX6_in_10 (by decide) 13 rfl (fun c2 => ?_) (fun c2 => ?_)
    · skip
      refine r_iconst hC 0 dX6_in_17 ic_0 18 rfl ?_
      exact r_zret hC (by decide) (Nat.le_of_ble_eq_true rfl) (Nat.le_of_ble_eq_true rfl) (fun V9 h => hQ _ _ ⟨by rw [← hz]; simp [m_in, bI, c1, c2], h.1⟩) dX6_in_18
    · skip
      refine r_iconst hC 1 dX6_in_13 ic_1 14 rfl ?_
      refine r_goto hC 18 dX6_in_14 (by decide) ?_
      exact r_zret hC (by decide) (Nat.le_of_ble_eq_true rfl) (Nat.le_of_ble_eq_true rfl) (fun V9 h => hQ _ _ ⟨by rw [← hz]; simp [m_in, bI, c1, c2], h.1⟩) dX6_in_18
set_option maxHeartbeats 4000000 in
set_option maxRecDepth 100000 in
theorem metX6_fails1 (l : Launch) (G : xG) (hG : xGood G) (b : Nat → Nat) (i : Nat → Int32) (j : Nat → Int64) (c : Int32) : xRm l G yX6_fails (Cond.code yX6_fails cX6_fails 3 (some .boolean)) { frames := 0, locals := 0, cells := 0, slots := 0 } [.ref (b 0), .int 1, .int c] [(b 0, .inr (5, mF b i j))] (some (.int 0)) := by
  intro V hV
  refine xMet_of RX6 hG rfl (by decide) (Nat.le_of_ble_eq_true rfl) fun C hC hQ hX hl hg _ => ?_
  subst hl hg
  refine rn.mono (J := xRo [(b 0, .inr (5, mF b i j))] V) (fun V9 h => ⟨h, hV⟩) ?_
  show rn C (xRo [(b 0, .inr (5, mF b i j))] V) 0 0 0 [(0, .ref (b 0)), (1, .int 1), (2, .int c)] []
  refine r_iload_n hC 1 dX6_fails_0 rfl 1 rfl ?_
  refine r_ifeq hC 6 dX6_fails_1 (by decide) 4 rfl (fun h => absurd h (by decide)) (fun _ => ?_)
  refine r_iconst hC 0 dX6_fails_4 ic_0 5 rfl ?_
  exact r_zret hC (by decide) (Nat.le_of_ble_eq_true rfl) (Nat.le_of_ble_eq_true rfl) (fun V9 h => hQ _ _ ⟨rfl, h.1⟩) dX6_fails_5
set_option maxHeartbeats 4000000 in
set_option maxRecDepth 100000 in
theorem metX6_fails0 (l : Launch) (G : xG) (hG : xGood G) (b : Nat → Nat) (i : Nat → Int32) (j : Nat → Int64) (c : Int32) : xWm l G yX6_fails (Cond.code yX6_fails cX6_fails 3 (some .boolean)) { frames := 0, locals := 0, cells := 0, slots := 0 } [.ref (b 0), .int 0, .int c] [(b 0, .inr (5, mF b i j))] (fun v w' => v = some (.int 1) ∧ w' = [(b 0, .inr (5, mF b (va_up i 0 c) j))]) (fun _ _ => False) := by
  intro V hV
  refine xMet_of RX6 hG rfl (by decide) (Nat.le_of_ble_eq_true rfl) fun C hC hQ hX hl hg _ => ?_
  subst hl hg
  obtain ⟨V0, hV0⟩ : ∃ V0, V0 = V := ⟨_, rfl⟩
  obtain ⟨F, hF⟩ : ∃ F, F = xF [(b 0, .inr (5, mF b i j))] := ⟨_, rfl⟩
  refine rn.mono (J := xSt F V0 [(b 0, .inr (5, mF b i j))]) (fun V9 h => by rw [h, hV0, hF]; exact hV.st) ?_
  show rn C (xSt F V0 [(b 0, .inr (5, mF b i j))]) 0 0 0 [(0, .ref (b 0)), (1, .int 0), (2, .int c)] []
  refine r_iload_n hC 1 dX6_fails_0 rfl 1 rfl ?_
  refine r_ifeq hC 6 dX6_fails_1 (by decide) 4 rfl (fun _ => ?_) (fun h => absurd h (by decide))
  refine r_aload_n hC 0 dX6_fails_6 rfl 7 rfl ?_
  refine r_iload_n hC 2 dX6_fails_7 rfl 8 rfl ?_
  refine r_put (J := xSt F V0 [(b 0, .inr (5, mF b (va_up i 0 c) j))]) hC kX6 0 rfl q2753 rfl (fun _ h => h.get 0 rfl) (Nat.le_of_ble_eq_true rfl) rfl rfl dX6_fails_8 (fun _ h => h.set 0 _ rfl) 11 rfl ?_
  refine r_iconst hC 1 dX6_fails_11 ic_1 12 rfl ?_
  exact r_zret hC (by decide) (Nat.le_of_ble_eq_true rfl) (Nat.le_of_ble_eq_true rfl) (fun V9 h => hQ _ _ ⟨[(b 0, .inr (5, mF b (va_up i 0 c) j))], ⟨rfl, rfl⟩, by rw [← hV0, ← hF]; exact h⟩) dX6_fails_12
set_option maxHeartbeats 4000000 in
set_option maxRecDepth 100000 in
theorem metX6_noBody0 (l : Launch) (G : xG) (hG : xGood G) (b : Nat → Nat) (i : Nat → Int32) (j : Nat → Int64) (p : Nat) (hp : p < 3) : xWm l G yX6_noBody (Cond.code yX6_noBody cX6_noBody 2 (some .boolean)) { frames := 1, locals := 25, cells := 0, slots := 0 } [.ref (b 0), .int (nI p)] [(b 0, .inr (5, mF b i j))] (fun v w' => v = some (.int 0) ∧ w' = [(b 0, .inr (5, mF b (va_up i 0 0) j))]) (fun _ _ => False) := by
  intro V hV
  refine xMet_of RX6 hG rfl (by decide) (Nat.le_of_ble_eq_true rfl) fun C hC hQ hX hl hg _ => ?_
  subst hl hg
  obtain ⟨V0, hV0⟩ : ∃ V0, V0 = V := ⟨_, rfl⟩
  obtain ⟨F, hF⟩ : ∃ F, F = xF [(b 0, .inr (5, mF b i j))] := ⟨_, rfl⟩
  refine rn.mono (J := xSt F V0 [(b 0, .inr (5, mF b i j))]) (fun V9 h => by rw [h, hV0, hF]; exact hV.st) ?_
  show rn C (xSt F V0 [(b 0, .inr (5, mF b i j))]) 0 0 0 [(0, .ref (b 0)), (1, .int (nI p))] []
  refine r_aload_n hC 0 dX6_noBody_0 rfl 1 rfl ?_
  refine r_iconst hC 0 dX6_noBody_1 ic_0 2 rfl ?_
  refine r_put (J := xSt F V0 [(b 0, .inr (5, mF b (va_up i 0 0) j))]) hC kX6 0 rfl q2753 rfl (fun _ h => h.get 0 rfl) (Nat.le_of_ble_eq_true rfl) rfl rfl dX6_noBody_2 (fun _ h => h.set 0 _ rfl) 5 rfl ?_
  refine r_aload_n hC 0 dX6_noBody_5 rfl 6 rfl ?_
  refine r_iload_n hC 1 dX6_noBody_6 rfl 7 rfl ?_
  refine r_i2l hC ((nI p).toInt64) dX6_noBody_7 (rfl) 8 rfl ?_
  refine r_lconst hC 0 dX6_noBody_8 lc_0 9 rfl ?_
  refine r_ldc2 hC q2728 dX6_noBody_9 12 rfl ?_
  refine r_invSr hC [.long ((nI p).toInt64), .long 0, .long 2] (.int 1) mSX6_in q2891 (metX6_inB _ _ hG ((nI p).toInt64) 0 2 1 (in_n (N := 2) (by omega) rfl (by decide))) (fun _ _ => xIn.nil) ⟨rfl, rfl⟩ 0 0 rfl rfl (Nat.le_of_ble_eq_true rfl) (Nat.le_of_ble_eq_true rfl) rfl (Nat.le_of_ble_eq_true rfl) dX6_noBody_12 15 rfl ?_
  refine r_iconst hC 1 dX6_noBody_15 ic_1 16 rfl ?_
  refine r_invVr hC kX6 (b 0) [.int 1, .int 1] (.int 0) mVX6_fails q2894 (fun _ h => h.get 0 rfl) (metX6_fails1 _ _ hG b _ _ 1) (fun _ h => h.in.sub [0] rfl rfl) ⟨rfl, rfl⟩ 0 0 rfl rfl (Nat.le_of_ble_eq_true rfl) (Nat.le_of_ble_eq_true rfl) rfl (Nat.le_of_ble_eq_true rfl) dX6_noBody_16 19 rfl ?_
  exact r_zret hC (by decide) (Nat.le_of_ble_eq_true rfl) (Nat.le_of_ble_eq_true rfl) (fun V9 h => hQ _ _ ⟨[(b 0, .inr (5, mF b (va_up i 0 0) j))], ⟨rfl, rfl⟩, by rw [← hV0, ← hF]; exact h⟩) dX6_noBody_19
set_option maxHeartbeats 4000000 in
set_option maxRecDepth 100000 in
theorem metX6_noBody1 (l : Launch) (G : xG) (hG : xGood G) (b : Nat → Nat) (i : Nat → Int32) (j : Nat → Int64) (x : Int32) (hx : bI (m_in x.toInt64 0 2) = 0) : xWm l G yX6_noBody (Cond.code yX6_noBody cX6_noBody 2 (some .boolean)) { frames := 1, locals := 25, cells := 0, slots := 0 } [.ref (b 0), .int x] [(b 0, .inr (5, mF b i j))] (fun v w' => v = some (.int 1) ∧ w' = [(b 0, .inr (5, mF b (va_up i 0 1) j))]) (fun _ _ => False) := by
  intro V hV
  refine xMet_of RX6 hG rfl (by decide) (Nat.le_of_ble_eq_true rfl) fun C hC hQ hX hl hg _ => ?_
  subst hl hg
  obtain ⟨V0, hV0⟩ : ∃ V0, V0 = V := ⟨_, rfl⟩
  obtain ⟨F, hF⟩ : ∃ F, F = xF [(b 0, .inr (5, mF b i j))] := ⟨_, rfl⟩
  refine rn.mono (J := xSt F V0 [(b 0, .inr (5, mF b i j))]) (fun V9 h => by rw [h, hV0, hF]; exact hV.st) ?_
  show rn C (xSt F V0 [(b 0, .inr (5, mF b i j))]) 0 0 0 [(0, .ref (b 0)), (1, .int x)] []
  refine r_aload_n hC 0 dX6_noBody_0 rfl 1 rfl ?_
  refine r_iconst hC 0 dX6_noBody_1 ic_0 2 rfl ?_
  refine r_put (J := xSt F V0 [(b 0, .inr (5, mF b (va_up i 0 0) j))]) hC kX6 0 rfl q2753 rfl (fun _ h => h.get 0 rfl) (Nat.le_of_ble_eq_true rfl) rfl rfl dX6_noBody_2 (fun _ h => h.set 0 _ rfl) 5 rfl ?_
  refine r_aload_n hC 0 dX6_noBody_5 rfl 6 rfl ?_
  refine r_iload_n hC 1 dX6_noBody_6 rfl 7 rfl ?_
  refine r_i2l hC x.toInt64 dX6_noBody_7 (rfl) 8 rfl ?_
  refine r_lconst hC 0 dX6_noBody_8 lc_0 9 rfl ?_
  refine r_ldc2 hC q2728 dX6_noBody_9 12 rfl ?_
  refine r_invSr hC [.long x.toInt64, .long 0, .long 2] (.int 0) mSX6_in q2891 (metX6_inB _ _ hG x.toInt64 0 2 0 (hx)) (fun _ _ => xIn.nil) ⟨rfl, rfl⟩ 0 0 rfl rfl (Nat.le_of_ble_eq_true rfl) (Nat.le_of_ble_eq_true rfl) rfl (Nat.le_of_ble_eq_true rfl) dX6_noBody_12 15 rfl ?_
  refine r_iconst hC 1 dX6_noBody_15 ic_1 16 rfl ?_
  refine r_invVw hC kX6 (b 0) [.int 0, .int 1] [] mVX6_fails q2894 0 rfl (metX6_fails0 _ _ hG b _ _ 1) [0] [] rfl rfl rfl rfl (by decide) ⟨rfl, rfl⟩ 0 0 rfl rfl (Nat.le_of_ble_eq_true rfl) (Nat.le_of_ble_eq_true rfl) rfl (Nat.le_of_ble_eq_true rfl) dX6_noBody_16 19 rfl (fun v1 w2 h3 => ?_) (fun _ _ h => h.elim)
  obtain ⟨rfl, rfl⟩ := h3
  show rn C (xSt F V0 [(b 0, .inr (5, mF b (va_up (va_up i 0 0) 0 1) j))]) 0 0 19 [(0, .ref (b 0)), (1, .int x)] [.int 1]
  exact r_zret hC (by decide) (Nat.le_of_ble_eq_true rfl) (Nat.le_of_ble_eq_true rfl) (fun V9 h => hQ _ _ ⟨[(b 0, .inr (5, mF b (va_up (va_up i 0 0) 0 1) j))], ⟨rfl, by simp only [bx_uu]⟩, by rw [← hV0, ← hF]; exact h⟩) dX6_noBody_19
set_option maxHeartbeats 4000000 in
set_option maxRecDepth 100000 in
theorem metX6_thrown (l : Launch) (G : xG) (hG : xGood G) (b : Nat → Nat) (i : Nat → Int32) (j : Nat → Int64) : xRm l G yX6_thrown (Cond.code yX6_thrown cX6_thrown 1 (some .int)) { frames := 0, locals := 0, cells := 0, slots := 0 } [.ref (b 0)] [(b 0, .inr (5, mF b i j))] (some (.int (i 0))) := by
  intro V hV
  refine xMet_of RX6 hG rfl (by decide) (Nat.le_of_ble_eq_true rfl) fun C hC hQ hX hl hg _ => ?_
  subst hl hg
  refine rn.mono (J := xRo [(b 0, .inr (5, mF b i j))] V) (fun V9 h => ⟨h, hV⟩) ?_
  show rn C (xRo [(b 0, .inr (5, mF b i j))] V) 0 0 0 [(0, .ref (b 0))] []
  refine r_aload_n hC 0 dX6_thrown_0 rfl 1 rfl ?_
  refine r_get (v := .int (i 0)) hC kX6 0 rfl q2753 (fun _ h => h.get 0 rfl) rfl dX6_thrown_1 4 rfl ?_
  exact r_iret hC (Nat.le_of_ble_eq_true rfl) (Nat.le_of_ble_eq_true rfl) (fun V9 h => hQ _ _ ⟨rfl, h.1⟩) dX6_thrown_4
set_option maxHeartbeats 4000000 in
set_option maxRecDepth 100000 in
theorem metX6_clock (l : Launch) (G : xG) (hG : xGood G) (b : Nat → Nat) (i : Nat → Int32) (j : Nat → Int64) (r : Nat → Int64) : xWm l G yX6_clock (Cond.code yX6_clock cX6_clock 1 (some .int)) { frames := 0, locals := 0, cells := 0, slots := 0 } [.ref (b 0)] [(b 0, .inr (5, mF b i j)), (b 1, .inl (1, 111, .inr (.inl r)))] (fun v w' => v = some (.int ((r 0).toInt32)) ∧ w' = [(b 0, .inr (5, mF b (va_up i 0 0) j)), (b 1, .inl (1, 111, .inr (.inl r)))]) (fun _ _ => False) := by
  intro V hV
  refine xMet_of RX6 hG rfl (by decide) (Nat.le_of_ble_eq_true rfl) fun C hC hQ hX hl hg _ => ?_
  subst hl hg
  obtain ⟨V0, hV0⟩ : ∃ V0, V0 = V := ⟨_, rfl⟩
  obtain ⟨F, hF⟩ : ∃ F, F = xF [(b 0, .inr (5, mF b i j)), (b 1, .inl (1, 111, .inr (.inl r)))] := ⟨_, rfl⟩
  refine rn.mono (J := xSt F V0 [(b 0, .inr (5, mF b i j)), (b 1, .inl (1, 111, .inr (.inl r)))]) (fun V9 h => by rw [h, hV0, hF]; exact hV.st) ?_
  show rn C (xSt F V0 [(b 0, .inr (5, mF b i j)), (b 1, .inl (1, 111, .inr (.inl r)))]) 0 0 0 [(0, .ref (b 0))] []
  refine r_aload_n hC 0 dX6_clock_0 rfl 1 rfl ?_
  refine r_iconst hC 0 dX6_clock_1 ic_0 2 rfl ?_
  refine r_put (J := xSt F V0 [(b 0, .inr (5, mF b (va_up i 0 0) j)), (b 1, .inl (1, 111, .inr (.inl r)))]) hC kX6 0 rfl q2753 rfl (fun _ h => h.get 0 rfl) (Nat.le_of_ble_eq_true rfl) rfl rfl dX6_clock_2 (fun _ h => h.set 0 _ rfl) 5 rfl ?_
  refine r_aload_n hC 0 dX6_clock_5 rfl 6 rfl ?_
  refine r_get (v := .ref (b 1)) hC kX6 1 rfl q2754 (fun _ h => h.get 0 rfl) rfl dX6_clock_6 9 rfl ?_
  refine r_iconst hC 0 dX6_clock_9 ic_0 10 rfl ?_
  refine r_lald hC 0 (xix_n 0 (Nat.le_of_ble_eq_true rfl) (Nat.le_of_ble_eq_true rfl)) (fun _ h => h.get 1 rfl) (r 0) (rfl) dX6_clock_10 11 rfl ?_
  refine r_l2i hC ((r 0).toInt32) dX6_clock_11 (rfl) 12 rfl ?_
  exact r_iret hC (Nat.le_of_ble_eq_true rfl) (Nat.le_of_ble_eq_true rfl) (fun V9 h => hQ _ _ ⟨[(b 0, .inr (5, mF b (va_up i 0 0) j)), (b 1, .inl (1, 111, .inr (.inl r)))], ⟨rfl, by simp only [bx_uu]⟩, by rw [← hV0, ← hF]; exact h⟩) dX6_clock_12
set_option maxHeartbeats 4000000 in
set_option maxRecDepth 100000 in
theorem metX6_errorPosition (l : Launch) (G : xG) (hG : xGood G) (b : Nat → Nat) (i : Nat → Int32) (j : Nat → Int64) : xWm l G yX6_errorPosition (Cond.code yX6_errorPosition cX6_errorPosition 1 (some .int)) { frames := 0, locals := 0, cells := 0, slots := 0 } [.ref (b 0)] [(b 0, .inr (5, mF b i j))] (fun v w' => v = some (.int (i 22)) ∧ w' = [(b 0, .inr (5, mF b (va_up i 0 0) j))]) (fun _ _ => False) := by
  intro V hV
  refine xMet_of RX6 hG rfl (by decide) (Nat.le_of_ble_eq_true rfl) fun C hC hQ hX hl hg _ => ?_
  subst hl hg
  obtain ⟨V0, hV0⟩ : ∃ V0, V0 = V := ⟨_, rfl⟩
  obtain ⟨F, hF⟩ : ∃ F, F = xF [(b 0, .inr (5, mF b i j))] := ⟨_, rfl⟩
  refine rn.mono (J := xSt F V0 [(b 0, .inr (5, mF b i j))]) (fun V9 h => by rw [h, hV0, hF]; exact hV.st) ?_
  show rn C (xSt F V0 [(b 0, .inr (5, mF b i j))]) 0 0 0 [(0, .ref (b 0))] []
  refine r_aload_n hC 0 dX6_errorPosition_0 rfl 1 rfl ?_
  refine r_iconst hC 0 dX6_errorPosition_1 ic_0 2 rfl ?_
  refine r_put (J := xSt F V0 [(b 0, .inr (5, mF b (va_up i 0 0) j))]) hC kX6 0 rfl q2753 rfl (fun _ h => h.get 0 rfl) (Nat.le_of_ble_eq_true rfl) rfl rfl dX6_errorPosition_2 (fun _ h => h.set 0 _ rfl) 5 rfl ?_
  refine r_aload_n hC 0 dX6_errorPosition_5 rfl 6 rfl ?_
  refine r_get (v := .int (i 22)) hC kX6 22 rfl q2775 (fun _ h => h.get 0 rfl) rfl dX6_errorPosition_6 9 rfl ?_
  exact r_iret hC (Nat.le_of_ble_eq_true rfl) (Nat.le_of_ble_eq_true rfl) (fun V9 h => hQ _ _ ⟨[(b 0, .inr (5, mF b (va_up i 0 0) j))], ⟨rfl, by simp only [bx_uu]⟩, by rw [← hV0, ← hF]; exact h⟩) dX6_errorPosition_9
set_option maxHeartbeats 4000000 in
set_option maxRecDepth 100000 in
theorem metX6_crossings (l : Launch) (G : xG) (hG : xGood G) (b : Nat → Nat) (i : Nat → Int32) (j : Nat → Int64) (r : Nat → Int64) : xWm l G yX6_crossings (Cond.code yX6_crossings cX6_crossings 1 (some .int)) { frames := 0, locals := 0, cells := 0, slots := 0 } [.ref (b 0)] [(b 0, .inr (5, mF b i j)), (b 1, .inl (1, 111, .inr (.inl r)))] (fun v w' => v = some (.int ((r 2).toInt32)) ∧ w' = [(b 0, .inr (5, mF b (va_up i 0 0) j)), (b 1, .inl (1, 111, .inr (.inl r)))]) (fun _ _ => False) := by
  intro V hV
  refine xMet_of RX6 hG rfl (by decide) (Nat.le_of_ble_eq_true rfl) fun C hC hQ hX hl hg _ => ?_
  subst hl hg
  obtain ⟨V0, hV0⟩ : ∃ V0, V0 = V := ⟨_, rfl⟩
  obtain ⟨F, hF⟩ : ∃ F, F = xF [(b 0, .inr (5, mF b i j)), (b 1, .inl (1, 111, .inr (.inl r)))] := ⟨_, rfl⟩
  refine rn.mono (J := xSt F V0 [(b 0, .inr (5, mF b i j)), (b 1, .inl (1, 111, .inr (.inl r)))]) (fun V9 h => by rw [h, hV0, hF]; exact hV.st) ?_
  show rn C (xSt F V0 [(b 0, .inr (5, mF b i j)), (b 1, .inl (1, 111, .inr (.inl r)))]) 0 0 0 [(0, .ref (b 0))] []
  refine r_aload_n hC 0 dX6_crossings_0 rfl 1 rfl ?_
  refine r_iconst hC 0 dX6_crossings_1 ic_0 2 rfl ?_
  refine r_put (J := xSt F V0 [(b 0, .inr (5, mF b (va_up i 0 0) j)), (b 1, .inl (1, 111, .inr (.inl r)))]) hC kX6 0 rfl q2753 rfl (fun _ h => h.get 0 rfl) (Nat.le_of_ble_eq_true rfl) rfl rfl dX6_crossings_2 (fun _ h => h.set 0 _ rfl) 5 rfl ?_
  refine r_aload_n hC 0 dX6_crossings_5 rfl 6 rfl ?_
  refine r_get (v := .ref (b 1)) hC kX6 1 rfl q2754 (fun _ h => h.get 0 rfl) rfl dX6_crossings_6 9 rfl ?_
  refine r_iconst hC 2 dX6_crossings_9 ic_2 10 rfl ?_
  refine r_lald hC 2 (xix_n 2 (Nat.le_of_ble_eq_true rfl) (Nat.le_of_ble_eq_true rfl)) (fun _ h => h.get 1 rfl) (r 2) (rfl) dX6_crossings_10 11 rfl ?_
  refine r_l2i hC ((r 2).toInt32) dX6_crossings_11 (rfl) 12 rfl ?_
  exact r_iret hC (Nat.le_of_ble_eq_true rfl) (Nat.le_of_ble_eq_true rfl) (fun V9 h => hQ _ _ ⟨[(b 0, .inr (5, mF b (va_up i 0 0) j)), (b 1, .inl (1, 111, .inr (.inl r)))], ⟨rfl, by simp only [bx_uu]⟩, by rw [← hV0, ← hF]; exact h⟩) dX6_crossings_12
set_option maxHeartbeats 4000000 in
set_option maxRecDepth 100000 in
theorem metX6_approachCount (l : Launch) (G : xG) (hG : xGood G) (b : Nat → Nat) (i : Nat → Int32) (j : Nat → Int64) (r : Nat → Int64) : xWm l G yX6_approachCount (Cond.code yX6_approachCount cX6_approachCount 1 (some .int)) { frames := 0, locals := 0, cells := 0, slots := 0 } [.ref (b 0)] [(b 0, .inr (5, mF b i j)), (b 1, .inl (1, 111, .inr (.inl r)))] (fun v w' => v = some (.int ((r 5).toInt32)) ∧ w' = [(b 0, .inr (5, mF b (va_up i 0 0) j)), (b 1, .inl (1, 111, .inr (.inl r)))]) (fun _ _ => False) := by
  intro V hV
  refine xMet_of RX6 hG rfl (by decide) (Nat.le_of_ble_eq_true rfl) fun C hC hQ hX hl hg _ => ?_
  subst hl hg
  obtain ⟨V0, hV0⟩ : ∃ V0, V0 = V := ⟨_, rfl⟩
  obtain ⟨F, hF⟩ : ∃ F, F = xF [(b 0, .inr (5, mF b i j)), (b 1, .inl (1, 111, .inr (.inl r)))] := ⟨_, rfl⟩
  refine rn.mono (J := xSt F V0 [(b 0, .inr (5, mF b i j)), (b 1, .inl (1, 111, .inr (.inl r)))]) (fun V9 h => by rw [h, hV0, hF]; exact hV.st) ?_
  show rn C (xSt F V0 [(b 0, .inr (5, mF b i j)), (b 1, .inl (1, 111, .inr (.inl r)))]) 0 0 0 [(0, .ref (b 0))] []
  refine r_aload_n hC 0 dX6_approachCount_0 rfl 1 rfl ?_
  refine r_iconst hC 0 dX6_approachCount_1 ic_0 2 rfl ?_
  refine r_put (J := xSt F V0 [(b 0, .inr (5, mF b (va_up i 0 0) j)), (b 1, .inl (1, 111, .inr (.inl r)))]) hC kX6 0 rfl q2753 rfl (fun _ h => h.get 0 rfl) (Nat.le_of_ble_eq_true rfl) rfl rfl dX6_approachCount_2 (fun _ h => h.set 0 _ rfl) 5 rfl ?_
  refine r_aload_n hC 0 dX6_approachCount_5 rfl 6 rfl ?_
  refine r_get (v := .ref (b 1)) hC kX6 1 rfl q2754 (fun _ h => h.get 0 rfl) rfl dX6_approachCount_6 9 rfl ?_
  refine r_iconst hC 5 dX6_approachCount_9 ic_5 10 rfl ?_
  refine r_lald hC 5 (xix_n 5 (Nat.le_of_ble_eq_true rfl) (Nat.le_of_ble_eq_true rfl)) (fun _ h => h.get 1 rfl) (r 5) (rfl) dX6_approachCount_10 11 rfl ?_
  refine r_l2i hC ((r 5).toInt32) dX6_approachCount_11 (rfl) 12 rfl ?_
  exact r_iret hC (Nat.le_of_ble_eq_true rfl) (Nat.le_of_ble_eq_true rfl) (fun V9 h => hQ _ _ ⟨[(b 0, .inr (5, mF b (va_up i 0 0) j)), (b 1, .inl (1, 111, .inr (.inl r)))], ⟨rfl, by simp only [bx_uu]⟩, by rw [← hV0, ← hF]; exact h⟩) dX6_approachCount_12
set_option maxHeartbeats 4000000 in
set_option maxRecDepth 100000 in
theorem metX6_undoCount (l : Launch) (G : xG) (hG : xGood G) (b : Nat → Nat) (i : Nat → Int32) (j : Nat → Int64) : xWm l G yX6_undoCount (Cond.code yX6_undoCount cX6_undoCount 1 (some .int)) { frames := 0, locals := 0, cells := 0, slots := 0 } [.ref (b 0)] [(b 0, .inr (5, mF b i j))] (fun v w' => v = some (.int (i 10)) ∧ w' = [(b 0, .inr (5, mF b (va_up i 0 0) j))]) (fun _ _ => False) := by
  intro V hV
  refine xMet_of RX6 hG rfl (by decide) (Nat.le_of_ble_eq_true rfl) fun C hC hQ hX hl hg _ => ?_
  subst hl hg
  obtain ⟨V0, hV0⟩ : ∃ V0, V0 = V := ⟨_, rfl⟩
  obtain ⟨F, hF⟩ : ∃ F, F = xF [(b 0, .inr (5, mF b i j))] := ⟨_, rfl⟩
  refine rn.mono (J := xSt F V0 [(b 0, .inr (5, mF b i j))]) (fun V9 h => by rw [h, hV0, hF]; exact hV.st) ?_
  show rn C (xSt F V0 [(b 0, .inr (5, mF b i j))]) 0 0 0 [(0, .ref (b 0))] []
  refine r_aload_n hC 0 dX6_undoCount_0 rfl 1 rfl ?_
  refine r_iconst hC 0 dX6_undoCount_1 ic_0 2 rfl ?_
  refine r_put (J := xSt F V0 [(b 0, .inr (5, mF b (va_up i 0 0) j))]) hC kX6 0 rfl q2753 rfl (fun _ h => h.get 0 rfl) (Nat.le_of_ble_eq_true rfl) rfl rfl dX6_undoCount_2 (fun _ h => h.set 0 _ rfl) 5 rfl ?_
  refine r_aload_n hC 0 dX6_undoCount_5 rfl 6 rfl ?_
  refine r_get (v := .int (i 10)) hC kX6 10 rfl q2763 (fun _ h => h.get 0 rfl) rfl dX6_undoCount_6 9 rfl ?_
  exact r_iret hC (Nat.le_of_ble_eq_true rfl) (Nat.le_of_ble_eq_true rfl) (fun V9 h => hQ _ _ ⟨[(b 0, .inr (5, mF b (va_up i 0 0) j))], ⟨rfl, by simp only [bx_uu]⟩, by rw [← hV0, ← hF]; exact h⟩) dX6_undoCount_9
set_option maxHeartbeats 4000000 in
set_option maxRecDepth 100000 in
theorem metX6_seen1 (l : Launch) (G : xG) (hG : xGood G) (b : Nat → Nat) (i : Nat → Int32) (j : Nat → Int64) (r : Nat → Int64) : xWm l G yX6_seen (Cond.code yX6_seen cX6_seen 2 (some .long)) { frames := 0, locals := 0, cells := 0, slots := 0 } [.ref (b 0), .int 1] [(b 0, .inr (5, mF b i j)), (b 1, .inl (1, 111, .inr (.inl r)))] (fun v w' => v = some (.long (r 3)) ∧ w' = [(b 0, .inr (5, mF b (va_up i 0 0) j)), (b 1, .inl (1, 111, .inr (.inl r)))]) (fun _ _ => False) := by
  intro V hV
  refine xMet_of RX6 hG rfl (by decide) (Nat.le_of_ble_eq_true rfl) fun C hC hQ hX hl hg _ => ?_
  subst hl hg
  obtain ⟨V0, hV0⟩ : ∃ V0, V0 = V := ⟨_, rfl⟩
  obtain ⟨F, hF⟩ : ∃ F, F = xF [(b 0, .inr (5, mF b i j)), (b 1, .inl (1, 111, .inr (.inl r)))] := ⟨_, rfl⟩
  refine rn.mono (J := xSt F V0 [(b 0, .inr (5, mF b i j)), (b 1, .inl (1, 111, .inr (.inl r)))]) (fun V9 h => by rw [h, hV0, hF]; exact hV.st) ?_
  show rn C (xSt F V0 [(b 0, .inr (5, mF b i j)), (b 1, .inl (1, 111, .inr (.inl r)))]) 0 0 0 [(0, .ref (b 0)), (1, .int 1)] []
  refine r_aload_n hC 0 dX6_seen_0 rfl 1 rfl ?_
  refine r_iconst hC 0 dX6_seen_1 ic_0 2 rfl ?_
  refine r_put (J := xSt F V0 [(b 0, .inr (5, mF b (va_up i 0 0) j)), (b 1, .inl (1, 111, .inr (.inl r)))]) hC kX6 0 rfl q2753 rfl (fun _ h => h.get 0 rfl) (Nat.le_of_ble_eq_true rfl) rfl rfl dX6_seen_2 (fun _ h => h.set 0 _ rfl) 5 rfl ?_
  refine r_aload_n hC 0 dX6_seen_5 rfl 6 rfl ?_
  refine r_get (v := .ref (b 1)) hC kX6 1 rfl q2754 (fun _ h => h.get 0 rfl) rfl dX6_seen_6 9 rfl ?_
  refine r_iload_n hC 1 dX6_seen_9 rfl 10 rfl ?_
  refine r_ifeq hC 17 dX6_seen_10 (by decide) 13 rfl (fun h => absurd h (by decide)) (fun _ => ?_)
  refine r_iconst hC 3 dX6_seen_13 ic_3 14 rfl ?_
  refine r_goto hC 18 dX6_seen_14 (by decide) ?_
  refine r_lald hC 3 (xix_n 3 (Nat.le_of_ble_eq_true rfl) (Nat.le_of_ble_eq_true rfl)) (fun _ h => h.get 1 rfl) (r 3) (rfl) dX6_seen_18 19 rfl ?_
  exact r_lret hC (Nat.le_of_ble_eq_true rfl) (Nat.le_of_ble_eq_true rfl) (fun V9 h => hQ _ _ ⟨[(b 0, .inr (5, mF b (va_up i 0 0) j)), (b 1, .inl (1, 111, .inr (.inl r)))], ⟨rfl, by simp only [bx_uu]⟩, by rw [← hV0, ← hF]; exact h⟩) dX6_seen_19
set_option maxHeartbeats 4000000 in
set_option maxRecDepth 100000 in
theorem metX6_seen0 (l : Launch) (G : xG) (hG : xGood G) (b : Nat → Nat) (i : Nat → Int32) (j : Nat → Int64) (r : Nat → Int64) : xWm l G yX6_seen (Cond.code yX6_seen cX6_seen 2 (some .long)) { frames := 0, locals := 0, cells := 0, slots := 0 } [.ref (b 0), .int 0] [(b 0, .inr (5, mF b i j)), (b 1, .inl (1, 111, .inr (.inl r)))] (fun v w' => v = some (.long (r 4)) ∧ w' = [(b 0, .inr (5, mF b (va_up i 0 0) j)), (b 1, .inl (1, 111, .inr (.inl r)))]) (fun _ _ => False) := by
  intro V hV
  refine xMet_of RX6 hG rfl (by decide) (Nat.le_of_ble_eq_true rfl) fun C hC hQ hX hl hg _ => ?_
  subst hl hg
  obtain ⟨V0, hV0⟩ : ∃ V0, V0 = V := ⟨_, rfl⟩
  obtain ⟨F, hF⟩ : ∃ F, F = xF [(b 0, .inr (5, mF b i j)), (b 1, .inl (1, 111, .inr (.inl r)))] := ⟨_, rfl⟩
  refine rn.mono (J := xSt F V0 [(b 0, .inr (5, mF b i j)), (b 1, .inl (1, 111, .inr (.inl r)))]) (fun V9 h => by rw [h, hV0, hF]; exact hV.st) ?_
  show rn C (xSt F V0 [(b 0, .inr (5, mF b i j)), (b 1, .inl (1, 111, .inr (.inl r)))]) 0 0 0 [(0, .ref (b 0)), (1, .int 0)] []
  refine r_aload_n hC 0 dX6_seen_0 rfl 1 rfl ?_
  refine r_iconst hC 0 dX6_seen_1 ic_0 2 rfl ?_
  refine r_put (J := xSt F V0 [(b 0, .inr (5, mF b (va_up i 0 0) j)), (b 1, .inl (1, 111, .inr (.inl r)))]) hC kX6 0 rfl q2753 rfl (fun _ h => h.get 0 rfl) (Nat.le_of_ble_eq_true rfl) rfl rfl dX6_seen_2 (fun _ h => h.set 0 _ rfl) 5 rfl ?_
  refine r_aload_n hC 0 dX6_seen_5 rfl 6 rfl ?_
  refine r_get (v := .ref (b 1)) hC kX6 1 rfl q2754 (fun _ h => h.get 0 rfl) rfl dX6_seen_6 9 rfl ?_
  refine r_iload_n hC 1 dX6_seen_9 rfl 10 rfl ?_
  refine r_ifeq hC 17 dX6_seen_10 (by decide) 13 rfl (fun _ => ?_) (fun h => absurd h (by decide))
  refine r_iconst hC 4 dX6_seen_17 ic_4 18 rfl ?_
  refine r_lald hC 4 (xix_n 4 (Nat.le_of_ble_eq_true rfl) (Nat.le_of_ble_eq_true rfl)) (fun _ h => h.get 1 rfl) (r 4) (rfl) dX6_seen_18 19 rfl ?_
  exact r_lret hC (Nat.le_of_ble_eq_true rfl) (Nat.le_of_ble_eq_true rfl) (fun V9 h => hQ _ _ ⟨[(b 0, .inr (5, mF b (va_up i 0 0) j)), (b 1, .inl (1, 111, .inr (.inl r)))], ⟨rfl, by simp only [bx_uu]⟩, by rw [← hV0, ← hF]; exact h⟩) dX6_seen_19
set_option maxHeartbeats 4000000 in
set_option maxRecDepth 100000 in
theorem metX6_kinetic (l : Launch) (G : xG) (hG : xGood G) (b : Nat → Nat) (i : Nat → Int32) (j : Nat → Int64) (t r : Nat → Int64) (ht : tOK t) (hm : mOK r) : xWm l G yX6_kinetic (Cond.code yX6_kinetic cX6_kinetic 1 (some .long)) { frames := 2, locals := 44, cells := 0, slots := 0 } [.ref (b 0)] [(b 0, .inr (5, mF b i j)), (b 7, .inl (1, 5, .inr (.inl t))), (b 1, .inl (1, 111, .inr (.inl r)))] (fun v w' => v = some (.long (kinQ r)) ∧ w' = [(b 0, .inr (5, mF b (va_up i 0 0) j)), (b 7, .inl (1, 5, .inr (.inl t))), (b 1, .inl (1, 111, .inr (.inl r)))]) (fun _ _ => False) := by
  intro V hV
  refine xMet_of RX6 hG rfl (by decide) (Nat.le_of_ble_eq_true rfl) fun C hC hQ hX hl hg _ => ?_
  subst hl hg
  obtain ⟨V0, hV0⟩ : ∃ V0, V0 = V := ⟨_, rfl⟩
  obtain ⟨F, hF⟩ : ∃ F, F = xF [(b 0, .inr (5, mF b i j)), (b 7, .inl (1, 5, .inr (.inl t))), (b 1, .inl (1, 111, .inr (.inl r)))] := ⟨_, rfl⟩
  refine rn.mono (J := xSt F V0 [(b 0, .inr (5, mF b i j)), (b 7, .inl (1, 5, .inr (.inl t))), (b 1, .inl (1, 111, .inr (.inl r)))]) (fun V9 h => by rw [h, hV0, hF]; exact hV.st) ?_
  show rn C (xSt F V0 [(b 0, .inr (5, mF b i j)), (b 7, .inl (1, 5, .inr (.inl t))), (b 1, .inl (1, 111, .inr (.inl r)))]) 0 0 0 [(0, .ref (b 0))] []
  refine r_aload_n hC 0 dX6_kinetic_0 rfl 1 rfl ?_
  refine r_iconst hC 0 dX6_kinetic_1 ic_0 2 rfl ?_
  refine r_put (J := xSt F V0 [(b 0, .inr (5, mF b (va_up i 0 0) j)), (b 7, .inl (1, 5, .inr (.inl t))), (b 1, .inl (1, 111, .inr (.inl r)))]) hC kX6 0 rfl q2753 rfl (fun _ h => h.get 0 rfl) (Nat.le_of_ble_eq_true rfl) rfl rfl dX6_kinetic_2 (fun _ h => h.set 0 _ rfl) 5 rfl ?_
  refine r_aload_n hC 0 dX6_kinetic_5 rfl 6 rfl ?_
  refine r_get (v := .ref (b 1)) hC kX6 1 rfl q2754 (fun _ h => h.get 0 rfl) rfl dX6_kinetic_6 9 rfl ?_
  refine r_invSr hC [.ref (b 1)] (.long (kinQ r)) mSX6_kineticOf q2725 (metX6_kineticOf _ _ hG (b 1) _ (rowOK_of ht hm).2.1.1 (rowOK_of ht hm).2.1.2.1 (rowOK_of ht hm).2.1.2.2) (fun _ h => h.in.sub [2] rfl rfl) ⟨rfl, rfl⟩ 0 0 rfl rfl (Nat.le_of_ble_eq_true rfl) (Nat.le_of_ble_eq_true rfl) rfl (Nat.le_of_ble_eq_true rfl) dX6_kinetic_9 12 rfl ?_
  exact r_lret hC (Nat.le_of_ble_eq_true rfl) (Nat.le_of_ble_eq_true rfl) (fun V9 h => hQ _ _ ⟨[(b 0, .inr (5, mF b (va_up i 0 0) j)), (b 7, .inl (1, 5, .inr (.inl t))), (b 1, .inl (1, 111, .inr (.inl r)))], ⟨rfl, by simp only [bx_uu]⟩, by rw [← hV0, ← hF]; exact h⟩) dX6_kinetic_12
set_option maxHeartbeats 4000000 in
set_option maxRecDepth 100000 in
theorem metX6_potential (l : Launch) (G : xG) (hG : xGood G) (b : Nat → Nat) (i : Nat → Int32) (j : Nat → Int64) (t r : Nat → Int64) (ht : tOK t) (hm : mOK r) : xWm l G yX6_potential (Cond.code yX6_potential cX6_potential 1 (some .long)) { frames := 5, locals := 119, cells := 0, slots := 0 } [.ref (b 0)] [(b 0, .inr (5, mF b i j)), (b 7, .inl (1, 5, .inr (.inl t))), (b 1, .inl (1, 111, .inr (.inl r)))] (fun v w' => v = some (.long (potQ t r)) ∧ w' = [(b 0, .inr (5, mF b (va_up i 0 0) j)), (b 7, .inl (1, 5, .inr (.inl t))), (b 1, .inl (1, 111, .inr (.inl r)))]) (fun _ _ => False) := by
  intro V hV
  refine xMet_of RX6 hG rfl (by decide) (Nat.le_of_ble_eq_true rfl) fun C hC hQ hX hl hg _ => ?_
  subst hl hg
  obtain ⟨V0, hV0⟩ : ∃ V0, V0 = V := ⟨_, rfl⟩
  obtain ⟨F, hF⟩ : ∃ F, F = xF [(b 0, .inr (5, mF b i j)), (b 7, .inl (1, 5, .inr (.inl t))), (b 1, .inl (1, 111, .inr (.inl r)))] := ⟨_, rfl⟩
  refine rn.mono (J := xSt F V0 [(b 0, .inr (5, mF b i j)), (b 7, .inl (1, 5, .inr (.inl t))), (b 1, .inl (1, 111, .inr (.inl r)))]) (fun V9 h => by rw [h, hV0, hF]; exact hV.st) ?_
  show rn C (xSt F V0 [(b 0, .inr (5, mF b i j)), (b 7, .inl (1, 5, .inr (.inl t))), (b 1, .inl (1, 111, .inr (.inl r)))]) 0 0 0 [(0, .ref (b 0))] []
  refine r_aload_n hC 0 dX6_potential_0 rfl 1 rfl ?_
  refine r_iconst hC 0 dX6_potential_1 ic_0 2 rfl ?_
  refine r_put (J := xSt F V0 [(b 0, .inr (5, mF b (va_up i 0 0) j)), (b 7, .inl (1, 5, .inr (.inl t))), (b 1, .inl (1, 111, .inr (.inl r)))]) hC kX6 0 rfl q2753 rfl (fun _ h => h.get 0 rfl) (Nat.le_of_ble_eq_true rfl) rfl rfl dX6_potential_2 (fun _ h => h.set 0 _ rfl) 5 rfl ?_
  refine r_aload_n hC 0 dX6_potential_5 rfl 6 rfl ?_
  refine r_aload_n hC 0 dX6_potential_6 rfl 7 rfl ?_
  refine r_get (v := .ref (b 1)) hC kX6 1 rfl q2754 (fun _ h => h.get 0 rfl) rfl dX6_potential_7 10 rfl ?_
  refine r_invVr hC kX6 (b 0) [.ref (b 1)] (.long (potQ t r)) mVX6_potentialOf q2729 (fun _ h => h.get 0 rfl) (metX6_potentialOf _ _ hG b _ _ _ (b 1) _   (rowOK_of ht hm)) (fun _ h => h.in.sub [0, 1, 2] rfl rfl) ⟨rfl, rfl⟩ 0 0 rfl rfl (Nat.le_of_ble_eq_true rfl) (Nat.le_of_ble_eq_true rfl) rfl (Nat.le_of_ble_eq_true rfl) dX6_potential_10 13 rfl ?_
  exact r_lret hC (Nat.le_of_ble_eq_true rfl) (Nat.le_of_ble_eq_true rfl) (fun V9 h => hQ _ _ ⟨[(b 0, .inr (5, mF b (va_up i 0 0) j)), (b 7, .inl (1, 5, .inr (.inl t))), (b 1, .inl (1, 111, .inr (.inl r)))], ⟨rfl, by simp only [bx_uu]⟩, by rw [← hV0, ← hF]; exact h⟩) dX6_potential_13
set_option maxHeartbeats 4000000 in
set_option maxRecDepth 100000 in
theorem metX6_band (l : Launch) (G : xG) (hG : xGood G) (b : Nat → Nat) (i : Nat → Int32) (j : Nat → Int64) (t r : Nat → Int64) (ht : tOK t) (hm : mOK r) : xWm l G yX6_band (Cond.code yX6_band cX6_band 1 (some .long)) { frames := 7, locals := 161, cells := 0, slots := 0 } [.ref (b 0)] [(b 0, .inr (5, mF b i j)), (b 7, .inl (1, 5, .inr (.inl t))), (b 1, .inl (1, 111, .inr (.inl r)))] (fun v w' => v = some (.long (bandQ t r)) ∧ w' = [(b 0, .inr (5, mF b (va_up i 0 0) j)), (b 7, .inl (1, 5, .inr (.inl t))), (b 1, .inl (1, 111, .inr (.inl r)))]) (fun _ _ => False) := by
  intro V hV
  refine xMet_of RX6 hG rfl (by decide) (Nat.le_of_ble_eq_true rfl) fun C hC hQ hX hl hg _ => ?_
  subst hl hg
  obtain ⟨V0, hV0⟩ : ∃ V0, V0 = V := ⟨_, rfl⟩
  obtain ⟨F, hF⟩ : ∃ F, F = xF [(b 0, .inr (5, mF b i j)), (b 7, .inl (1, 5, .inr (.inl t))), (b 1, .inl (1, 111, .inr (.inl r)))] := ⟨_, rfl⟩
  refine rn.mono (J := xSt F V0 [(b 0, .inr (5, mF b i j)), (b 7, .inl (1, 5, .inr (.inl t))), (b 1, .inl (1, 111, .inr (.inl r)))]) (fun V9 h => by rw [h, hV0, hF]; exact hV.st) ?_
  show rn C (xSt F V0 [(b 0, .inr (5, mF b i j)), (b 7, .inl (1, 5, .inr (.inl t))), (b 1, .inl (1, 111, .inr (.inl r)))]) 0 0 0 [(0, .ref (b 0))] []
  refine r_aload_n hC 0 dX6_band_0 rfl 1 rfl ?_
  refine r_iconst hC 0 dX6_band_1 ic_0 2 rfl ?_
  refine r_put (J := xSt F V0 [(b 0, .inr (5, mF b (va_up i 0 0) j)), (b 7, .inl (1, 5, .inr (.inl t))), (b 1, .inl (1, 111, .inr (.inl r)))]) hC kX6 0 rfl q2753 rfl (fun _ h => h.get 0 rfl) (Nat.le_of_ble_eq_true rfl) rfl rfl dX6_band_2 (fun _ h => h.set 0 _ rfl) 5 rfl ?_
  refine r_aload_n hC 0 dX6_band_5 rfl 6 rfl ?_
  refine r_aload_n hC 0 dX6_band_6 rfl 7 rfl ?_
  refine r_get (v := .ref (b 1)) hC kX6 1 rfl q2754 (fun _ h => h.get 0 rfl) rfl dX6_band_7 10 rfl ?_
  refine r_invVr hC kX6 (b 0) [.ref (b 1)] (.long (bandQ t r)) mVX6_bandOf q3038 (fun _ h => h.get 0 rfl) (metX6_bandOf _ _ hG b _ _ _ (b 1) _   (rowOK_of ht hm)) (fun _ h => h.in.sub [0, 1, 2] rfl rfl) ⟨rfl, rfl⟩ 0 0 rfl rfl (Nat.le_of_ble_eq_true rfl) (Nat.le_of_ble_eq_true rfl) rfl (Nat.le_of_ble_eq_true rfl) dX6_band_10 13 rfl ?_
  exact r_lret hC (Nat.le_of_ble_eq_true rfl) (Nat.le_of_ble_eq_true rfl) (fun V9 h => hQ _ _ ⟨[(b 0, .inr (5, mF b (va_up i 0 0) j)), (b 7, .inl (1, 5, .inr (.inl t))), (b 1, .inl (1, 111, .inr (.inl r)))], ⟨rfl, by simp only [bx_uu]⟩, by rw [← hV0, ← hF]; exact h⟩) dX6_band_13
def angQ (r : Nat → Int64) : Int64 := 0 + (r 7 * r 10 - r 8 * r 9) + (r 12 * r 15 - r 13 * r 14) + (r 17 * r 20 - r 18 * r 19)
set_option maxHeartbeats 4000000 in
set_option maxRecDepth 100000 in
theorem metX6_angular (l : Launch) (G : xG) (hG : xGood G) (b : Nat → Nat) (i : Nat → Int32) (j : Nat → Int64) (r : Nat → Int64) : xWm l G yX6_angular (Cond.code yX6_angular cX6_angular 4 (some .long)) { frames := 1, locals := 21, cells := 0, slots := 0 } [.ref (b 0)] [(b 0, .inr (5, mF b i j)), (b 1, .inl (1, 111, .inr (.inl r)))] (fun v w' => v = some (.long (angQ r)) ∧ w' = [(b 0, .inr (5, mF b (va_up i 0 0) j)), (b 1, .inl (1, 111, .inr (.inl r)))]) (fun _ _ => False) := by
  intro V hV
  refine xMet_of RX6 hG rfl (by decide) (Nat.le_of_ble_eq_true rfl) fun C hC hQ hX hl hg _ => ?_
  subst hl hg
  obtain ⟨V0, hV0⟩ : ∃ V0, V0 = V := ⟨_, rfl⟩
  obtain ⟨F, hF⟩ : ∃ F, F = xF [(b 0, .inr (5, mF b i j)), (b 1, .inl (1, 111, .inr (.inl r)))] := ⟨_, rfl⟩
  refine rn.mono (J := xSt F V0 [(b 0, .inr (5, mF b i j)), (b 1, .inl (1, 111, .inr (.inl r)))]) (fun V9 h => by rw [h, hV0, hF]; exact hV.st) ?_
  show rn C (xSt F V0 [(b 0, .inr (5, mF b i j)), (b 1, .inl (1, 111, .inr (.inl r)))]) 0 0 0 [(0, .ref (b 0))] []
  refine r_aload_n hC 0 dX6_angular_0 rfl 1 rfl ?_
  refine r_iconst hC 0 dX6_angular_1 ic_0 2 rfl ?_
  refine r_put (J := xSt F V0 [(b 0, .inr (5, mF b (va_up i 0 0) j)), (b 1, .inl (1, 111, .inr (.inl r)))]) hC kX6 0 rfl q2753 rfl (fun _ h => h.get 0 rfl) (Nat.le_of_ble_eq_true rfl) rfl rfl dX6_angular_2 (fun _ h => h.set 0 _ rfl) 5 rfl ?_
  refine r_lconst hC 0 dX6_angular_5 lc_0 6 rfl ?_
  refine r_lstore_n hC 1 [(1, .long 0), (0, .ref (b 0))] dX6_angular_6 rfl (Nat.le_of_ble_eq_true rfl) rfl 7 rfl ?_
  refine r_iconst hC 0 dX6_angular_7 ic_0 8 rfl ?_
  refine r_istore_n hC 3 [(3, .int 0), (1, .long 0), (0, .ref (b 0))] dX6_angular_8 rfl (Nat.le_of_ble_eq_true rfl) rfl 9 rfl ?_
  refine r_iload_n hC 0 dX6_angular_9 rfl 10 rfl ?_
  refine r_iconst hC 3 dX6_angular_10 ic_3 11 rfl ?_
  refine r_icge hC 66 dX6_angular_11 (by decide) 14 rfl (fun h => absurd h (by decide)) (fun _ => ?_)
  refine r_lload_n hC 1 dX6_angular_14 rfl 15 rfl ?_
  refine r_aload_n hC 2 dX6_angular_15 rfl 16 rfl ?_
  refine r_get (v := .ref (b 1)) hC kX6 1 rfl q2754 (fun _ h => h.get 0 rfl) rfl dX6_angular_16 19 rfl ?_
  refine r_iload_n hC 0 dX6_angular_19 rfl 20 rfl ?_
  refine r_iconst hC 1 dX6_angular_20 ic_1 21 rfl ?_
  refine r_invSr hC [.int 0, .int 1] (.int 7) mSX6_at q2711 (metX6_at _ _ hG 0 1) (fun _ _ => xIn.nil) ⟨rfl, rfl⟩ 0 0 rfl rfl (Nat.le_of_ble_eq_true rfl) (Nat.le_of_ble_eq_true rfl) rfl (Nat.le_of_ble_eq_true rfl) dX6_angular_21 24 rfl ?_
  refine r_lald hC 7 (xix_n 7 (Nat.le_of_ble_eq_true rfl) (Nat.le_of_ble_eq_true rfl)) (fun _ h => h.get 1 rfl) (r 7) (rfl) dX6_angular_24 25 rfl ?_
  refine r_aload_n hC 2 dX6_angular_25 rfl 26 rfl ?_
  refine r_get (v := .ref (b 1)) hC kX6 1 rfl q2754 (fun _ h => h.get 0 rfl) rfl dX6_angular_26 29 rfl ?_
  refine r_iload_n hC 0 dX6_angular_29 rfl 30 rfl ?_
  refine r_iconst hC 4 dX6_angular_30 ic_4 31 rfl ?_
  refine r_invSr hC [.int 0, .int 4] (.int 10) mSX6_at q2711 (metX6_at _ _ hG 0 4) (fun _ _ => xIn.nil) ⟨rfl, rfl⟩ 0 0 rfl rfl (Nat.le_of_ble_eq_true rfl) (Nat.le_of_ble_eq_true rfl) rfl (Nat.le_of_ble_eq_true rfl) dX6_angular_31 34 rfl ?_
  refine r_lald hC 10 (xix_n 10 (Nat.le_of_ble_eq_true rfl) (Nat.le_of_ble_eq_true rfl)) (fun _ h => h.get 1 rfl) (r 10) (rfl) dX6_angular_34 35 rfl ?_
  refine r_lmul hC ((r 7) * (r 10)) dX6_angular_35  (rfl) 36 rfl ?_
  refine r_aload_n hC 2 dX6_angular_36 rfl 37 rfl ?_
  refine r_get (v := .ref (b 1)) hC kX6 1 rfl q2754 (fun _ h => h.get 0 rfl) rfl dX6_angular_37 40 rfl ?_
  refine r_iload_n hC 0 dX6_angular_40 rfl 41 rfl ?_
  refine r_iconst hC 2 dX6_angular_41 ic_2 42 rfl ?_
  refine r_invSr hC [.int 0, .int 2] (.int 8) mSX6_at q2711 (metX6_at _ _ hG 0 2) (fun _ _ => xIn.nil) ⟨rfl, rfl⟩ 0 0 rfl rfl (Nat.le_of_ble_eq_true rfl) (Nat.le_of_ble_eq_true rfl) rfl (Nat.le_of_ble_eq_true rfl) dX6_angular_42 45 rfl ?_
  refine r_lald hC 8 (xix_n 8 (Nat.le_of_ble_eq_true rfl) (Nat.le_of_ble_eq_true rfl)) (fun _ h => h.get 1 rfl) (r 8) (rfl) dX6_angular_45 46 rfl ?_
  refine r_aload_n hC 2 dX6_angular_46 rfl 47 rfl ?_
  refine r_get (v := .ref (b 1)) hC kX6 1 rfl q2754 (fun _ h => h.get 0 rfl) rfl dX6_angular_47 50 rfl ?_
  refine r_iload_n hC 0 dX6_angular_50 rfl 51 rfl ?_
  refine r_iconst hC 3 dX6_angular_51 ic_3 52 rfl ?_
  refine r_invSr hC [.int 0, .int 3] (.int 9) mSX6_at q2711 (metX6_at _ _ hG 0 3) (fun _ _ => xIn.nil) ⟨rfl, rfl⟩ 0 0 rfl rfl (Nat.le_of_ble_eq_true rfl) (Nat.le_of_ble_eq_true rfl) rfl (Nat.le_of_ble_eq_true rfl) dX6_angular_52 55 rfl ?_
  refine r_lald hC 9 (xix_n 9 (Nat.le_of_ble_eq_true rfl) (Nat.le_of_ble_eq_true rfl)) (fun _ h => h.get 1 rfl) (r 9) (rfl) dX6_angular_55 56 rfl ?_
  refine r_lmul hC ((r 8) * (r 9)) dX6_angular_56  (rfl) 57 rfl ?_
  refine r_lsub hC (((r 7) * (r 10)) - ((r 8) * (r 9))) dX6_angular_57  (rfl) 58 rfl ?_
  refine r_ladd hC (0 + (((r 7) * (r 10)) - ((r 8) * (r 9)))) dX6_angular_58  (rfl) 59 rfl ?_
  refine r_lstore_n hC 1 [(1, .long (0 + (((r 7) * (r 10)) - ((r 8) * (r 9))))), (3, .int 0), (0, .ref (b 0))] dX6_angular_59 rfl (Nat.le_of_ble_eq_true rfl) rfl 60 rfl ?_
  refine r_iinc hC 1 3 1 [(3, .int 1), (1, .long (0 + (((r 7) * (r 10)) - ((r 8) * (r 9))))), (0, .ref (b 0))] dX6_angular_60 rfl (by decide) (Nat.le_of_ble_eq_true rfl) rfl 63 rfl ?_
  refine r_goto hC 9 dX6_angular_63 (by decide) ?_
  refine r_iload_n hC 0 dX6_angular_9 rfl 10 rfl ?_
  refine r_iconst hC 3 dX6_angular_10 ic_3 11 rfl ?_
  refine r_icge hC 66 dX6_angular_11 (by decide) 14 rfl (fun h => absurd h (by decide)) (fun _ => ?_)
  refine r_lload_n hC 1 dX6_angular_14 rfl 15 rfl ?_
  refine r_aload_n hC 2 dX6_angular_15 rfl 16 rfl ?_
  refine r_get (v := .ref (b 1)) hC kX6 1 rfl q2754 (fun _ h => h.get 0 rfl) rfl dX6_angular_16 19 rfl ?_
  refine r_iload_n hC 0 dX6_angular_19 rfl 20 rfl ?_
  refine r_iconst hC 1 dX6_angular_20 ic_1 21 rfl ?_
  refine r_invSr hC [.int 1, .int 1] (.int 12) mSX6_at q2711 (metX6_at _ _ hG 1 1) (fun _ _ => xIn.nil) ⟨rfl, rfl⟩ 0 0 rfl rfl (Nat.le_of_ble_eq_true rfl) (Nat.le_of_ble_eq_true rfl) rfl (Nat.le_of_ble_eq_true rfl) dX6_angular_21 24 rfl ?_
  refine r_lald hC 12 (xix_n 12 (Nat.le_of_ble_eq_true rfl) (Nat.le_of_ble_eq_true rfl)) (fun _ h => h.get 1 rfl) (r 12) (rfl) dX6_angular_24 25 rfl ?_
  refine r_aload_n hC 2 dX6_angular_25 rfl 26 rfl ?_
  refine r_get (v := .ref (b 1)) hC kX6 1 rfl q2754 (fun _ h => h.get 0 rfl) rfl dX6_angular_26 29 rfl ?_
  refine r_iload_n hC 0 dX6_angular_29 rfl 30 rfl ?_
  refine r_iconst hC 4 dX6_angular_30 ic_4 31 rfl ?_
  refine r_invSr hC [.int 1, .int 4] (.int 15) mSX6_at q2711 (metX6_at _ _ hG 1 4) (fun _ _ => xIn.nil) ⟨rfl, rfl⟩ 0 0 rfl rfl (Nat.le_of_ble_eq_true rfl) (Nat.le_of_ble_eq_true rfl) rfl (Nat.le_of_ble_eq_true rfl) dX6_angular_31 34 rfl ?_
  refine r_lald hC 15 (xix_n 15 (Nat.le_of_ble_eq_true rfl) (Nat.le_of_ble_eq_true rfl)) (fun _ h => h.get 1 rfl) (r 15) (rfl) dX6_angular_34 35 rfl ?_
  refine r_lmul hC ((r 12) * (r 15)) dX6_angular_35  (rfl) 36 rfl ?_
  refine r_aload_n hC 2 dX6_angular_36 rfl 37 rfl ?_
  refine r_get (v := .ref (b 1)) hC kX6 1 rfl q2754 (fun _ h => h.get 0 rfl) rfl dX6_angular_37 40 rfl ?_
  refine r_iload_n hC 0 dX6_angular_40 rfl 41 rfl ?_
  refine r_iconst hC 2 dX6_angular_41 ic_2 42 rfl ?_
  refine r_invSr hC [.int 1, .int 2] (.int 13) mSX6_at q2711 (metX6_at _ _ hG 1 2) (fun _ _ => xIn.nil) ⟨rfl, rfl⟩ 0 0 rfl rfl (Nat.le_of_ble_eq_true rfl) (Nat.le_of_ble_eq_true rfl) rfl (Nat.le_of_ble_eq_true rfl) dX6_angular_42 45 rfl ?_
  refine r_lald hC 13 (xix_n 13 (Nat.le_of_ble_eq_true rfl) (Nat.le_of_ble_eq_true rfl)) (fun _ h => h.get 1 rfl) (r 13) (rfl) dX6_angular_45 46 rfl ?_
  refine r_aload_n hC 2 dX6_angular_46 rfl 47 rfl ?_
  refine r_get (v := .ref (b 1)) hC kX6 1 rfl q2754 (fun _ h => h.get 0 rfl) rfl dX6_angular_47 50 rfl ?_
  refine r_iload_n hC 0 dX6_angular_50 rfl 51 rfl ?_
  refine r_iconst hC 3 dX6_angular_51 ic_3 52 rfl ?_
  refine r_invSr hC [.int 1, .int 3] (.int 14) mSX6_at q2711 (metX6_at _ _ hG 1 3) (fun _ _ => xIn.nil) ⟨rfl, rfl⟩ 0 0 rfl rfl (Nat.le_of_ble_eq_true rfl) (Nat.le_of_ble_eq_true rfl) rfl (Nat.le_of_ble_eq_true rfl) dX6_angular_52 55 rfl ?_
  refine r_lald hC 14 (xix_n 14 (Nat.le_of_ble_eq_true rfl) (Nat.le_of_ble_eq_true rfl)) (fun _ h => h.get 1 rfl) (r 14) (rfl) dX6_angular_55 56 rfl ?_
  refine r_lmul hC ((r 13) * (r 14)) dX6_angular_56  (rfl) 57 rfl ?_
  refine r_lsub hC (((r 12) * (r 15)) - ((r 13) * (r 14))) dX6_angular_57  (rfl) 58 rfl ?_
  refine r_ladd hC ((0 + (((r 7) * (r 10)) - ((r 8) * (r 9)))) + (((r 12) * (r 15)) - ((r 13) * (r 14)))) dX6_angular_58  (rfl) 59 rfl ?_
  refine r_lstore_n hC 1 [(1, .long ((0 + (((r 7) * (r 10)) - ((r 8) * (r 9)))) + (((r 12) * (r 15)) - ((r 13) * (r 14))))), (3, .int 1), (0, .ref (b 0))] dX6_angular_59 rfl (Nat.le_of_ble_eq_true rfl) rfl 60 rfl ?_
  refine r_iinc hC 2 3 1 [(3, .int 2), (1, .long ((0 + (((r 7) * (r 10)) - ((r 8) * (r 9)))) + (((r 12) * (r 15)) - ((r 13) * (r 14))))), (0, .ref (b 0))] dX6_angular_60 rfl (by decide) (Nat.le_of_ble_eq_true rfl) rfl 63 rfl ?_
  refine r_goto hC 9 dX6_angular_63 (by decide) ?_
  refine r_iload_n hC 0 dX6_angular_9 rfl 10 rfl ?_
  refine r_iconst hC 3 dX6_angular_10 ic_3 11 rfl ?_
  refine r_icge hC 66 dX6_angular_11 (by decide) 14 rfl (fun h => absurd h (by decide)) (fun _ => ?_)
  refine r_lload_n hC 1 dX6_angular_14 rfl 15 rfl ?_
  refine r_aload_n hC 2 dX6_angular_15 rfl 16 rfl ?_
  refine r_get (v := .ref (b 1)) hC kX6 1 rfl q2754 (fun _ h => h.get 0 rfl) rfl dX6_angular_16 19 rfl ?_
  refine r_iload_n hC 0 dX6_angular_19 rfl 20 rfl ?_
  refine r_iconst hC 1 dX6_angular_20 ic_1 21 rfl ?_
  refine r_invSr hC [.int 2, .int 1] (.int 17) mSX6_at q2711 (metX6_at _ _ hG 2 1) (fun _ _ => xIn.nil) ⟨rfl, rfl⟩ 0 0 rfl rfl (Nat.le_of_ble_eq_true rfl) (Nat.le_of_ble_eq_true rfl) rfl (Nat.le_of_ble_eq_true rfl) dX6_angular_21 24 rfl ?_
  refine r_lald hC 17 (xix_n 17 (Nat.le_of_ble_eq_true rfl) (Nat.le_of_ble_eq_true rfl)) (fun _ h => h.get 1 rfl) (r 17) (rfl) dX6_angular_24 25 rfl ?_
  refine r_aload_n hC 2 dX6_angular_25 rfl 26 rfl ?_
  refine r_get (v := .ref (b 1)) hC kX6 1 rfl q2754 (fun _ h => h.get 0 rfl) rfl dX6_angular_26 29 rfl ?_
  refine r_iload_n hC 0 dX6_angular_29 rfl 30 rfl ?_
  refine r_iconst hC 4 dX6_angular_30 ic_4 31 rfl ?_
  refine r_invSr hC [.int 2, .int 4] (.int 20) mSX6_at q2711 (metX6_at _ _ hG 2 4) (fun _ _ => xIn.nil) ⟨rfl, rfl⟩ 0 0 rfl rfl (Nat.le_of_ble_eq_true rfl) (Nat.le_of_ble_eq_true rfl) rfl (Nat.le_of_ble_eq_true rfl) dX6_angular_31 34 rfl ?_
  refine r_lald hC 20 (xix_n 20 (Nat.le_of_ble_eq_true rfl) (Nat.le_of_ble_eq_true rfl)) (fun _ h => h.get 1 rfl) (r 20) (rfl) dX6_angular_34 35 rfl ?_
  refine r_lmul hC ((r 17) * (r 20)) dX6_angular_35  (rfl) 36 rfl ?_
  refine r_aload_n hC 2 dX6_angular_36 rfl 37 rfl ?_
  refine r_get (v := .ref (b 1)) hC kX6 1 rfl q2754 (fun _ h => h.get 0 rfl) rfl dX6_angular_37 40 rfl ?_
  refine r_iload_n hC 0 dX6_angular_40 rfl 41 rfl ?_
  refine r_iconst hC 2 dX6_angular_41 ic_2 42 rfl ?_
  refine r_invSr hC [.int 2, .int 2] (.int 18) mSX6_at q2711 (metX6_at _ _ hG 2 2) (fun _ _ => xIn.nil) ⟨rfl, rfl⟩ 0 0 rfl rfl (Nat.le_of_ble_eq_true rfl) (Nat.le_of_ble_eq_true rfl) rfl (Nat.le_of_ble_eq_true rfl) dX6_angular_42 45 rfl ?_
  refine r_lald hC 18 (xix_n 18 (Nat.le_of_ble_eq_true rfl) (Nat.le_of_ble_eq_true rfl)) (fun _ h => h.get 1 rfl) (r 18) (rfl) dX6_angular_45 46 rfl ?_
  refine r_aload_n hC 2 dX6_angular_46 rfl 47 rfl ?_
  refine r_get (v := .ref (b 1)) hC kX6 1 rfl q2754 (fun _ h => h.get 0 rfl) rfl dX6_angular_47 50 rfl ?_
  refine r_iload_n hC 0 dX6_angular_50 rfl 51 rfl ?_
  refine r_iconst hC 3 dX6_angular_51 ic_3 52 rfl ?_
  refine r_invSr hC [.int 2, .int 3] (.int 19) mSX6_at q2711 (metX6_at _ _ hG 2 3) (fun _ _ => xIn.nil) ⟨rfl, rfl⟩ 0 0 rfl rfl (Nat.le_of_ble_eq_true rfl) (Nat.le_of_ble_eq_true rfl) rfl (Nat.le_of_ble_eq_true rfl) dX6_angular_52 55 rfl ?_
  refine r_lald hC 19 (xix_n 19 (Nat.le_of_ble_eq_true rfl) (Nat.le_of_ble_eq_true rfl)) (fun _ h => h.get 1 rfl) (r 19) (rfl) dX6_angular_55 56 rfl ?_
  refine r_lmul hC ((r 18) * (r 19)) dX6_angular_56  (rfl) 57 rfl ?_
  refine r_lsub hC (((r 17) * (r 20)) - ((r 18) * (r 19))) dX6_angular_57  (rfl) 58 rfl ?_
  refine r_ladd hC (((0 + (((r 7) * (r 10)) - ((r 8) * (r 9)))) + (((r 12) * (r 15)) - ((r 13) * (r 14)))) + (((r 17) * (r 20)) - ((r 18) * (r 19)))) dX6_angular_58  (rfl) 59 rfl ?_
  refine r_lstore_n hC 1 [(1, .long (((0 + (((r 7) * (r 10)) - ((r 8) * (r 9)))) + (((r 12) * (r 15)) - ((r 13) * (r 14)))) + (((r 17) * (r 20)) - ((r 18) * (r 19))))), (3, .int 2), (0, .ref (b 0))] dX6_angular_59 rfl (Nat.le_of_ble_eq_true rfl) rfl 60 rfl ?_
  refine r_iinc hC 3 3 1 [(3, .int 3), (1, .long (((0 + (((r 7) * (r 10)) - ((r 8) * (r 9)))) + (((r 12) * (r 15)) - ((r 13) * (r 14)))) + (((r 17) * (r 20)) - ((r 18) * (r 19))))), (0, .ref (b 0))] dX6_angular_60 rfl (by decide) (Nat.le_of_ble_eq_true rfl) rfl 63 rfl ?_
  refine r_goto hC 9 dX6_angular_63 (by decide) ?_
  refine r_iload_n hC 0 dX6_angular_9 rfl 10 rfl ?_
  refine r_iconst hC 3 dX6_angular_10 ic_3 11 rfl ?_
  refine r_icge hC 66 dX6_angular_11 (by decide) 14 rfl (fun _ => ?_) (fun h => absurd h (by decide))
  refine r_lload_n hC 1 dX6_angular_66 rfl 67 rfl ?_
  exact r_lret hC (Nat.le_of_ble_eq_true rfl) (Nat.le_of_ble_eq_true rfl) (fun V9 h => hQ _ _ ⟨[(b 0, .inr (5, mF b (va_up i 0 0) j)), (b 1, .inl (1, 111, .inr (.inl r)))], ⟨rfl, by simp only [bx_uu]⟩, by rw [← hV0, ← hF]; exact h⟩) dX6_angular_67
set_option maxHeartbeats 4000000 in
set_option maxRecDepth 100000 in
theorem metX6_bodyG (l : Launch) (G : xG) (hG : xGood G) (b : Nat → Nat) (i : Nat → Int32) (j : Nat → Int64) (r : Nat → Int64) (p q : Nat) (hp : p < 3) (hq : q < 5) : xWm l G yX6_body (Cond.code yX6_body cX6_body 3 (some .int)) { frames := 2, locals := 46, cells := 0, slots := 0 } [.ref (b 0), .int (nI p), .int (nI q)] [(b 0, .inr (5, mF b i j)), (b 1, .inl (1, 111, .inr (.inl r)))] (fun v w' => v = some (.int ((r (6 + 5 * p + q)).toInt32)) ∧ w' = [(b 0, .inr (5, mF b (va_up i 0 0) j)), (b 1, .inl (1, 111, .inr (.inl r)))]) (fun _ _ => False) := by
  intro V hV
  refine xMet_of RX6 hG rfl (by decide) (Nat.le_of_ble_eq_true rfl) fun C hC hQ hX hl hg _ => ?_
  subst hl hg
  obtain ⟨V0, hV0⟩ : ∃ V0, V0 = V := ⟨_, rfl⟩
  obtain ⟨F, hF⟩ : ∃ F, F = xF [(b 0, .inr (5, mF b i j)), (b 1, .inl (1, 111, .inr (.inl r)))] := ⟨_, rfl⟩
  refine rn.mono (J := xSt F V0 [(b 0, .inr (5, mF b i j)), (b 1, .inl (1, 111, .inr (.inl r)))]) (fun V9 h => by rw [h, hV0, hF]; exact hV.st) ?_
  show rn C (xSt F V0 [(b 0, .inr (5, mF b i j)), (b 1, .inl (1, 111, .inr (.inl r)))]) 0 0 0 [(0, .ref (b 0)), (1, .int (nI p)), (2, .int (nI q))] []
  refine r_aload_n hC 0 dX6_body_0 rfl 1 rfl ?_
  refine r_iload_n hC 1 dX6_body_1 rfl 2 rfl ?_
  refine r_invVw hC kX6 (b 0) [.int (nI p)] [(b 1, .inl (1, 111, .inr (.inl r)))] mVX6_noBody q2996 0 rfl (metX6_noBody0 _ _ hG b _ _ p (by omega)) [0] [1] rfl rfl rfl rfl (by decide) ⟨rfl, rfl⟩ 0 0 rfl rfl (Nat.le_of_ble_eq_true rfl) (Nat.le_of_ble_eq_true rfl) rfl (Nat.le_of_ble_eq_true rfl) dX6_body_2 5 rfl (fun v1 w2 h3 => ?_) (fun _ _ h => h.elim)
  obtain ⟨rfl, rfl⟩ := h3
  show rn C (xSt F V0 [(b 1, .inl (1, 111, .inr (.inl r))), (b 0, .inr (5, mF b (va_up i 0 0) j))]) 0 0 5 [(0, .ref (b 0)), (1, .int (nI p)), (2, .int (nI q))] [.int 0]
  refine r_ifne hC 25 dX6_body_5 (by decide) 8 rfl (fun h => absurd h (by decide)) (fun _ => ?_)
  refine r_aload_n hC 0 dX6_body_8 rfl 9 rfl ?_
  refine r_iload_n hC 2 dX6_body_9 rfl 10 rfl ?_
  refine r_i2l hC ((nI q).toInt64) dX6_body_10 (rfl) 11 rfl ?_
  refine r_lconst hC 0 dX6_body_11 lc_0 12 rfl ?_
  refine r_ldc2 hC q3000 dX6_body_12 15 rfl ?_
  refine r_invSr hC [.long ((nI q).toInt64), .long 0, .long 4] (.int 1) mSX6_in q2891 (metX6_inB _ _ hG ((nI q).toInt64) 0 4 1 (in_n (N := 4) (by omega) rfl (by decide))) (fun _ _ => xIn.nil) ⟨rfl, rfl⟩ 0 0 rfl rfl (Nat.le_of_ble_eq_true rfl) (Nat.le_of_ble_eq_true rfl) rfl (Nat.le_of_ble_eq_true rfl) dX6_body_15 18 rfl ?_
  refine r_iconst hC 1 dX6_body_18 ic_1 19 rfl ?_
  refine r_invVr hC kX6 (b 0) [.int 1, .int 1] (.int 0) mVX6_fails q2894 (fun _ h => h.get 1 rfl) (metX6_fails1 _ _ hG b _ _ 1) (fun _ h => h.in.sub [1] rfl rfl) ⟨rfl, rfl⟩ 0 0 rfl rfl (Nat.le_of_ble_eq_true rfl) (Nat.le_of_ble_eq_true rfl) rfl (Nat.le_of_ble_eq_true rfl) dX6_body_19 22 rfl ?_
  refine r_ifeq hC 27 dX6_body_22 (by decide) 25 rfl (fun _ => ?_) (fun h => absurd h (by decide))
  refine r_aload_n hC 0 dX6_body_27 rfl 28 rfl ?_
  refine r_get (v := .ref (b 1)) hC kX6 1 rfl q2754 (fun _ h => h.get 1 rfl) rfl dX6_body_28 31 rfl ?_
  refine r_iload_n hC 1 dX6_body_31 rfl 32 rfl ?_
  refine r_iload_n hC 2 dX6_body_32 rfl 33 rfl ?_
  refine r_invSr hC [.int (nI p), .int (nI q)] (.int (nI (6 + 5 * p + q))) mSX6_at q2711 (metX6_at _ _ hG p q) (fun _ _ => xIn.nil) ⟨rfl, rfl⟩ 0 0 rfl rfl (Nat.le_of_ble_eq_true rfl) (Nat.le_of_ble_eq_true rfl) rfl (Nat.le_of_ble_eq_true rfl) dX6_body_33 36 rfl ?_
  refine r_lald hC (6 + 5 * p + q) (xix_n (6 + 5 * p + q) (by omega) (Nat.le_of_ble_eq_true rfl)) (fun _ h => h.get 0 rfl) (r (6 + 5 * p + q)) (rfl) dX6_body_36 37 rfl ?_
  refine r_l2i hC ((r (6 + 5 * p + q)).toInt32) dX6_body_37 (rfl) 38 rfl ?_
  exact r_iret hC (Nat.le_of_ble_eq_true rfl) (Nat.le_of_ble_eq_true rfl) (fun V9 h => hQ _ _ ⟨[(b 0, .inr (5, mF b (va_up i 0 0) j)), (b 1, .inl (1, 111, .inr (.inl r)))], ⟨rfl, by simp only [bx_uu]⟩, by rw [← hV0, ← hF]; exact (h.sub [1, 0] rfl rfl)⟩) dX6_body_38
set_option maxHeartbeats 4000000 in
set_option maxRecDepth 100000 in
theorem metX6_bodyB1 (l : Launch) (G : xG) (hG : xGood G) (b : Nat → Nat) (i : Nat → Int32) (j : Nat → Int64) (r : Nat → Int64) (x y : Int32) (hx : bI (m_in x.toInt64 0 2) = 0) : xWm l G yX6_body (Cond.code yX6_body cX6_body 3 (some .int)) { frames := 2, locals := 46, cells := 0, slots := 0 } [.ref (b 0), .int x, .int y] [(b 0, .inr (5, mF b i j)), (b 1, .inl (1, 111, .inr (.inl r)))] (fun v w' => v = some (.int 0) ∧ w' = [(b 0, .inr (5, mF b (va_up i 0 1) j)), (b 1, .inl (1, 111, .inr (.inl r)))]) (fun _ _ => False) := by
  intro V hV
  refine xMet_of RX6 hG rfl (by decide) (Nat.le_of_ble_eq_true rfl) fun C hC hQ hX hl hg _ => ?_
  subst hl hg
  obtain ⟨V0, hV0⟩ : ∃ V0, V0 = V := ⟨_, rfl⟩
  obtain ⟨F, hF⟩ : ∃ F, F = xF [(b 0, .inr (5, mF b i j)), (b 1, .inl (1, 111, .inr (.inl r)))] := ⟨_, rfl⟩
  refine rn.mono (J := xSt F V0 [(b 0, .inr (5, mF b i j)), (b 1, .inl (1, 111, .inr (.inl r)))]) (fun V9 h => by rw [h, hV0, hF]; exact hV.st) ?_
  show rn C (xSt F V0 [(b 0, .inr (5, mF b i j)), (b 1, .inl (1, 111, .inr (.inl r)))]) 0 0 0 [(0, .ref (b 0)), (1, .int x), (2, .int y)] []
  refine r_aload_n hC 0 dX6_body_0 rfl 1 rfl ?_
  refine r_iload_n hC 1 dX6_body_1 rfl 2 rfl ?_
  refine r_invVw hC kX6 (b 0) [.int x] [(b 1, .inl (1, 111, .inr (.inl r)))] mVX6_noBody q2996 0 rfl (metX6_noBody1 _ _ hG b _ _ x (hx)) [0] [1] rfl rfl rfl rfl (by decide) ⟨rfl, rfl⟩ 0 0 rfl rfl (Nat.le_of_ble_eq_true rfl) (Nat.le_of_ble_eq_true rfl) rfl (Nat.le_of_ble_eq_true rfl) dX6_body_2 5 rfl (fun v1 w2 h3 => ?_) (fun _ _ h => h.elim)
  obtain ⟨rfl, rfl⟩ := h3
  show rn C (xSt F V0 [(b 1, .inl (1, 111, .inr (.inl r))), (b 0, .inr (5, mF b (va_up i 0 1) j))]) 0 0 5 [(0, .ref (b 0)), (1, .int x), (2, .int y)] [.int 1]
  refine r_ifne hC 25 dX6_body_5 (by decide) 8 rfl (fun _ => ?_) (fun h => absurd h (by decide))
  refine r_iconst hC 0 dX6_body_25 ic_0 26 rfl ?_
  exact r_iret hC (Nat.le_of_ble_eq_true rfl) (Nat.le_of_ble_eq_true rfl) (fun V9 h => hQ _ _ ⟨[(b 0, .inr (5, mF b (va_up i 0 1) j)), (b 1, .inl (1, 111, .inr (.inl r)))], ⟨rfl, by simp only [bx_uu]⟩, by rw [← hV0, ← hF]; exact (h.sub [1, 0] rfl rfl)⟩) dX6_body_26
set_option maxHeartbeats 4000000 in
set_option maxRecDepth 100000 in
theorem metX6_bodyB2 (l : Launch) (G : xG) (hG : xGood G) (b : Nat → Nat) (i : Nat → Int32) (j : Nat → Int64) (r : Nat → Int64) (p : Nat) (hp : p < 3) (y : Int32) (hy : bI (m_in y.toInt64 0 4) = 0) : xWm l G yX6_body (Cond.code yX6_body cX6_body 3 (some .int)) { frames := 2, locals := 46, cells := 0, slots := 0 } [.ref (b 0), .int (nI p), .int y] [(b 0, .inr (5, mF b i j)), (b 1, .inl (1, 111, .inr (.inl r)))] (fun v w' => v = some (.int 0) ∧ w' = [(b 0, .inr (5, mF b (va_up i 0 1) j)), (b 1, .inl (1, 111, .inr (.inl r)))]) (fun _ _ => False) := by
  intro V hV
  refine xMet_of RX6 hG rfl (by decide) (Nat.le_of_ble_eq_true rfl) fun C hC hQ hX hl hg _ => ?_
  subst hl hg
  obtain ⟨V0, hV0⟩ : ∃ V0, V0 = V := ⟨_, rfl⟩
  obtain ⟨F, hF⟩ : ∃ F, F = xF [(b 0, .inr (5, mF b i j)), (b 1, .inl (1, 111, .inr (.inl r)))] := ⟨_, rfl⟩
  refine rn.mono (J := xSt F V0 [(b 0, .inr (5, mF b i j)), (b 1, .inl (1, 111, .inr (.inl r)))]) (fun V9 h => by rw [h, hV0, hF]; exact hV.st) ?_
  show rn C (xSt F V0 [(b 0, .inr (5, mF b i j)), (b 1, .inl (1, 111, .inr (.inl r)))]) 0 0 0 [(0, .ref (b 0)), (1, .int (nI p)), (2, .int y)] []
  refine r_aload_n hC 0 dX6_body_0 rfl 1 rfl ?_
  refine r_iload_n hC 1 dX6_body_1 rfl 2 rfl ?_
  refine r_invVw hC kX6 (b 0) [.int (nI p)] [(b 1, .inl (1, 111, .inr (.inl r)))] mVX6_noBody q2996 0 rfl (metX6_noBody0 _ _ hG b _ _ p (by omega)) [0] [1] rfl rfl rfl rfl (by decide) ⟨rfl, rfl⟩ 0 0 rfl rfl (Nat.le_of_ble_eq_true rfl) (Nat.le_of_ble_eq_true rfl) rfl (Nat.le_of_ble_eq_true rfl) dX6_body_2 5 rfl (fun v1 w2 h3 => ?_) (fun _ _ h => h.elim)
  obtain ⟨rfl, rfl⟩ := h3
  show rn C (xSt F V0 [(b 1, .inl (1, 111, .inr (.inl r))), (b 0, .inr (5, mF b (va_up i 0 0) j))]) 0 0 5 [(0, .ref (b 0)), (1, .int (nI p)), (2, .int y)] [.int 0]
  refine r_ifne hC 25 dX6_body_5 (by decide) 8 rfl (fun h => absurd h (by decide)) (fun _ => ?_)
  refine r_aload_n hC 0 dX6_body_8 rfl 9 rfl ?_
  refine r_iload_n hC 2 dX6_body_9 rfl 10 rfl ?_
  refine r_i2l hC y.toInt64 dX6_body_10 (rfl) 11 rfl ?_
  refine r_lconst hC 0 dX6_body_11 lc_0 12 rfl ?_
  refine r_ldc2 hC q3000 dX6_body_12 15 rfl ?_
  refine r_invSr hC [.long y.toInt64, .long 0, .long 4] (.int 0) mSX6_in q2891 (metX6_inB _ _ hG y.toInt64 0 4 0 (hy)) (fun _ _ => xIn.nil) ⟨rfl, rfl⟩ 0 0 rfl rfl (Nat.le_of_ble_eq_true rfl) (Nat.le_of_ble_eq_true rfl) rfl (Nat.le_of_ble_eq_true rfl) dX6_body_15 18 rfl ?_
  refine r_iconst hC 1 dX6_body_18 ic_1 19 rfl ?_
  refine r_invVw hC kX6 (b 0) [.int 0, .int 1] [(b 1, .inl (1, 111, .inr (.inl r)))] mVX6_fails q2894 1 rfl (metX6_fails0 _ _ hG b _ _ 1) [1] [0] rfl rfl rfl rfl (by decide) ⟨rfl, rfl⟩ 0 0 rfl rfl (Nat.le_of_ble_eq_true rfl) (Nat.le_of_ble_eq_true rfl) rfl (Nat.le_of_ble_eq_true rfl) dX6_body_19 22 rfl (fun v4 w5 h6 => ?_) (fun _ _ h => h.elim)
  obtain ⟨rfl, rfl⟩ := h6
  show rn C (xSt F V0 [(b 1, .inl (1, 111, .inr (.inl r))), (b 0, .inr (5, mF b (va_up (va_up i 0 0) 0 1) j))]) 0 0 22 [(0, .ref (b 0)), (1, .int (nI p)), (2, .int y)] [.int 1]
  refine r_ifeq hC 27 dX6_body_22 (by decide) 25 rfl (fun h => absurd h (by decide)) (fun _ => ?_)
  refine r_iconst hC 0 dX6_body_25 ic_0 26 rfl ?_
  exact r_iret hC (Nat.le_of_ble_eq_true rfl) (Nat.le_of_ble_eq_true rfl) (fun V9 h => hQ _ _ ⟨[(b 0, .inr (5, mF b (va_up (va_up i 0 0) 0 1) j)), (b 1, .inl (1, 111, .inr (.inl r)))], ⟨rfl, by simp only [bx_uu]⟩, by rw [← hV0, ← hF]; exact (h.sub [1, 0] rfl rfl)⟩) dX6_body_26
set_option maxHeartbeats 4000000 in
set_option maxRecDepth 100000 in
theorem metX6_distanceG (l : Launch) (G : xG) (hG : xGood G) (b : Nat → Nat) (i : Nat → Int32) (j : Nat → Int64) (r : Nat → Int64) (p : Nat) (hp : p < 3) : xWm l G yX6_distance (Cond.code yX6_distance cX6_distance 2 (some .int)) { frames := 3, locals := 73, cells := 0, slots := 0 } [.ref (b 0), .int (nI p)] [(b 0, .inr (5, mF b i j)), (b 1, .inl (1, 111, .inr (.inl r)))] (fun v w' => v = some (.int (nI (distQ r p))) ∧ w' = [(b 0, .inr (5, mF b (va_up i 0 0) j)), (b 1, .inl (1, 111, .inr (.inl r)))]) (fun _ _ => False) := by
  intro V hV
  refine xMet_of RX6 hG rfl (by decide) (Nat.le_of_ble_eq_true rfl) fun C hC hQ hX hl hg _ => ?_
  subst hl hg
  obtain ⟨V0, hV0⟩ : ∃ V0, V0 = V := ⟨_, rfl⟩
  obtain ⟨F, hF⟩ : ∃ F, F = xF [(b 0, .inr (5, mF b i j)), (b 1, .inl (1, 111, .inr (.inl r)))] := ⟨_, rfl⟩
  refine rn.mono (J := xSt F V0 [(b 0, .inr (5, mF b i j)), (b 1, .inl (1, 111, .inr (.inl r)))]) (fun V9 h => by rw [h, hV0, hF]; exact hV.st) ?_
  show rn C (xSt F V0 [(b 0, .inr (5, mF b i j)), (b 1, .inl (1, 111, .inr (.inl r)))]) 0 0 0 [(0, .ref (b 0)), (1, .int (nI p))] []
  refine r_aload_n hC 0 dX6_distance_0 rfl 1 rfl ?_
  refine r_iload_n hC 1 dX6_distance_1 rfl 2 rfl ?_
  refine r_invVw hC kX6 (b 0) [.int (nI p)] [(b 1, .inl (1, 111, .inr (.inl r)))] mVX6_noBody q2996 0 rfl (metX6_noBody0 _ _ hG b _ _ p (by omega)) [0] [1] rfl rfl rfl rfl (by decide) ⟨rfl, rfl⟩ 0 0 rfl rfl (Nat.le_of_ble_eq_true rfl) (Nat.le_of_ble_eq_true rfl) rfl (Nat.le_of_ble_eq_true rfl) dX6_distance_2 5 rfl (fun v1 w2 h3 => ?_) (fun _ _ h => h.elim)
  obtain ⟨rfl, rfl⟩ := h3
  show rn C (xSt F V0 [(b 1, .inl (1, 111, .inr (.inl r))), (b 0, .inr (5, mF b (va_up i 0 0) j))]) 0 0 5 [(0, .ref (b 0)), (1, .int (nI p))] [.int 0]
  refine r_ifeq hC 12 dX6_distance_5 (by decide) 8 rfl (fun _ => ?_) (fun h => absurd h (by decide))
  refine r_aload_n hC 0 dX6_distance_12 rfl 13 rfl ?_
  refine r_get (v := .ref (b 1)) hC kX6 1 rfl q2754 (fun _ h => h.get 1 rfl) rfl dX6_distance_13 16 rfl ?_
  refine r_iload_n hC 1 dX6_distance_16 rfl 17 rfl ?_
  refine r_invSr hC [.ref (b 1), .int (nI p)] (.long (lN (distQ r p))) mSX6_distanceOf q2743 (metX6_distanceOf _ _ hG (b 1) _ p (by omega)) (fun _ h => h.in.sub [0] rfl rfl) ⟨rfl, rfl⟩ 0 0 rfl rfl (Nat.le_of_ble_eq_true rfl) (Nat.le_of_ble_eq_true rfl) rfl (Nat.le_of_ble_eq_true rfl) dX6_distance_17 20 rfl ?_
  refine r_l2i hC (nI (distQ r p)) dX6_distance_20 (lN_i _) 21 rfl ?_
  exact r_iret hC (Nat.le_of_ble_eq_true rfl) (Nat.le_of_ble_eq_true rfl) (fun V9 h => hQ _ _ ⟨[(b 0, .inr (5, mF b (va_up i 0 0) j)), (b 1, .inl (1, 111, .inr (.inl r)))], ⟨rfl, by simp only [bx_uu]⟩, by rw [← hV0, ← hF]; exact (h.sub [1, 0] rfl rfl)⟩) dX6_distance_21
set_option maxHeartbeats 4000000 in
set_option maxRecDepth 100000 in
theorem metX6_distanceB (l : Launch) (G : xG) (hG : xGood G) (b : Nat → Nat) (i : Nat → Int32) (j : Nat → Int64) (r : Nat → Int64) (x : Int32) (hx : bI (m_in x.toInt64 0 2) = 0) : xWm l G yX6_distance (Cond.code yX6_distance cX6_distance 2 (some .int)) { frames := 2, locals := 46, cells := 0, slots := 0 } [.ref (b 0), .int x] [(b 0, .inr (5, mF b i j)), (b 1, .inl (1, 111, .inr (.inl r)))] (fun v w' => v = some (.int 0) ∧ w' = [(b 0, .inr (5, mF b (va_up i 0 1) j)), (b 1, .inl (1, 111, .inr (.inl r)))]) (fun _ _ => False) := by
  intro V hV
  refine xMet_of RX6 hG rfl (by decide) (Nat.le_of_ble_eq_true rfl) fun C hC hQ hX hl hg _ => ?_
  subst hl hg
  obtain ⟨V0, hV0⟩ : ∃ V0, V0 = V := ⟨_, rfl⟩
  obtain ⟨F, hF⟩ : ∃ F, F = xF [(b 0, .inr (5, mF b i j)), (b 1, .inl (1, 111, .inr (.inl r)))] := ⟨_, rfl⟩
  refine rn.mono (J := xSt F V0 [(b 0, .inr (5, mF b i j)), (b 1, .inl (1, 111, .inr (.inl r)))]) (fun V9 h => by rw [h, hV0, hF]; exact hV.st) ?_
  show rn C (xSt F V0 [(b 0, .inr (5, mF b i j)), (b 1, .inl (1, 111, .inr (.inl r)))]) 0 0 0 [(0, .ref (b 0)), (1, .int x)] []
  refine r_aload_n hC 0 dX6_distance_0 rfl 1 rfl ?_
  refine r_iload_n hC 1 dX6_distance_1 rfl 2 rfl ?_
  refine r_invVw hC kX6 (b 0) [.int x] [(b 1, .inl (1, 111, .inr (.inl r)))] mVX6_noBody q2996 0 rfl (metX6_noBody1 _ _ hG b _ _ x (hx)) [0] [1] rfl rfl rfl rfl (by decide) ⟨rfl, rfl⟩ 0 0 rfl rfl (Nat.le_of_ble_eq_true rfl) (Nat.le_of_ble_eq_true rfl) rfl (Nat.le_of_ble_eq_true rfl) dX6_distance_2 5 rfl (fun v1 w2 h3 => ?_) (fun _ _ h => h.elim)
  obtain ⟨rfl, rfl⟩ := h3
  show rn C (xSt F V0 [(b 1, .inl (1, 111, .inr (.inl r))), (b 0, .inr (5, mF b (va_up i 0 1) j))]) 0 0 5 [(0, .ref (b 0)), (1, .int x)] [.int 1]
  refine r_ifeq hC 12 dX6_distance_5 (by decide) 8 rfl (fun h => absurd h (by decide)) (fun _ => ?_)
  refine r_iconst hC 0 dX6_distance_8 ic_0 9 rfl ?_
  refine r_goto hC 21 dX6_distance_9 (by decide) ?_
  exact r_iret hC (Nat.le_of_ble_eq_true rfl) (Nat.le_of_ble_eq_true rfl) (fun V9 h => hQ _ _ ⟨[(b 0, .inr (5, mF b (va_up i 0 1) j)), (b 1, .inl (1, 111, .inr (.inl r)))], ⟨rfl, by simp only [bx_uu]⟩, by rw [← hV0, ← hF]; exact (h.sub [1, 0] rfl rfl)⟩) dX6_distance_21
set_option maxHeartbeats 4000000 in
set_option maxRecDepth 100000 in
theorem metX6_impulseG (l : Launch) (G : xG) (hG : xGood G) (b : Nat → Nat) (i : Nat → Int32) (j : Nat → Int64) (t r : Nat → Int64) (p q : Nat) (hp : p < 3) (hq : q < 2) (ht : tOK t) (hm : mOK r) : xWm l G yX6_impulse (Cond.code yX6_impulse cX6_impulse 3 (some .long)) { frames := 5, locals := 124, cells := 0, slots := 0 } [.ref (b 0), .int (nI p), .int (nI q)] [(b 0, .inr (5, mF b i j)), (b 7, .inl (1, 5, .inr (.inl t))), (b 1, .inl (1, 111, .inr (.inl r)))] (fun v w' => v = some (.long (impQ t r p q)) ∧ w' = [(b 0, .inr (5, mF b (va_up i 0 0) j)), (b 7, .inl (1, 5, .inr (.inl t))), (b 1, .inl (1, 111, .inr (.inl r)))]) (fun _ _ => False) := by
  intro V hV
  refine xMet_of RX6 hG rfl (by decide) (Nat.le_of_ble_eq_true rfl) fun C hC hQ hX hl hg _ => ?_
  subst hl hg
  obtain ⟨V0, hV0⟩ : ∃ V0, V0 = V := ⟨_, rfl⟩
  obtain ⟨F, hF⟩ : ∃ F, F = xF [(b 0, .inr (5, mF b i j)), (b 7, .inl (1, 5, .inr (.inl t))), (b 1, .inl (1, 111, .inr (.inl r)))] := ⟨_, rfl⟩
  refine rn.mono (J := xSt F V0 [(b 0, .inr (5, mF b i j)), (b 7, .inl (1, 5, .inr (.inl t))), (b 1, .inl (1, 111, .inr (.inl r)))]) (fun V9 h => by rw [h, hV0, hF]; exact hV.st) ?_
  show rn C (xSt F V0 [(b 0, .inr (5, mF b i j)), (b 7, .inl (1, 5, .inr (.inl t))), (b 1, .inl (1, 111, .inr (.inl r)))]) 0 0 0 [(0, .ref (b 0)), (1, .int (nI p)), (2, .int (nI q))] []
  refine r_aload_n hC 0 dX6_impulse_0 rfl 1 rfl ?_
  refine r_iload_n hC 1 dX6_impulse_1 rfl 2 rfl ?_
  refine r_invVw hC kX6 (b 0) [.int (nI p)] [(b 7, .inl (1, 5, .inr (.inl t))), (b 1, .inl (1, 111, .inr (.inl r)))] mVX6_noBody q2996 0 rfl (metX6_noBody0 _ _ hG b _ _ p (by omega)) [0] [1, 2] rfl rfl rfl rfl (by decide) ⟨rfl, rfl⟩ 0 0 rfl rfl (Nat.le_of_ble_eq_true rfl) (Nat.le_of_ble_eq_true rfl) rfl (Nat.le_of_ble_eq_true rfl) dX6_impulse_2 5 rfl (fun v1 w2 h3 => ?_) (fun _ _ h => h.elim)
  obtain ⟨rfl, rfl⟩ := h3
  show rn C (xSt F V0 [(b 7, .inl (1, 5, .inr (.inl t))), (b 1, .inl (1, 111, .inr (.inl r))), (b 0, .inr (5, mF b (va_up i 0 0) j))]) 0 0 5 [(0, .ref (b 0)), (1, .int (nI p)), (2, .int (nI q))] [.int 0]
  refine r_ifne hC 23 dX6_impulse_5 (by decide) 8 rfl (fun h => absurd h (by decide)) (fun _ => ?_)
  refine r_aload_n hC 0 dX6_impulse_8 rfl 9 rfl ?_
  refine r_iload_n hC 2 dX6_impulse_9 rfl 10 rfl ?_
  refine r_i2l hC ((nI q).toInt64) dX6_impulse_10 (rfl) 11 rfl ?_
  refine r_lconst hC 0 dX6_impulse_11 lc_0 12 rfl ?_
  refine r_lconst hC 1 dX6_impulse_12 lc_1 13 rfl ?_
  refine r_invSr hC [.long ((nI q).toInt64), .long 0, .long 1] (.int 1) mSX6_in q2891 (metX6_inB _ _ hG ((nI q).toInt64) 0 1 1 (in_n (N := 1) (by omega) rfl (by decide))) (fun _ _ => xIn.nil) ⟨rfl, rfl⟩ 0 0 rfl rfl (Nat.le_of_ble_eq_true rfl) (Nat.le_of_ble_eq_true rfl) rfl (Nat.le_of_ble_eq_true rfl) dX6_impulse_13 16 rfl ?_
  refine r_iconst hC 1 dX6_impulse_16 ic_1 17 rfl ?_
  refine r_invVr hC kX6 (b 0) [.int 1, .int 1] (.int 0) mVX6_fails q2894 (fun _ h => h.get 2 rfl) (metX6_fails1 _ _ hG b _ _ 1) (fun _ h => h.in.sub [2] rfl rfl) ⟨rfl, rfl⟩ 0 0 rfl rfl (Nat.le_of_ble_eq_true rfl) (Nat.le_of_ble_eq_true rfl) rfl (Nat.le_of_ble_eq_true rfl) dX6_impulse_17 20 rfl ?_
  refine r_ifeq hC 27 dX6_impulse_20 (by decide) 23 rfl (fun _ => ?_) (fun h => absurd h (by decide))
  refine r_aload_n hC 0 dX6_impulse_27 rfl 28 rfl ?_
  refine r_aload_n hC 0 dX6_impulse_28 rfl 29 rfl ?_
  refine r_get (v := .ref (b 1)) hC kX6 1 rfl q2754 (fun _ h => h.get 2 rfl) rfl dX6_impulse_29 32 rfl ?_
  refine r_iload_n hC 1 dX6_impulse_32 rfl 33 rfl ?_
  refine r_iload_n hC 2 dX6_impulse_33 rfl 34 rfl ?_
  refine r_invVr hC kX6 (b 0) [.ref (b 1), .int (nI p), .int (nI q)] (.long (impQ t r p q)) mVX6_impulseOf q3014 (fun _ h => h.get 2 rfl) (metX6_impulseOf _ _ hG b _ _ _ (b 1) _ p q (by omega) (by omega) (rowOK_of ht hm)) (fun _ h => h.in.sub [2, 0, 1] rfl rfl) ⟨rfl, rfl⟩ 0 0 rfl rfl (Nat.le_of_ble_eq_true rfl) (Nat.le_of_ble_eq_true rfl) rfl (Nat.le_of_ble_eq_true rfl) dX6_impulse_34 37 rfl ?_
  exact r_lret hC (Nat.le_of_ble_eq_true rfl) (Nat.le_of_ble_eq_true rfl) (fun V9 h => hQ _ _ ⟨[(b 0, .inr (5, mF b (va_up i 0 0) j)), (b 7, .inl (1, 5, .inr (.inl t))), (b 1, .inl (1, 111, .inr (.inl r)))], ⟨rfl, by simp only [bx_uu]⟩, by rw [← hV0, ← hF]; exact (h.sub [2, 0, 1] rfl rfl)⟩) dX6_impulse_37
set_option maxHeartbeats 4000000 in
set_option maxRecDepth 100000 in
theorem metX6_impulseB1 (l : Launch) (G : xG) (hG : xGood G) (b : Nat → Nat) (i : Nat → Int32) (j : Nat → Int64) (t r : Nat → Int64) (x y : Int32) (hx : bI (m_in x.toInt64 0 2) = 0) : xWm l G yX6_impulse (Cond.code yX6_impulse cX6_impulse 3 (some .long)) { frames := 2, locals := 46, cells := 0, slots := 0 } [.ref (b 0), .int x, .int y] [(b 0, .inr (5, mF b i j)), (b 7, .inl (1, 5, .inr (.inl t))), (b 1, .inl (1, 111, .inr (.inl r)))] (fun v w' => v = some (.long 0) ∧ w' = [(b 0, .inr (5, mF b (va_up i 0 1) j)), (b 7, .inl (1, 5, .inr (.inl t))), (b 1, .inl (1, 111, .inr (.inl r)))]) (fun _ _ => False) := by
  intro V hV
  refine xMet_of RX6 hG rfl (by decide) (Nat.le_of_ble_eq_true rfl) fun C hC hQ hX hl hg _ => ?_
  subst hl hg
  obtain ⟨V0, hV0⟩ : ∃ V0, V0 = V := ⟨_, rfl⟩
  obtain ⟨F, hF⟩ : ∃ F, F = xF [(b 0, .inr (5, mF b i j)), (b 7, .inl (1, 5, .inr (.inl t))), (b 1, .inl (1, 111, .inr (.inl r)))] := ⟨_, rfl⟩
  refine rn.mono (J := xSt F V0 [(b 0, .inr (5, mF b i j)), (b 7, .inl (1, 5, .inr (.inl t))), (b 1, .inl (1, 111, .inr (.inl r)))]) (fun V9 h => by rw [h, hV0, hF]; exact hV.st) ?_
  show rn C (xSt F V0 [(b 0, .inr (5, mF b i j)), (b 7, .inl (1, 5, .inr (.inl t))), (b 1, .inl (1, 111, .inr (.inl r)))]) 0 0 0 [(0, .ref (b 0)), (1, .int x), (2, .int y)] []
  refine r_aload_n hC 0 dX6_impulse_0 rfl 1 rfl ?_
  refine r_iload_n hC 1 dX6_impulse_1 rfl 2 rfl ?_
  refine r_invVw hC kX6 (b 0) [.int x] [(b 7, .inl (1, 5, .inr (.inl t))), (b 1, .inl (1, 111, .inr (.inl r)))] mVX6_noBody q2996 0 rfl (metX6_noBody1 _ _ hG b _ _ x (hx)) [0] [1, 2] rfl rfl rfl rfl (by decide) ⟨rfl, rfl⟩ 0 0 rfl rfl (Nat.le_of_ble_eq_true rfl) (Nat.le_of_ble_eq_true rfl) rfl (Nat.le_of_ble_eq_true rfl) dX6_impulse_2 5 rfl (fun v1 w2 h3 => ?_) (fun _ _ h => h.elim)
  obtain ⟨rfl, rfl⟩ := h3
  show rn C (xSt F V0 [(b 7, .inl (1, 5, .inr (.inl t))), (b 1, .inl (1, 111, .inr (.inl r))), (b 0, .inr (5, mF b (va_up i 0 1) j))]) 0 0 5 [(0, .ref (b 0)), (1, .int x), (2, .int y)] [.int 1]
  refine r_ifne hC 23 dX6_impulse_5 (by decide) 8 rfl (fun _ => ?_) (fun h => absurd h (by decide))
  refine r_lconst hC 0 dX6_impulse_23 lc_0 24 rfl ?_
  refine r_goto hC 37 dX6_impulse_24 (by decide) ?_
  exact r_lret hC (Nat.le_of_ble_eq_true rfl) (Nat.le_of_ble_eq_true rfl) (fun V9 h => hQ _ _ ⟨[(b 0, .inr (5, mF b (va_up i 0 1) j)), (b 7, .inl (1, 5, .inr (.inl t))), (b 1, .inl (1, 111, .inr (.inl r)))], ⟨rfl, by simp only [bx_uu]⟩, by rw [← hV0, ← hF]; exact (h.sub [2, 0, 1] rfl rfl)⟩) dX6_impulse_37
set_option maxHeartbeats 4000000 in
set_option maxRecDepth 100000 in
theorem metX6_impulseB2 (l : Launch) (G : xG) (hG : xGood G) (b : Nat → Nat) (i : Nat → Int32) (j : Nat → Int64) (t r : Nat → Int64) (p : Nat) (hp : p < 3) (y : Int32) (hy : bI (m_in y.toInt64 0 1) = 0) : xWm l G yX6_impulse (Cond.code yX6_impulse cX6_impulse 3 (some .long)) { frames := 2, locals := 46, cells := 0, slots := 0 } [.ref (b 0), .int (nI p), .int y] [(b 0, .inr (5, mF b i j)), (b 7, .inl (1, 5, .inr (.inl t))), (b 1, .inl (1, 111, .inr (.inl r)))] (fun v w' => v = some (.long 0) ∧ w' = [(b 0, .inr (5, mF b (va_up i 0 1) j)), (b 7, .inl (1, 5, .inr (.inl t))), (b 1, .inl (1, 111, .inr (.inl r)))]) (fun _ _ => False) := by
  intro V hV
  refine xMet_of RX6 hG rfl (by decide) (Nat.le_of_ble_eq_true rfl) fun C hC hQ hX hl hg _ => ?_
  subst hl hg
  obtain ⟨V0, hV0⟩ : ∃ V0, V0 = V := ⟨_, rfl⟩
  obtain ⟨F, hF⟩ : ∃ F, F = xF [(b 0, .inr (5, mF b i j)), (b 7, .inl (1, 5, .inr (.inl t))), (b 1, .inl (1, 111, .inr (.inl r)))] := ⟨_, rfl⟩
  refine rn.mono (J := xSt F V0 [(b 0, .inr (5, mF b i j)), (b 7, .inl (1, 5, .inr (.inl t))), (b 1, .inl (1, 111, .inr (.inl r)))]) (fun V9 h => by rw [h, hV0, hF]; exact hV.st) ?_
  show rn C (xSt F V0 [(b 0, .inr (5, mF b i j)), (b 7, .inl (1, 5, .inr (.inl t))), (b 1, .inl (1, 111, .inr (.inl r)))]) 0 0 0 [(0, .ref (b 0)), (1, .int (nI p)), (2, .int y)] []
  refine r_aload_n hC 0 dX6_impulse_0 rfl 1 rfl ?_
  refine r_iload_n hC 1 dX6_impulse_1 rfl 2 rfl ?_
  refine r_invVw hC kX6 (b 0) [.int (nI p)] [(b 7, .inl (1, 5, .inr (.inl t))), (b 1, .inl (1, 111, .inr (.inl r)))] mVX6_noBody q2996 0 rfl (metX6_noBody0 _ _ hG b _ _ p (by omega)) [0] [1, 2] rfl rfl rfl rfl (by decide) ⟨rfl, rfl⟩ 0 0 rfl rfl (Nat.le_of_ble_eq_true rfl) (Nat.le_of_ble_eq_true rfl) rfl (Nat.le_of_ble_eq_true rfl) dX6_impulse_2 5 rfl (fun v1 w2 h3 => ?_) (fun _ _ h => h.elim)
  obtain ⟨rfl, rfl⟩ := h3
  show rn C (xSt F V0 [(b 7, .inl (1, 5, .inr (.inl t))), (b 1, .inl (1, 111, .inr (.inl r))), (b 0, .inr (5, mF b (va_up i 0 0) j))]) 0 0 5 [(0, .ref (b 0)), (1, .int (nI p)), (2, .int y)] [.int 0]
  refine r_ifne hC 23 dX6_impulse_5 (by decide) 8 rfl (fun h => absurd h (by decide)) (fun _ => ?_)
  refine r_aload_n hC 0 dX6_impulse_8 rfl 9 rfl ?_
  refine r_iload_n hC 2 dX6_impulse_9 rfl 10 rfl ?_
  refine r_i2l hC y.toInt64 dX6_impulse_10 (rfl) 11 rfl ?_
  refine r_lconst hC 0 dX6_impulse_11 lc_0 12 rfl ?_
  refine r_lconst hC 1 dX6_impulse_12 lc_1 13 rfl ?_
  refine r_invSr hC [.long y.toInt64, .long 0, .long 1] (.int 0) mSX6_in q2891 (metX6_inB _ _ hG y.toInt64 0 1 0 (hy)) (fun _ _ => xIn.nil) ⟨rfl, rfl⟩ 0 0 rfl rfl (Nat.le_of_ble_eq_true rfl) (Nat.le_of_ble_eq_true rfl) rfl (Nat.le_of_ble_eq_true rfl) dX6_impulse_13 16 rfl ?_
  refine r_iconst hC 1 dX6_impulse_16 ic_1 17 rfl ?_
  refine r_invVw hC kX6 (b 0) [.int 0, .int 1] [(b 7, .inl (1, 5, .inr (.inl t))), (b 1, .inl (1, 111, .inr (.inl r)))] mVX6_fails q2894 2 rfl (metX6_fails0 _ _ hG b _ _ 1) [2] [0, 1] rfl rfl rfl rfl (by decide) ⟨rfl, rfl⟩ 0 0 rfl rfl (Nat.le_of_ble_eq_true rfl) (Nat.le_of_ble_eq_true rfl) rfl (Nat.le_of_ble_eq_true rfl) dX6_impulse_17 20 rfl (fun v4 w5 h6 => ?_) (fun _ _ h => h.elim)
  obtain ⟨rfl, rfl⟩ := h6
  show rn C (xSt F V0 [(b 7, .inl (1, 5, .inr (.inl t))), (b 1, .inl (1, 111, .inr (.inl r))), (b 0, .inr (5, mF b (va_up (va_up i 0 0) 0 1) j))]) 0 0 20 [(0, .ref (b 0)), (1, .int (nI p)), (2, .int y)] [.int 1]
  refine r_ifeq hC 27 dX6_impulse_20 (by decide) 23 rfl (fun h => absurd h (by decide)) (fun _ => ?_)
  refine r_lconst hC 0 dX6_impulse_23 lc_0 24 rfl ?_
  refine r_goto hC 37 dX6_impulse_24 (by decide) ?_
  exact r_lret hC (Nat.le_of_ble_eq_true rfl) (Nat.le_of_ble_eq_true rfl) (fun V9 h => hQ _ _ ⟨[(b 0, .inr (5, mF b (va_up (va_up i 0 0) 0 1) j)), (b 7, .inl (1, 5, .inr (.inl t))), (b 1, .inl (1, 111, .inr (.inl r)))], ⟨rfl, by simp only [bx_uu]⟩, by rw [← hV0, ← hF]; exact (h.sub [2, 0, 1] rfl rfl)⟩) dX6_impulse_37
set_option maxHeartbeats 4000000 in
set_option maxRecDepth 100000 in
theorem metX6_momentumG (l : Launch) (G : xG) (hG : xGood G) (b : Nat → Nat) (i : Nat → Int32) (j : Nat → Int64) (r : Nat → Int64) (q : Nat) (hq : q < 2) : xWm l G yX6_momentum (Cond.code yX6_momentum cX6_momentum 2 (some .long)) { frames := 1, locals := 25, cells := 0, slots := 0 } [.ref (b 0), .int (nI q)] [(b 0, .inr (5, mF b i j)), (b 1, .inl (1, 111, .inr (.inl r)))] (fun v w' => v = some (.long (r (6 + 5 * 0 + (3 + q)) + r (6 + 5 * 1 + (3 + q)) + r (6 + 5 * 2 + (3 + q)))) ∧ w' = [(b 0, .inr (5, mF b (va_up i 0 0) j)), (b 1, .inl (1, 111, .inr (.inl r)))]) (fun _ _ => False) := by
  intro V hV
  refine xMet_of RX6 hG rfl (by decide) (Nat.le_of_ble_eq_true rfl) fun C hC hQ hX hl hg _ => ?_
  subst hl hg
  obtain ⟨V0, hV0⟩ : ∃ V0, V0 = V := ⟨_, rfl⟩
  obtain ⟨F, hF⟩ : ∃ F, F = xF [(b 0, .inr (5, mF b i j)), (b 1, .inl (1, 111, .inr (.inl r)))] := ⟨_, rfl⟩
  refine rn.mono (J := xSt F V0 [(b 0, .inr (5, mF b i j)), (b 1, .inl (1, 111, .inr (.inl r)))]) (fun V9 h => by rw [h, hV0, hF]; exact hV.st) ?_
  show rn C (xSt F V0 [(b 0, .inr (5, mF b i j)), (b 1, .inl (1, 111, .inr (.inl r)))]) 0 0 0 [(0, .ref (b 0)), (1, .int (nI q))] []
  refine r_aload_n hC 0 dX6_momentum_0 rfl 1 rfl ?_
  refine r_iconst hC 0 dX6_momentum_1 ic_0 2 rfl ?_
  refine r_put (J := xSt F V0 [(b 0, .inr (5, mF b (va_up i 0 0) j)), (b 1, .inl (1, 111, .inr (.inl r)))]) hC kX6 0 rfl q2753 rfl (fun _ h => h.get 0 rfl) (Nat.le_of_ble_eq_true rfl) rfl rfl dX6_momentum_2 (fun _ h => h.set 0 _ rfl) 5 rfl ?_
  refine r_aload_n hC 0 dX6_momentum_5 rfl 6 rfl ?_
  refine r_iload_n hC 1 dX6_momentum_6 rfl 7 rfl ?_
  refine r_i2l hC ((nI q).toInt64) dX6_momentum_7 (rfl) 8 rfl ?_
  refine r_lconst hC 0 dX6_momentum_8 lc_0 9 rfl ?_
  refine r_lconst hC 1 dX6_momentum_9 lc_1 10 rfl ?_
  refine r_invSr hC [.long ((nI q).toInt64), .long 0, .long 1] (.int 1) mSX6_in q2891 (metX6_inB _ _ hG ((nI q).toInt64) 0 1 1 (in_n (N := 1) (by omega) rfl (by decide))) (fun _ _ => xIn.nil) ⟨rfl, rfl⟩ 0 0 rfl rfl (Nat.le_of_ble_eq_true rfl) (Nat.le_of_ble_eq_true rfl) rfl (Nat.le_of_ble_eq_true rfl) dX6_momentum_10 13 rfl ?_
  refine r_iconst hC 1 dX6_momentum_13 ic_1 14 rfl ?_
  refine r_invVr hC kX6 (b 0) [.int 1, .int 1] (.int 0) mVX6_fails q2894 (fun _ h => h.get 0 rfl) (metX6_fails1 _ _ hG b _ _ 1) (fun _ h => h.in.sub [0] rfl rfl) ⟨rfl, rfl⟩ 0 0 rfl rfl (Nat.le_of_ble_eq_true rfl) (Nat.le_of_ble_eq_true rfl) rfl (Nat.le_of_ble_eq_true rfl) dX6_momentum_14 17 rfl ?_
  refine r_ifeq hC 22 dX6_momentum_17 (by decide) 20 rfl (fun _ => ?_) (fun h => absurd h (by decide))
  refine r_aload_n hC 0 dX6_momentum_22 rfl 23 rfl ?_
  refine r_get (v := .ref (b 1)) hC kX6 1 rfl q2754 (fun _ h => h.get 0 rfl) rfl dX6_momentum_23 26 rfl ?_
  refine r_iconst hC 0 dX6_momentum_26 ic_0 27 rfl ?_
  refine r_iconst hC 3 dX6_momentum_27 ic_3 28 rfl ?_
  refine r_iload_n hC 1 dX6_momentum_28 rfl 29 rfl ?_
  refine r_iadd hC (nI (3 + q)) dX6_momentum_29  (nI_add 3 q) 30 rfl ?_
  refine r_invSr hC [.int 0, .int (nI (3 + q))] (.int (nI (6 + 5 * 0 + (3 + q)))) mSX6_at q2711 (metX6_at _ _ hG 0 (3 + q)) (fun _ _ => xIn.nil) ⟨rfl, rfl⟩ 0 0 rfl rfl (Nat.le_of_ble_eq_true rfl) (Nat.le_of_ble_eq_true rfl) rfl (Nat.le_of_ble_eq_true rfl) dX6_momentum_30 33 rfl ?_
  refine r_lald hC (6 + 5 * 0 + (3 + q)) (xix_n (6 + 5 * 0 + (3 + q)) (by omega) (Nat.le_of_ble_eq_true rfl)) (fun _ h => h.get 1 rfl) (r (6 + 5 * 0 + (3 + q))) (rfl) dX6_momentum_33 34 rfl ?_
  refine r_aload_n hC 0 dX6_momentum_34 rfl 35 rfl ?_
  refine r_get (v := .ref (b 1)) hC kX6 1 rfl q2754 (fun _ h => h.get 0 rfl) rfl dX6_momentum_35 38 rfl ?_
  refine r_iconst hC 1 dX6_momentum_38 ic_1 39 rfl ?_
  refine r_iconst hC 3 dX6_momentum_39 ic_3 40 rfl ?_
  refine r_iload_n hC 1 dX6_momentum_40 rfl 41 rfl ?_
  refine r_iadd hC (nI (3 + q)) dX6_momentum_41  (nI_add 3 q) 42 rfl ?_
  refine r_invSr hC [.int 1, .int (nI (3 + q))] (.int (nI (6 + 5 * 1 + (3 + q)))) mSX6_at q2711 (metX6_at _ _ hG 1 (3 + q)) (fun _ _ => xIn.nil) ⟨rfl, rfl⟩ 0 0 rfl rfl (Nat.le_of_ble_eq_true rfl) (Nat.le_of_ble_eq_true rfl) rfl (Nat.le_of_ble_eq_true rfl) dX6_momentum_42 45 rfl ?_
  refine r_lald hC (6 + 5 * 1 + (3 + q)) (xix_n (6 + 5 * 1 + (3 + q)) (by omega) (Nat.le_of_ble_eq_true rfl)) (fun _ h => h.get 1 rfl) (r (6 + 5 * 1 + (3 + q))) (rfl) dX6_momentum_45 46 rfl ?_
  refine r_ladd hC ((r (6 + 5 * 0 + (3 + q))) + (r (6 + 5 * 1 + (3 + q)))) dX6_momentum_46  (rfl) 47 rfl ?_
  refine r_aload_n hC 0 dX6_momentum_47 rfl 48 rfl ?_
  refine r_get (v := .ref (b 1)) hC kX6 1 rfl q2754 (fun _ h => h.get 0 rfl) rfl dX6_momentum_48 51 rfl ?_
  refine r_iconst hC 2 dX6_momentum_51 ic_2 52 rfl ?_
  refine r_iconst hC 3 dX6_momentum_52 ic_3 53 rfl ?_
  refine r_iload_n hC 1 dX6_momentum_53 rfl 54 rfl ?_
  refine r_iadd hC (nI (3 + q)) dX6_momentum_54  (nI_add 3 q) 55 rfl ?_
  refine r_invSr hC [.int 2, .int (nI (3 + q))] (.int (nI (6 + 5 * 2 + (3 + q)))) mSX6_at q2711 (metX6_at _ _ hG 2 (3 + q)) (fun _ _ => xIn.nil) ⟨rfl, rfl⟩ 0 0 rfl rfl (Nat.le_of_ble_eq_true rfl) (Nat.le_of_ble_eq_true rfl) rfl (Nat.le_of_ble_eq_true rfl) dX6_momentum_55 58 rfl ?_
  refine r_lald hC (6 + 5 * 2 + (3 + q)) (xix_n (6 + 5 * 2 + (3 + q)) (by omega) (Nat.le_of_ble_eq_true rfl)) (fun _ h => h.get 1 rfl) (r (6 + 5 * 2 + (3 + q))) (rfl) dX6_momentum_58 59 rfl ?_
  refine r_ladd hC (((r (6 + 5 * 0 + (3 + q))) + (r (6 + 5 * 1 + (3 + q)))) + (r (6 + 5 * 2 + (3 + q)))) dX6_momentum_59  (rfl) 60 rfl ?_
  exact r_lret hC (Nat.le_of_ble_eq_true rfl) (Nat.le_of_ble_eq_true rfl) (fun V9 h => hQ _ _ ⟨[(b 0, .inr (5, mF b (va_up i 0 0) j)), (b 1, .inl (1, 111, .inr (.inl r)))], ⟨rfl, by simp only [bx_uu]⟩, by rw [← hV0, ← hF]; exact h⟩) dX6_momentum_60
set_option maxHeartbeats 4000000 in
set_option maxRecDepth 100000 in
theorem metX6_momentumB (l : Launch) (G : xG) (hG : xGood G) (b : Nat → Nat) (i : Nat → Int32) (j : Nat → Int64) (r : Nat → Int64) (y : Int32) (hy : bI (m_in y.toInt64 0 1) = 0) : xWm l G yX6_momentum (Cond.code yX6_momentum cX6_momentum 2 (some .long)) { frames := 1, locals := 25, cells := 0, slots := 0 } [.ref (b 0), .int y] [(b 0, .inr (5, mF b i j)), (b 1, .inl (1, 111, .inr (.inl r)))] (fun v w' => v = some (.long 0) ∧ w' = [(b 0, .inr (5, mF b (va_up i 0 1) j)), (b 1, .inl (1, 111, .inr (.inl r)))]) (fun _ _ => False) := by
  intro V hV
  refine xMet_of RX6 hG rfl (by decide) (Nat.le_of_ble_eq_true rfl) fun C hC hQ hX hl hg _ => ?_
  subst hl hg
  obtain ⟨V0, hV0⟩ : ∃ V0, V0 = V := ⟨_, rfl⟩
  obtain ⟨F, hF⟩ : ∃ F, F = xF [(b 0, .inr (5, mF b i j)), (b 1, .inl (1, 111, .inr (.inl r)))] := ⟨_, rfl⟩
  refine rn.mono (J := xSt F V0 [(b 0, .inr (5, mF b i j)), (b 1, .inl (1, 111, .inr (.inl r)))]) (fun V9 h => by rw [h, hV0, hF]; exact hV.st) ?_
  show rn C (xSt F V0 [(b 0, .inr (5, mF b i j)), (b 1, .inl (1, 111, .inr (.inl r)))]) 0 0 0 [(0, .ref (b 0)), (1, .int y)] []
  refine r_aload_n hC 0 dX6_momentum_0 rfl 1 rfl ?_
  refine r_iconst hC 0 dX6_momentum_1 ic_0 2 rfl ?_
  refine r_put (J := xSt F V0 [(b 0, .inr (5, mF b (va_up i 0 0) j)), (b 1, .inl (1, 111, .inr (.inl r)))]) hC kX6 0 rfl q2753 rfl (fun _ h => h.get 0 rfl) (Nat.le_of_ble_eq_true rfl) rfl rfl dX6_momentum_2 (fun _ h => h.set 0 _ rfl) 5 rfl ?_
  refine r_aload_n hC 0 dX6_momentum_5 rfl 6 rfl ?_
  refine r_iload_n hC 1 dX6_momentum_6 rfl 7 rfl ?_
  refine r_i2l hC y.toInt64 dX6_momentum_7 (rfl) 8 rfl ?_
  refine r_lconst hC 0 dX6_momentum_8 lc_0 9 rfl ?_
  refine r_lconst hC 1 dX6_momentum_9 lc_1 10 rfl ?_
  refine r_invSr hC [.long y.toInt64, .long 0, .long 1] (.int 0) mSX6_in q2891 (metX6_inB _ _ hG y.toInt64 0 1 0 (hy)) (fun _ _ => xIn.nil) ⟨rfl, rfl⟩ 0 0 rfl rfl (Nat.le_of_ble_eq_true rfl) (Nat.le_of_ble_eq_true rfl) rfl (Nat.le_of_ble_eq_true rfl) dX6_momentum_10 13 rfl ?_
  refine r_iconst hC 1 dX6_momentum_13 ic_1 14 rfl ?_
  refine r_invVw hC kX6 (b 0) [.int 0, .int 1] [(b 1, .inl (1, 111, .inr (.inl r)))] mVX6_fails q2894 0 rfl (metX6_fails0 _ _ hG b _ _ 1) [0] [1] rfl rfl rfl rfl (by decide) ⟨rfl, rfl⟩ 0 0 rfl rfl (Nat.le_of_ble_eq_true rfl) (Nat.le_of_ble_eq_true rfl) rfl (Nat.le_of_ble_eq_true rfl) dX6_momentum_14 17 rfl (fun v1 w2 h3 => ?_) (fun _ _ h => h.elim)
  obtain ⟨rfl, rfl⟩ := h3
  show rn C (xSt F V0 [(b 1, .inl (1, 111, .inr (.inl r))), (b 0, .inr (5, mF b (va_up (va_up i 0 0) 0 1) j))]) 0 0 17 [(0, .ref (b 0)), (1, .int y)] [.int 1]
  refine r_ifeq hC 22 dX6_momentum_17 (by decide) 20 rfl (fun h => absurd h (by decide)) (fun _ => ?_)
  refine r_lconst hC 0 dX6_momentum_20 lc_0 21 rfl ?_
  exact r_lret hC (Nat.le_of_ble_eq_true rfl) (Nat.le_of_ble_eq_true rfl) (fun V9 h => hQ _ _ ⟨[(b 0, .inr (5, mF b (va_up (va_up i 0 0) 0 1) j)), (b 1, .inl (1, 111, .inr (.inl r)))], ⟨rfl, by simp only [bx_uu]⟩, by rw [← hV0, ← hF]; exact (h.sub [1, 0] rfl rfl)⟩) dX6_momentum_21
set_option maxHeartbeats 4000000 in
set_option maxRecDepth 100000 in
theorem metX6_settingG0 (l : Launch) (G : xG) (hG : xGood G) (b : Nat → Nat) (i : Nat → Int32) (j : Nat → Int64) (t r : Nat → Int64) : xWm l G yX6_setting (Cond.code yX6_setting cX6_setting 2 (some .int)) { frames := 1, locals := 25, cells := 0, slots := 0 } [.ref (b 0), .int 0] [(b 0, .inr (5, mF b i j)), (b 7, .inl (1, 5, .inr (.inl t))), (b 1, .inl (1, 111, .inr (.inl r)))] (fun v w' => v = some (.int ((t 0).toInt32)) ∧ w' = [(b 0, .inr (5, mF b (va_up i 0 0) j)), (b 7, .inl (1, 5, .inr (.inl t))), (b 1, .inl (1, 111, .inr (.inl r)))]) (fun _ _ => False) := by
  intro V hV
  refine xMet_of RX6 hG rfl (by decide) (Nat.le_of_ble_eq_true rfl) fun C hC hQ hX hl hg _ => ?_
  subst hl hg
  obtain ⟨V0, hV0⟩ : ∃ V0, V0 = V := ⟨_, rfl⟩
  obtain ⟨F, hF⟩ : ∃ F, F = xF [(b 0, .inr (5, mF b i j)), (b 7, .inl (1, 5, .inr (.inl t))), (b 1, .inl (1, 111, .inr (.inl r)))] := ⟨_, rfl⟩
  refine rn.mono (J := xSt F V0 [(b 0, .inr (5, mF b i j)), (b 7, .inl (1, 5, .inr (.inl t))), (b 1, .inl (1, 111, .inr (.inl r)))]) (fun V9 h => by rw [h, hV0, hF]; exact hV.st) ?_
  show rn C (xSt F V0 [(b 0, .inr (5, mF b i j)), (b 7, .inl (1, 5, .inr (.inl t))), (b 1, .inl (1, 111, .inr (.inl r)))]) 0 0 0 [(0, .ref (b 0)), (1, .int 0)] []
  refine r_aload_n hC 0 dX6_setting_0 rfl 1 rfl ?_
  refine r_iconst hC 0 dX6_setting_1 ic_0 2 rfl ?_
  refine r_put (J := xSt F V0 [(b 0, .inr (5, mF b (va_up i 0 0) j)), (b 7, .inl (1, 5, .inr (.inl t))), (b 1, .inl (1, 111, .inr (.inl r)))]) hC kX6 0 rfl q2753 rfl (fun _ h => h.get 0 rfl) (Nat.le_of_ble_eq_true rfl) rfl rfl dX6_setting_2 (fun _ h => h.set 0 _ rfl) 5 rfl ?_
  refine r_aload_n hC 0 dX6_setting_5 rfl 6 rfl ?_
  refine r_iload_n hC 1 dX6_setting_6 rfl 7 rfl ?_
  refine r_i2l hC 0 dX6_setting_7 (by decide) 8 rfl ?_
  refine r_lconst hC 0 dX6_setting_8 lc_0 9 rfl ?_
  refine r_ldc2 hC q3005 dX6_setting_9 12 rfl ?_
  refine r_invSr hC [.long 0, .long 0, .long 5] (.int 1) mSX6_in q2891 (metX6_inB _ _ hG 0 0 5 1 (by decide)) (fun _ _ => xIn.nil) ⟨rfl, rfl⟩ 0 0 rfl rfl (Nat.le_of_ble_eq_true rfl) (Nat.le_of_ble_eq_true rfl) rfl (Nat.le_of_ble_eq_true rfl) dX6_setting_12 15 rfl ?_
  refine r_iconst hC 1 dX6_setting_15 ic_1 16 rfl ?_
  refine r_invVr hC kX6 (b 0) [.int 1, .int 1] (.int 0) mVX6_fails q2894 (fun _ h => h.get 0 rfl) (metX6_fails1 _ _ hG b _ _ 1) (fun _ h => h.in.sub [0] rfl rfl) ⟨rfl, rfl⟩ 0 0 rfl rfl (Nat.le_of_ble_eq_true rfl) (Nat.le_of_ble_eq_true rfl) rfl (Nat.le_of_ble_eq_true rfl) dX6_setting_16 19 rfl ?_
  refine r_ifeq hC 24 dX6_setting_19 (by decide) 22 rfl (fun _ => ?_) (fun h => absurd h (by decide))
  refine r_iload_n hC 1 dX6_setting_24 rfl 25 rfl ?_
  refine r_iconst hC 3 dX6_setting_25 ic_3 26 rfl ?_
  refine r_icne hC 38 dX6_setting_26 (by decide) 29 rfl (fun _ => ?_) (fun h => absurd h (by decide))
  refine r_aload_n hC 0 dX6_setting_38 rfl 39 rfl ?_
  refine r_get (v := .ref (b 7)) hC kX6 7 rfl q2760 (fun _ h => h.get 0 rfl) rfl dX6_setting_39 42 rfl ?_
  refine r_iload_n hC 1 dX6_setting_42 rfl 43 rfl ?_
  refine r_iconst hC 3 dX6_setting_43 ic_3 44 rfl ?_
  refine r_icge hC 51 dX6_setting_44 (by decide) 47 rfl (fun h => absurd h (by decide)) (fun _ => ?_)
  refine r_iload_n hC 1 dX6_setting_47 rfl 48 rfl ?_
  refine r_goto hC 54 dX6_setting_48 (by decide) ?_
  refine r_lald hC 0 (xix_n 0 (Nat.le_of_ble_eq_true rfl) (Nat.le_of_ble_eq_true rfl)) (fun _ h => h.get 1 rfl) (t 0) (rfl) dX6_setting_54 55 rfl ?_
  refine r_l2i hC ((t 0).toInt32) dX6_setting_55 (rfl) 56 rfl ?_
  exact r_iret hC (Nat.le_of_ble_eq_true rfl) (Nat.le_of_ble_eq_true rfl) (fun V9 h => hQ _ _ ⟨[(b 0, .inr (5, mF b (va_up i 0 0) j)), (b 7, .inl (1, 5, .inr (.inl t))), (b 1, .inl (1, 111, .inr (.inl r)))], ⟨rfl, by simp only [bx_uu]⟩, by rw [← hV0, ← hF]; exact h⟩) dX6_setting_56
set_option maxHeartbeats 4000000 in
set_option maxRecDepth 100000 in
theorem metX6_settingG1 (l : Launch) (G : xG) (hG : xGood G) (b : Nat → Nat) (i : Nat → Int32) (j : Nat → Int64) (t r : Nat → Int64) : xWm l G yX6_setting (Cond.code yX6_setting cX6_setting 2 (some .int)) { frames := 1, locals := 25, cells := 0, slots := 0 } [.ref (b 0), .int 1] [(b 0, .inr (5, mF b i j)), (b 7, .inl (1, 5, .inr (.inl t))), (b 1, .inl (1, 111, .inr (.inl r)))] (fun v w' => v = some (.int ((t 1).toInt32)) ∧ w' = [(b 0, .inr (5, mF b (va_up i 0 0) j)), (b 7, .inl (1, 5, .inr (.inl t))), (b 1, .inl (1, 111, .inr (.inl r)))]) (fun _ _ => False) := by
  intro V hV
  refine xMet_of RX6 hG rfl (by decide) (Nat.le_of_ble_eq_true rfl) fun C hC hQ hX hl hg _ => ?_
  subst hl hg
  obtain ⟨V0, hV0⟩ : ∃ V0, V0 = V := ⟨_, rfl⟩
  obtain ⟨F, hF⟩ : ∃ F, F = xF [(b 0, .inr (5, mF b i j)), (b 7, .inl (1, 5, .inr (.inl t))), (b 1, .inl (1, 111, .inr (.inl r)))] := ⟨_, rfl⟩
  refine rn.mono (J := xSt F V0 [(b 0, .inr (5, mF b i j)), (b 7, .inl (1, 5, .inr (.inl t))), (b 1, .inl (1, 111, .inr (.inl r)))]) (fun V9 h => by rw [h, hV0, hF]; exact hV.st) ?_
  show rn C (xSt F V0 [(b 0, .inr (5, mF b i j)), (b 7, .inl (1, 5, .inr (.inl t))), (b 1, .inl (1, 111, .inr (.inl r)))]) 0 0 0 [(0, .ref (b 0)), (1, .int 1)] []
  refine r_aload_n hC 0 dX6_setting_0 rfl 1 rfl ?_
  refine r_iconst hC 0 dX6_setting_1 ic_0 2 rfl ?_
  refine r_put (J := xSt F V0 [(b 0, .inr (5, mF b (va_up i 0 0) j)), (b 7, .inl (1, 5, .inr (.inl t))), (b 1, .inl (1, 111, .inr (.inl r)))]) hC kX6 0 rfl q2753 rfl (fun _ h => h.get 0 rfl) (Nat.le_of_ble_eq_true rfl) rfl rfl dX6_setting_2 (fun _ h => h.set 0 _ rfl) 5 rfl ?_
  refine r_aload_n hC 0 dX6_setting_5 rfl 6 rfl ?_
  refine r_iload_n hC 1 dX6_setting_6 rfl 7 rfl ?_
  refine r_i2l hC 1 dX6_setting_7 (by decide) 8 rfl ?_
  refine r_lconst hC 0 dX6_setting_8 lc_0 9 rfl ?_
  refine r_ldc2 hC q3005 dX6_setting_9 12 rfl ?_
  refine r_invSr hC [.long 1, .long 0, .long 5] (.int 1) mSX6_in q2891 (metX6_inB _ _ hG 1 0 5 1 (by decide)) (fun _ _ => xIn.nil) ⟨rfl, rfl⟩ 0 0 rfl rfl (Nat.le_of_ble_eq_true rfl) (Nat.le_of_ble_eq_true rfl) rfl (Nat.le_of_ble_eq_true rfl) dX6_setting_12 15 rfl ?_
  refine r_iconst hC 1 dX6_setting_15 ic_1 16 rfl ?_
  refine r_invVr hC kX6 (b 0) [.int 1, .int 1] (.int 0) mVX6_fails q2894 (fun _ h => h.get 0 rfl) (metX6_fails1 _ _ hG b _ _ 1) (fun _ h => h.in.sub [0] rfl rfl) ⟨rfl, rfl⟩ 0 0 rfl rfl (Nat.le_of_ble_eq_true rfl) (Nat.le_of_ble_eq_true rfl) rfl (Nat.le_of_ble_eq_true rfl) dX6_setting_16 19 rfl ?_
  refine r_ifeq hC 24 dX6_setting_19 (by decide) 22 rfl (fun _ => ?_) (fun h => absurd h (by decide))
  refine r_iload_n hC 1 dX6_setting_24 rfl 25 rfl ?_
  refine r_iconst hC 3 dX6_setting_25 ic_3 26 rfl ?_
  refine r_icne hC 38 dX6_setting_26 (by decide) 29 rfl (fun _ => ?_) (fun h => absurd h (by decide))
  refine r_aload_n hC 0 dX6_setting_38 rfl 39 rfl ?_
  refine r_get (v := .ref (b 7)) hC kX6 7 rfl q2760 (fun _ h => h.get 0 rfl) rfl dX6_setting_39 42 rfl ?_
  refine r_iload_n hC 1 dX6_setting_42 rfl 43 rfl ?_
  refine r_iconst hC 3 dX6_setting_43 ic_3 44 rfl ?_
  refine r_icge hC 51 dX6_setting_44 (by decide) 47 rfl (fun h => absurd h (by decide)) (fun _ => ?_)
  refine r_iload_n hC 1 dX6_setting_47 rfl 48 rfl ?_
  refine r_goto hC 54 dX6_setting_48 (by decide) ?_
  refine r_lald hC 1 (xix_n 1 (Nat.le_of_ble_eq_true rfl) (Nat.le_of_ble_eq_true rfl)) (fun _ h => h.get 1 rfl) (t 1) (rfl) dX6_setting_54 55 rfl ?_
  refine r_l2i hC ((t 1).toInt32) dX6_setting_55 (rfl) 56 rfl ?_
  exact r_iret hC (Nat.le_of_ble_eq_true rfl) (Nat.le_of_ble_eq_true rfl) (fun V9 h => hQ _ _ ⟨[(b 0, .inr (5, mF b (va_up i 0 0) j)), (b 7, .inl (1, 5, .inr (.inl t))), (b 1, .inl (1, 111, .inr (.inl r)))], ⟨rfl, by simp only [bx_uu]⟩, by rw [← hV0, ← hF]; exact h⟩) dX6_setting_56
set_option maxHeartbeats 4000000 in
set_option maxRecDepth 100000 in
theorem metX6_settingG2 (l : Launch) (G : xG) (hG : xGood G) (b : Nat → Nat) (i : Nat → Int32) (j : Nat → Int64) (t r : Nat → Int64) : xWm l G yX6_setting (Cond.code yX6_setting cX6_setting 2 (some .int)) { frames := 1, locals := 25, cells := 0, slots := 0 } [.ref (b 0), .int 2] [(b 0, .inr (5, mF b i j)), (b 7, .inl (1, 5, .inr (.inl t))), (b 1, .inl (1, 111, .inr (.inl r)))] (fun v w' => v = some (.int ((t 2).toInt32)) ∧ w' = [(b 0, .inr (5, mF b (va_up i 0 0) j)), (b 7, .inl (1, 5, .inr (.inl t))), (b 1, .inl (1, 111, .inr (.inl r)))]) (fun _ _ => False) := by
  intro V hV
  refine xMet_of RX6 hG rfl (by decide) (Nat.le_of_ble_eq_true rfl) fun C hC hQ hX hl hg _ => ?_
  subst hl hg
  obtain ⟨V0, hV0⟩ : ∃ V0, V0 = V := ⟨_, rfl⟩
  obtain ⟨F, hF⟩ : ∃ F, F = xF [(b 0, .inr (5, mF b i j)), (b 7, .inl (1, 5, .inr (.inl t))), (b 1, .inl (1, 111, .inr (.inl r)))] := ⟨_, rfl⟩
  refine rn.mono (J := xSt F V0 [(b 0, .inr (5, mF b i j)), (b 7, .inl (1, 5, .inr (.inl t))), (b 1, .inl (1, 111, .inr (.inl r)))]) (fun V9 h => by rw [h, hV0, hF]; exact hV.st) ?_
  show rn C (xSt F V0 [(b 0, .inr (5, mF b i j)), (b 7, .inl (1, 5, .inr (.inl t))), (b 1, .inl (1, 111, .inr (.inl r)))]) 0 0 0 [(0, .ref (b 0)), (1, .int 2)] []
  refine r_aload_n hC 0 dX6_setting_0 rfl 1 rfl ?_
  refine r_iconst hC 0 dX6_setting_1 ic_0 2 rfl ?_
  refine r_put (J := xSt F V0 [(b 0, .inr (5, mF b (va_up i 0 0) j)), (b 7, .inl (1, 5, .inr (.inl t))), (b 1, .inl (1, 111, .inr (.inl r)))]) hC kX6 0 rfl q2753 rfl (fun _ h => h.get 0 rfl) (Nat.le_of_ble_eq_true rfl) rfl rfl dX6_setting_2 (fun _ h => h.set 0 _ rfl) 5 rfl ?_
  refine r_aload_n hC 0 dX6_setting_5 rfl 6 rfl ?_
  refine r_iload_n hC 1 dX6_setting_6 rfl 7 rfl ?_
  refine r_i2l hC 2 dX6_setting_7 (by decide) 8 rfl ?_
  refine r_lconst hC 0 dX6_setting_8 lc_0 9 rfl ?_
  refine r_ldc2 hC q3005 dX6_setting_9 12 rfl ?_
  refine r_invSr hC [.long 2, .long 0, .long 5] (.int 1) mSX6_in q2891 (metX6_inB _ _ hG 2 0 5 1 (by decide)) (fun _ _ => xIn.nil) ⟨rfl, rfl⟩ 0 0 rfl rfl (Nat.le_of_ble_eq_true rfl) (Nat.le_of_ble_eq_true rfl) rfl (Nat.le_of_ble_eq_true rfl) dX6_setting_12 15 rfl ?_
  refine r_iconst hC 1 dX6_setting_15 ic_1 16 rfl ?_
  refine r_invVr hC kX6 (b 0) [.int 1, .int 1] (.int 0) mVX6_fails q2894 (fun _ h => h.get 0 rfl) (metX6_fails1 _ _ hG b _ _ 1) (fun _ h => h.in.sub [0] rfl rfl) ⟨rfl, rfl⟩ 0 0 rfl rfl (Nat.le_of_ble_eq_true rfl) (Nat.le_of_ble_eq_true rfl) rfl (Nat.le_of_ble_eq_true rfl) dX6_setting_16 19 rfl ?_
  refine r_ifeq hC 24 dX6_setting_19 (by decide) 22 rfl (fun _ => ?_) (fun h => absurd h (by decide))
  refine r_iload_n hC 1 dX6_setting_24 rfl 25 rfl ?_
  refine r_iconst hC 3 dX6_setting_25 ic_3 26 rfl ?_
  refine r_icne hC 38 dX6_setting_26 (by decide) 29 rfl (fun _ => ?_) (fun h => absurd h (by decide))
  refine r_aload_n hC 0 dX6_setting_38 rfl 39 rfl ?_
  refine r_get (v := .ref (b 7)) hC kX6 7 rfl q2760 (fun _ h => h.get 0 rfl) rfl dX6_setting_39 42 rfl ?_
  refine r_iload_n hC 1 dX6_setting_42 rfl 43 rfl ?_
  refine r_iconst hC 3 dX6_setting_43 ic_3 44 rfl ?_
  refine r_icge hC 51 dX6_setting_44 (by decide) 47 rfl (fun h => absurd h (by decide)) (fun _ => ?_)
  refine r_iload_n hC 1 dX6_setting_47 rfl 48 rfl ?_
  refine r_goto hC 54 dX6_setting_48 (by decide) ?_
  refine r_lald hC 2 (xix_n 2 (Nat.le_of_ble_eq_true rfl) (Nat.le_of_ble_eq_true rfl)) (fun _ h => h.get 1 rfl) (t 2) (rfl) dX6_setting_54 55 rfl ?_
  refine r_l2i hC ((t 2).toInt32) dX6_setting_55 (rfl) 56 rfl ?_
  exact r_iret hC (Nat.le_of_ble_eq_true rfl) (Nat.le_of_ble_eq_true rfl) (fun V9 h => hQ _ _ ⟨[(b 0, .inr (5, mF b (va_up i 0 0) j)), (b 7, .inl (1, 5, .inr (.inl t))), (b 1, .inl (1, 111, .inr (.inl r)))], ⟨rfl, by simp only [bx_uu]⟩, by rw [← hV0, ← hF]; exact h⟩) dX6_setting_56
set_option maxHeartbeats 4000000 in
set_option maxRecDepth 100000 in
theorem metX6_settingG3 (l : Launch) (G : xG) (hG : xGood G) (b : Nat → Nat) (i : Nat → Int32) (j : Nat → Int64) (t r : Nat → Int64) : xWm l G yX6_setting (Cond.code yX6_setting cX6_setting 2 (some .int)) { frames := 1, locals := 25, cells := 0, slots := 0 } [.ref (b 0), .int 3] [(b 0, .inr (5, mF b i j)), (b 7, .inl (1, 5, .inr (.inl t))), (b 1, .inl (1, 111, .inr (.inl r)))] (fun v w' => v = some (.int ((r 1).toInt32)) ∧ w' = [(b 0, .inr (5, mF b (va_up i 0 0) j)), (b 7, .inl (1, 5, .inr (.inl t))), (b 1, .inl (1, 111, .inr (.inl r)))]) (fun _ _ => False) := by
  intro V hV
  refine xMet_of RX6 hG rfl (by decide) (Nat.le_of_ble_eq_true rfl) fun C hC hQ hX hl hg _ => ?_
  subst hl hg
  obtain ⟨V0, hV0⟩ : ∃ V0, V0 = V := ⟨_, rfl⟩
  obtain ⟨F, hF⟩ : ∃ F, F = xF [(b 0, .inr (5, mF b i j)), (b 7, .inl (1, 5, .inr (.inl t))), (b 1, .inl (1, 111, .inr (.inl r)))] := ⟨_, rfl⟩
  refine rn.mono (J := xSt F V0 [(b 0, .inr (5, mF b i j)), (b 7, .inl (1, 5, .inr (.inl t))), (b 1, .inl (1, 111, .inr (.inl r)))]) (fun V9 h => by rw [h, hV0, hF]; exact hV.st) ?_
  show rn C (xSt F V0 [(b 0, .inr (5, mF b i j)), (b 7, .inl (1, 5, .inr (.inl t))), (b 1, .inl (1, 111, .inr (.inl r)))]) 0 0 0 [(0, .ref (b 0)), (1, .int 3)] []
  refine r_aload_n hC 0 dX6_setting_0 rfl 1 rfl ?_
  refine r_iconst hC 0 dX6_setting_1 ic_0 2 rfl ?_
  refine r_put (J := xSt F V0 [(b 0, .inr (5, mF b (va_up i 0 0) j)), (b 7, .inl (1, 5, .inr (.inl t))), (b 1, .inl (1, 111, .inr (.inl r)))]) hC kX6 0 rfl q2753 rfl (fun _ h => h.get 0 rfl) (Nat.le_of_ble_eq_true rfl) rfl rfl dX6_setting_2 (fun _ h => h.set 0 _ rfl) 5 rfl ?_
  refine r_aload_n hC 0 dX6_setting_5 rfl 6 rfl ?_
  refine r_iload_n hC 1 dX6_setting_6 rfl 7 rfl ?_
  refine r_i2l hC 3 dX6_setting_7 (by decide) 8 rfl ?_
  refine r_lconst hC 0 dX6_setting_8 lc_0 9 rfl ?_
  refine r_ldc2 hC q3005 dX6_setting_9 12 rfl ?_
  refine r_invSr hC [.long 3, .long 0, .long 5] (.int 1) mSX6_in q2891 (metX6_inB _ _ hG 3 0 5 1 (by decide)) (fun _ _ => xIn.nil) ⟨rfl, rfl⟩ 0 0 rfl rfl (Nat.le_of_ble_eq_true rfl) (Nat.le_of_ble_eq_true rfl) rfl (Nat.le_of_ble_eq_true rfl) dX6_setting_12 15 rfl ?_
  refine r_iconst hC 1 dX6_setting_15 ic_1 16 rfl ?_
  refine r_invVr hC kX6 (b 0) [.int 1, .int 1] (.int 0) mVX6_fails q2894 (fun _ h => h.get 0 rfl) (metX6_fails1 _ _ hG b _ _ 1) (fun _ h => h.in.sub [0] rfl rfl) ⟨rfl, rfl⟩ 0 0 rfl rfl (Nat.le_of_ble_eq_true rfl) (Nat.le_of_ble_eq_true rfl) rfl (Nat.le_of_ble_eq_true rfl) dX6_setting_16 19 rfl ?_
  refine r_ifeq hC 24 dX6_setting_19 (by decide) 22 rfl (fun _ => ?_) (fun h => absurd h (by decide))
  refine r_iload_n hC 1 dX6_setting_24 rfl 25 rfl ?_
  refine r_iconst hC 3 dX6_setting_25 ic_3 26 rfl ?_
  refine r_icne hC 38 dX6_setting_26 (by decide) 29 rfl (fun h => absurd h (by decide)) (fun _ => ?_)
  refine r_aload_n hC 0 dX6_setting_29 rfl 30 rfl ?_
  refine r_get (v := .ref (b 1)) hC kX6 1 rfl q2754 (fun _ h => h.get 0 rfl) rfl dX6_setting_30 33 rfl ?_
  refine r_iconst hC 1 dX6_setting_33 ic_1 34 rfl ?_
  refine r_lald hC 1 (xix_n 1 (Nat.le_of_ble_eq_true rfl) (Nat.le_of_ble_eq_true rfl)) (fun _ h => h.get 2 rfl) (r 1) (rfl) dX6_setting_34 35 rfl ?_
  refine r_goto hC 55 dX6_setting_35 (by decide) ?_
  refine r_l2i hC ((r 1).toInt32) dX6_setting_55 (rfl) 56 rfl ?_
  exact r_iret hC (Nat.le_of_ble_eq_true rfl) (Nat.le_of_ble_eq_true rfl) (fun V9 h => hQ _ _ ⟨[(b 0, .inr (5, mF b (va_up i 0 0) j)), (b 7, .inl (1, 5, .inr (.inl t))), (b 1, .inl (1, 111, .inr (.inl r)))], ⟨rfl, by simp only [bx_uu]⟩, by rw [← hV0, ← hF]; exact h⟩) dX6_setting_56
set_option maxHeartbeats 4000000 in
set_option maxRecDepth 100000 in
theorem metX6_settingG4 (l : Launch) (G : xG) (hG : xGood G) (b : Nat → Nat) (i : Nat → Int32) (j : Nat → Int64) (t r : Nat → Int64) : xWm l G yX6_setting (Cond.code yX6_setting cX6_setting 2 (some .int)) { frames := 1, locals := 25, cells := 0, slots := 0 } [.ref (b 0), .int 4] [(b 0, .inr (5, mF b i j)), (b 7, .inl (1, 5, .inr (.inl t))), (b 1, .inl (1, 111, .inr (.inl r)))] (fun v w' => v = some (.int ((t 3).toInt32)) ∧ w' = [(b 0, .inr (5, mF b (va_up i 0 0) j)), (b 7, .inl (1, 5, .inr (.inl t))), (b 1, .inl (1, 111, .inr (.inl r)))]) (fun _ _ => False) := by
  intro V hV
  refine xMet_of RX6 hG rfl (by decide) (Nat.le_of_ble_eq_true rfl) fun C hC hQ hX hl hg _ => ?_
  subst hl hg
  obtain ⟨V0, hV0⟩ : ∃ V0, V0 = V := ⟨_, rfl⟩
  obtain ⟨F, hF⟩ : ∃ F, F = xF [(b 0, .inr (5, mF b i j)), (b 7, .inl (1, 5, .inr (.inl t))), (b 1, .inl (1, 111, .inr (.inl r)))] := ⟨_, rfl⟩
  refine rn.mono (J := xSt F V0 [(b 0, .inr (5, mF b i j)), (b 7, .inl (1, 5, .inr (.inl t))), (b 1, .inl (1, 111, .inr (.inl r)))]) (fun V9 h => by rw [h, hV0, hF]; exact hV.st) ?_
  show rn C (xSt F V0 [(b 0, .inr (5, mF b i j)), (b 7, .inl (1, 5, .inr (.inl t))), (b 1, .inl (1, 111, .inr (.inl r)))]) 0 0 0 [(0, .ref (b 0)), (1, .int 4)] []
  refine r_aload_n hC 0 dX6_setting_0 rfl 1 rfl ?_
  refine r_iconst hC 0 dX6_setting_1 ic_0 2 rfl ?_
  refine r_put (J := xSt F V0 [(b 0, .inr (5, mF b (va_up i 0 0) j)), (b 7, .inl (1, 5, .inr (.inl t))), (b 1, .inl (1, 111, .inr (.inl r)))]) hC kX6 0 rfl q2753 rfl (fun _ h => h.get 0 rfl) (Nat.le_of_ble_eq_true rfl) rfl rfl dX6_setting_2 (fun _ h => h.set 0 _ rfl) 5 rfl ?_
  refine r_aload_n hC 0 dX6_setting_5 rfl 6 rfl ?_
  refine r_iload_n hC 1 dX6_setting_6 rfl 7 rfl ?_
  refine r_i2l hC 4 dX6_setting_7 (by decide) 8 rfl ?_
  refine r_lconst hC 0 dX6_setting_8 lc_0 9 rfl ?_
  refine r_ldc2 hC q3005 dX6_setting_9 12 rfl ?_
  refine r_invSr hC [.long 4, .long 0, .long 5] (.int 1) mSX6_in q2891 (metX6_inB _ _ hG 4 0 5 1 (by decide)) (fun _ _ => xIn.nil) ⟨rfl, rfl⟩ 0 0 rfl rfl (Nat.le_of_ble_eq_true rfl) (Nat.le_of_ble_eq_true rfl) rfl (Nat.le_of_ble_eq_true rfl) dX6_setting_12 15 rfl ?_
  refine r_iconst hC 1 dX6_setting_15 ic_1 16 rfl ?_
  refine r_invVr hC kX6 (b 0) [.int 1, .int 1] (.int 0) mVX6_fails q2894 (fun _ h => h.get 0 rfl) (metX6_fails1 _ _ hG b _ _ 1) (fun _ h => h.in.sub [0] rfl rfl) ⟨rfl, rfl⟩ 0 0 rfl rfl (Nat.le_of_ble_eq_true rfl) (Nat.le_of_ble_eq_true rfl) rfl (Nat.le_of_ble_eq_true rfl) dX6_setting_16 19 rfl ?_
  refine r_ifeq hC 24 dX6_setting_19 (by decide) 22 rfl (fun _ => ?_) (fun h => absurd h (by decide))
  refine r_iload_n hC 1 dX6_setting_24 rfl 25 rfl ?_
  refine r_iconst hC 3 dX6_setting_25 ic_3 26 rfl ?_
  refine r_icne hC 38 dX6_setting_26 (by decide) 29 rfl (fun _ => ?_) (fun h => absurd h (by decide))
  refine r_aload_n hC 0 dX6_setting_38 rfl 39 rfl ?_
  refine r_get (v := .ref (b 7)) hC kX6 7 rfl q2760 (fun _ h => h.get 0 rfl) rfl dX6_setting_39 42 rfl ?_
  refine r_iload_n hC 1 dX6_setting_42 rfl 43 rfl ?_
  refine r_iconst hC 3 dX6_setting_43 ic_3 44 rfl ?_
  refine r_icge hC 51 dX6_setting_44 (by decide) 47 rfl (fun _ => ?_) (fun h => absurd h (by decide))
  refine r_iload_n hC 1 dX6_setting_51 rfl 52 rfl ?_
  refine r_iconst hC 1 dX6_setting_52 ic_1 53 rfl ?_
  refine r_isub hC 3 dX6_setting_53  (by decide) 54 rfl ?_
  refine r_lald hC 3 (xix_n 3 (Nat.le_of_ble_eq_true rfl) (Nat.le_of_ble_eq_true rfl)) (fun _ h => h.get 1 rfl) (t 3) (rfl) dX6_setting_54 55 rfl ?_
  refine r_l2i hC ((t 3).toInt32) dX6_setting_55 (rfl) 56 rfl ?_
  exact r_iret hC (Nat.le_of_ble_eq_true rfl) (Nat.le_of_ble_eq_true rfl) (fun V9 h => hQ _ _ ⟨[(b 0, .inr (5, mF b (va_up i 0 0) j)), (b 7, .inl (1, 5, .inr (.inl t))), (b 1, .inl (1, 111, .inr (.inl r)))], ⟨rfl, by simp only [bx_uu]⟩, by rw [← hV0, ← hF]; exact h⟩) dX6_setting_56
set_option maxHeartbeats 4000000 in
set_option maxRecDepth 100000 in
theorem metX6_settingG5 (l : Launch) (G : xG) (hG : xGood G) (b : Nat → Nat) (i : Nat → Int32) (j : Nat → Int64) (t r : Nat → Int64) : xWm l G yX6_setting (Cond.code yX6_setting cX6_setting 2 (some .int)) { frames := 1, locals := 25, cells := 0, slots := 0 } [.ref (b 0), .int 5] [(b 0, .inr (5, mF b i j)), (b 7, .inl (1, 5, .inr (.inl t))), (b 1, .inl (1, 111, .inr (.inl r)))] (fun v w' => v = some (.int ((t 4).toInt32)) ∧ w' = [(b 0, .inr (5, mF b (va_up i 0 0) j)), (b 7, .inl (1, 5, .inr (.inl t))), (b 1, .inl (1, 111, .inr (.inl r)))]) (fun _ _ => False) := by
  intro V hV
  refine xMet_of RX6 hG rfl (by decide) (Nat.le_of_ble_eq_true rfl) fun C hC hQ hX hl hg _ => ?_
  subst hl hg
  obtain ⟨V0, hV0⟩ : ∃ V0, V0 = V := ⟨_, rfl⟩
  obtain ⟨F, hF⟩ : ∃ F, F = xF [(b 0, .inr (5, mF b i j)), (b 7, .inl (1, 5, .inr (.inl t))), (b 1, .inl (1, 111, .inr (.inl r)))] := ⟨_, rfl⟩
  refine rn.mono (J := xSt F V0 [(b 0, .inr (5, mF b i j)), (b 7, .inl (1, 5, .inr (.inl t))), (b 1, .inl (1, 111, .inr (.inl r)))]) (fun V9 h => by rw [h, hV0, hF]; exact hV.st) ?_
  show rn C (xSt F V0 [(b 0, .inr (5, mF b i j)), (b 7, .inl (1, 5, .inr (.inl t))), (b 1, .inl (1, 111, .inr (.inl r)))]) 0 0 0 [(0, .ref (b 0)), (1, .int 5)] []
  refine r_aload_n hC 0 dX6_setting_0 rfl 1 rfl ?_
  refine r_iconst hC 0 dX6_setting_1 ic_0 2 rfl ?_
  refine r_put (J := xSt F V0 [(b 0, .inr (5, mF b (va_up i 0 0) j)), (b 7, .inl (1, 5, .inr (.inl t))), (b 1, .inl (1, 111, .inr (.inl r)))]) hC kX6 0 rfl q2753 rfl (fun _ h => h.get 0 rfl) (Nat.le_of_ble_eq_true rfl) rfl rfl dX6_setting_2 (fun _ h => h.set 0 _ rfl) 5 rfl ?_
  refine r_aload_n hC 0 dX6_setting_5 rfl 6 rfl ?_
  refine r_iload_n hC 1 dX6_setting_6 rfl 7 rfl ?_
  refine r_i2l hC 5 dX6_setting_7 (by decide) 8 rfl ?_
  refine r_lconst hC 0 dX6_setting_8 lc_0 9 rfl ?_
  refine r_ldc2 hC q3005 dX6_setting_9 12 rfl ?_
  refine r_invSr hC [.long 5, .long 0, .long 5] (.int 1) mSX6_in q2891 (metX6_inB _ _ hG 5 0 5 1 (by decide)) (fun _ _ => xIn.nil) ⟨rfl, rfl⟩ 0 0 rfl rfl (Nat.le_of_ble_eq_true rfl) (Nat.le_of_ble_eq_true rfl) rfl (Nat.le_of_ble_eq_true rfl) dX6_setting_12 15 rfl ?_
  refine r_iconst hC 1 dX6_setting_15 ic_1 16 rfl ?_
  refine r_invVr hC kX6 (b 0) [.int 1, .int 1] (.int 0) mVX6_fails q2894 (fun _ h => h.get 0 rfl) (metX6_fails1 _ _ hG b _ _ 1) (fun _ h => h.in.sub [0] rfl rfl) ⟨rfl, rfl⟩ 0 0 rfl rfl (Nat.le_of_ble_eq_true rfl) (Nat.le_of_ble_eq_true rfl) rfl (Nat.le_of_ble_eq_true rfl) dX6_setting_16 19 rfl ?_
  refine r_ifeq hC 24 dX6_setting_19 (by decide) 22 rfl (fun _ => ?_) (fun h => absurd h (by decide))
  refine r_iload_n hC 1 dX6_setting_24 rfl 25 rfl ?_
  refine r_iconst hC 3 dX6_setting_25 ic_3 26 rfl ?_
  refine r_icne hC 38 dX6_setting_26 (by decide) 29 rfl (fun _ => ?_) (fun h => absurd h (by decide))
  refine r_aload_n hC 0 dX6_setting_38 rfl 39 rfl ?_
  refine r_get (v := .ref (b 7)) hC kX6 7 rfl q2760 (fun _ h => h.get 0 rfl) rfl dX6_setting_39 42 rfl ?_
  refine r_iload_n hC 1 dX6_setting_42 rfl 43 rfl ?_
  refine r_iconst hC 3 dX6_setting_43 ic_3 44 rfl ?_
  refine r_icge hC 51 dX6_setting_44 (by decide) 47 rfl (fun _ => ?_) (fun h => absurd h (by decide))
  refine r_iload_n hC 1 dX6_setting_51 rfl 52 rfl ?_
  refine r_iconst hC 1 dX6_setting_52 ic_1 53 rfl ?_
  refine r_isub hC 4 dX6_setting_53  (by decide) 54 rfl ?_
  refine r_lald hC 4 (xix_n 4 (Nat.le_of_ble_eq_true rfl) (Nat.le_of_ble_eq_true rfl)) (fun _ h => h.get 1 rfl) (t 4) (rfl) dX6_setting_54 55 rfl ?_
  refine r_l2i hC ((t 4).toInt32) dX6_setting_55 (rfl) 56 rfl ?_
  exact r_iret hC (Nat.le_of_ble_eq_true rfl) (Nat.le_of_ble_eq_true rfl) (fun V9 h => hQ _ _ ⟨[(b 0, .inr (5, mF b (va_up i 0 0) j)), (b 7, .inl (1, 5, .inr (.inl t))), (b 1, .inl (1, 111, .inr (.inl r)))], ⟨rfl, by simp only [bx_uu]⟩, by rw [← hV0, ← hF]; exact h⟩) dX6_setting_56
set_option maxHeartbeats 4000000 in
set_option maxRecDepth 100000 in
theorem metX6_settingB (l : Launch) (G : xG) (hG : xGood G) (b : Nat → Nat) (i : Nat → Int32) (j : Nat → Int64) (t r : Nat → Int64) (y : Int32) (hy : bI (m_in y.toInt64 0 5) = 0) : xWm l G yX6_setting (Cond.code yX6_setting cX6_setting 2 (some .int)) { frames := 1, locals := 25, cells := 0, slots := 0 } [.ref (b 0), .int y] [(b 0, .inr (5, mF b i j)), (b 7, .inl (1, 5, .inr (.inl t))), (b 1, .inl (1, 111, .inr (.inl r)))] (fun v w' => v = some (.int 0) ∧ w' = [(b 0, .inr (5, mF b (va_up i 0 1) j)), (b 7, .inl (1, 5, .inr (.inl t))), (b 1, .inl (1, 111, .inr (.inl r)))]) (fun _ _ => False) := by
  intro V hV
  refine xMet_of RX6 hG rfl (by decide) (Nat.le_of_ble_eq_true rfl) fun C hC hQ hX hl hg _ => ?_
  subst hl hg
  obtain ⟨V0, hV0⟩ : ∃ V0, V0 = V := ⟨_, rfl⟩
  obtain ⟨F, hF⟩ : ∃ F, F = xF [(b 0, .inr (5, mF b i j)), (b 7, .inl (1, 5, .inr (.inl t))), (b 1, .inl (1, 111, .inr (.inl r)))] := ⟨_, rfl⟩
  refine rn.mono (J := xSt F V0 [(b 0, .inr (5, mF b i j)), (b 7, .inl (1, 5, .inr (.inl t))), (b 1, .inl (1, 111, .inr (.inl r)))]) (fun V9 h => by rw [h, hV0, hF]; exact hV.st) ?_
  show rn C (xSt F V0 [(b 0, .inr (5, mF b i j)), (b 7, .inl (1, 5, .inr (.inl t))), (b 1, .inl (1, 111, .inr (.inl r)))]) 0 0 0 [(0, .ref (b 0)), (1, .int y)] []
  refine r_aload_n hC 0 dX6_setting_0 rfl 1 rfl ?_
  refine r_iconst hC 0 dX6_setting_1 ic_0 2 rfl ?_
  refine r_put (J := xSt F V0 [(b 0, .inr (5, mF b (va_up i 0 0) j)), (b 7, .inl (1, 5, .inr (.inl t))), (b 1, .inl (1, 111, .inr (.inl r)))]) hC kX6 0 rfl q2753 rfl (fun _ h => h.get 0 rfl) (Nat.le_of_ble_eq_true rfl) rfl rfl dX6_setting_2 (fun _ h => h.set 0 _ rfl) 5 rfl ?_
  refine r_aload_n hC 0 dX6_setting_5 rfl 6 rfl ?_
  refine r_iload_n hC 1 dX6_setting_6 rfl 7 rfl ?_
  refine r_i2l hC y.toInt64 dX6_setting_7 (rfl) 8 rfl ?_
  refine r_lconst hC 0 dX6_setting_8 lc_0 9 rfl ?_
  refine r_ldc2 hC q3005 dX6_setting_9 12 rfl ?_
  refine r_invSr hC [.long y.toInt64, .long 0, .long 5] (.int 0) mSX6_in q2891 (metX6_inB _ _ hG y.toInt64 0 5 0 (hy)) (fun _ _ => xIn.nil) ⟨rfl, rfl⟩ 0 0 rfl rfl (Nat.le_of_ble_eq_true rfl) (Nat.le_of_ble_eq_true rfl) rfl (Nat.le_of_ble_eq_true rfl) dX6_setting_12 15 rfl ?_
  refine r_iconst hC 1 dX6_setting_15 ic_1 16 rfl ?_
  refine r_invVw hC kX6 (b 0) [.int 0, .int 1] [(b 7, .inl (1, 5, .inr (.inl t))), (b 1, .inl (1, 111, .inr (.inl r)))] mVX6_fails q2894 0 rfl (metX6_fails0 _ _ hG b _ _ 1) [0] [1, 2] rfl rfl rfl rfl (by decide) ⟨rfl, rfl⟩ 0 0 rfl rfl (Nat.le_of_ble_eq_true rfl) (Nat.le_of_ble_eq_true rfl) rfl (Nat.le_of_ble_eq_true rfl) dX6_setting_16 19 rfl (fun v1 w2 h3 => ?_) (fun _ _ h => h.elim)
  obtain ⟨rfl, rfl⟩ := h3
  show rn C (xSt F V0 [(b 7, .inl (1, 5, .inr (.inl t))), (b 1, .inl (1, 111, .inr (.inl r))), (b 0, .inr (5, mF b (va_up (va_up i 0 0) 0 1) j))]) 0 0 19 [(0, .ref (b 0)), (1, .int y)] [.int 1]
  refine r_ifeq hC 24 dX6_setting_19 (by decide) 22 rfl (fun h => absurd h (by decide)) (fun _ => ?_)
  refine r_iconst hC 0 dX6_setting_22 ic_0 23 rfl ?_
  exact r_iret hC (Nat.le_of_ble_eq_true rfl) (Nat.le_of_ble_eq_true rfl) (fun V9 h => hQ _ _ ⟨[(b 0, .inr (5, mF b (va_up (va_up i 0 0) 0 1) j)), (b 7, .inl (1, 5, .inr (.inl t))), (b 1, .inl (1, 111, .inr (.inl r)))], ⟨rfl, by simp only [bx_uu]⟩, by rw [← hV0, ← hF]; exact (h.sub [2, 0, 1] rfl rfl)⟩) dX6_setting_23
set_option maxHeartbeats 4000000 in
set_option maxRecDepth 100000 in
theorem metX6_approachG (l : Launch) (G : xG) (hG : xGood G) (b : Nat → Nat) (i : Nat → Int32) (j : Nat → Int64) (r : Nat → Int64) (p q : Nat) (hq : q < 3) (hp : p < 30) (hm : bI (m_in (nI p).toInt64 0 (r 5 - 1)) = 1) : xWm l G yX6_approach (Cond.code yX6_approach cX6_approach 3 (some .int)) { frames := 1, locals := 25, cells := 0, slots := 0 } [.ref (b 0), .int (nI p), .int (nI q)] [(b 0, .inr (5, mF b i j)), (b 1, .inl (1, 111, .inr (.inl r)))] (fun v w' => v = some (.int ((r (21 + 3 * p + q)).toInt32)) ∧ w' = [(b 0, .inr (5, mF b (va_up i 0 0) j)), (b 1, .inl (1, 111, .inr (.inl r)))]) (fun _ _ => False) := by
  intro V hV
  refine xMet_of RX6 hG rfl (by decide) (Nat.le_of_ble_eq_true rfl) fun C hC hQ hX hl hg _ => ?_
  subst hl hg
  obtain ⟨V0, hV0⟩ : ∃ V0, V0 = V := ⟨_, rfl⟩
  obtain ⟨F, hF⟩ : ∃ F, F = xF [(b 0, .inr (5, mF b i j)), (b 1, .inl (1, 111, .inr (.inl r)))] := ⟨_, rfl⟩
  refine rn.mono (J := xSt F V0 [(b 0, .inr (5, mF b i j)), (b 1, .inl (1, 111, .inr (.inl r)))]) (fun V9 h => by rw [h, hV0, hF]; exact hV.st) ?_
  show rn C (xSt F V0 [(b 0, .inr (5, mF b i j)), (b 1, .inl (1, 111, .inr (.inl r)))]) 0 0 0 [(0, .ref (b 0)), (1, .int (nI p)), (2, .int (nI q))] []
  refine r_aload_n hC 0 dX6_approach_0 rfl 1 rfl ?_
  refine r_iconst hC 0 dX6_approach_1 ic_0 2 rfl ?_
  refine r_put (J := xSt F V0 [(b 0, .inr (5, mF b (va_up i 0 0) j)), (b 1, .inl (1, 111, .inr (.inl r)))]) hC kX6 0 rfl q2753 rfl (fun _ h => h.get 0 rfl) (Nat.le_of_ble_eq_true rfl) rfl rfl dX6_approach_2 (fun _ h => h.set 0 _ rfl) 5 rfl ?_
  refine r_aload_n hC 0 dX6_approach_5 rfl 6 rfl ?_
  refine r_iload_n hC 1 dX6_approach_6 rfl 7 rfl ?_
  refine r_i2l hC ((nI p).toInt64) dX6_approach_7 (rfl) 8 rfl ?_
  refine r_lconst hC 0 dX6_approach_8 lc_0 9 rfl ?_
  refine r_aload_n hC 0 dX6_approach_9 rfl 10 rfl ?_
  refine r_get (v := .ref (b 1)) hC kX6 1 rfl q2754 (fun _ h => h.get 0 rfl) rfl dX6_approach_10 13 rfl ?_
  refine r_iconst hC 5 dX6_approach_13 ic_5 14 rfl ?_
  refine r_lald hC 5 (xix_n 5 (Nat.le_of_ble_eq_true rfl) (Nat.le_of_ble_eq_true rfl)) (fun _ h => h.get 1 rfl) (r 5) (rfl) dX6_approach_14 15 rfl ?_
  refine r_lconst hC 1 dX6_approach_15 lc_1 16 rfl ?_
  refine r_lsub hC ((r 5) - 1) dX6_approach_16  (rfl) 17 rfl ?_
  refine r_invSr hC [.long ((nI p).toInt64), .long 0, .long ((r 5) - 1)] (.int 1) mSX6_in q2891 (metX6_inB _ _ hG ((nI p).toInt64) 0 ((r 5) - 1) 1 (hm)) (fun _ _ => xIn.nil) ⟨rfl, rfl⟩ 0 0 rfl rfl (Nat.le_of_ble_eq_true rfl) (Nat.le_of_ble_eq_true rfl) rfl (Nat.le_of_ble_eq_true rfl) dX6_approach_17 20 rfl ?_
  refine r_ifeq hC 39 dX6_approach_20 (by decide) 23 rfl (fun h => absurd h (by decide)) (fun _ => ?_)
  refine r_iload_n hC 2 dX6_approach_23 rfl 24 rfl ?_
  refine r_i2l hC ((nI q).toInt64) dX6_approach_24 (rfl) 25 rfl ?_
  refine r_lconst hC 0 dX6_approach_25 lc_0 26 rfl ?_
  refine r_ldc2 hC q2728 dX6_approach_26 29 rfl ?_
  refine r_invSr hC [.long ((nI q).toInt64), .long 0, .long 2] (.int 1) mSX6_in q2891 (metX6_inB _ _ hG ((nI q).toInt64) 0 2 1 (in_n (N := 2) (by omega) rfl (by decide))) (fun _ _ => xIn.nil) ⟨rfl, rfl⟩ 0 0 rfl rfl (Nat.le_of_ble_eq_true rfl) (Nat.le_of_ble_eq_true rfl) rfl (Nat.le_of_ble_eq_true rfl) dX6_approach_29 32 rfl ?_
  refine r_ifeq hC 39 dX6_approach_32 (by decide) 35 rfl (fun h => absurd h (by decide)) (fun _ => ?_)
  refine r_iconst hC 1 dX6_approach_35 ic_1 36 rfl ?_
  refine r_goto hC 40 dX6_approach_36 (by decide) ?_
  refine r_iconst hC 1 dX6_approach_40 ic_1 41 rfl ?_
  refine r_invVr hC kX6 (b 0) [.int 1, .int 1] (.int 0) mVX6_fails q2894 (fun _ h => h.get 0 rfl) (metX6_fails1 _ _ hG b _ _ 1) (fun _ h => h.in.sub [0] rfl rfl) ⟨rfl, rfl⟩ 0 0 rfl rfl (Nat.le_of_ble_eq_true rfl) (Nat.le_of_ble_eq_true rfl) rfl (Nat.le_of_ble_eq_true rfl) dX6_approach_41 44 rfl ?_
  refine r_ifeq hC 49 dX6_approach_44 (by decide) 47 rfl (fun _ => ?_) (fun h => absurd h (by decide))
  refine r_aload_n hC 0 dX6_approach_49 rfl 50 rfl ?_
  refine r_get (v := .ref (b 1)) hC kX6 1 rfl q2754 (fun _ h => h.get 0 rfl) rfl dX6_approach_50 53 rfl ?_
  refine r_bipush hC 21 dX6_approach_53 bp_21 55 rfl ?_
  refine r_iconst hC 3 dX6_approach_55 ic_3 56 rfl ?_
  refine r_iload_n hC 1 dX6_approach_56 rfl 57 rfl ?_
  refine r_imul hC (nI (3 * p)) dX6_approach_57  (pk_mul 3 p) 58 rfl ?_
  refine r_iadd hC (nI (21 + 3 * p)) dX6_approach_58  (nI_add 21 (3 * p)) 59 rfl ?_
  refine r_iload_n hC 2 dX6_approach_59 rfl 60 rfl ?_
  refine r_iadd hC (nI (21 + 3 * p + q)) dX6_approach_60  (nI_add (21 + 3 * p) q) 61 rfl ?_
  refine r_lald hC (21 + 3 * p + q) (xix_n (21 + 3 * p + q) (by omega) (Nat.le_of_ble_eq_true rfl)) (fun _ h => h.get 1 rfl) (r (21 + 3 * p + q)) (rfl) dX6_approach_61 62 rfl ?_
  refine r_l2i hC ((r (21 + 3 * p + q)).toInt32) dX6_approach_62 (rfl) 63 rfl ?_
  exact r_iret hC (Nat.le_of_ble_eq_true rfl) (Nat.le_of_ble_eq_true rfl) (fun V9 h => hQ _ _ ⟨[(b 0, .inr (5, mF b (va_up i 0 0) j)), (b 1, .inl (1, 111, .inr (.inl r)))], ⟨rfl, by simp only [bx_uu]⟩, by rw [← hV0, ← hF]; exact h⟩) dX6_approach_63
set_option maxHeartbeats 4000000 in
set_option maxRecDepth 100000 in
theorem metX6_approachB1 (l : Launch) (G : xG) (hG : xGood G) (b : Nat → Nat) (i : Nat → Int32) (j : Nat → Int64) (r : Nat → Int64) (x y : Int32) (hx : bI (m_in x.toInt64 0 (r 5 - 1)) = 0) : xWm l G yX6_approach (Cond.code yX6_approach cX6_approach 3 (some .int)) { frames := 1, locals := 25, cells := 0, slots := 0 } [.ref (b 0), .int x, .int y] [(b 0, .inr (5, mF b i j)), (b 1, .inl (1, 111, .inr (.inl r)))] (fun v w' => v = some (.int 0) ∧ w' = [(b 0, .inr (5, mF b (va_up i 0 1) j)), (b 1, .inl (1, 111, .inr (.inl r)))]) (fun _ _ => False) := by
  intro V hV
  refine xMet_of RX6 hG rfl (by decide) (Nat.le_of_ble_eq_true rfl) fun C hC hQ hX hl hg _ => ?_
  subst hl hg
  obtain ⟨V0, hV0⟩ : ∃ V0, V0 = V := ⟨_, rfl⟩
  obtain ⟨F, hF⟩ : ∃ F, F = xF [(b 0, .inr (5, mF b i j)), (b 1, .inl (1, 111, .inr (.inl r)))] := ⟨_, rfl⟩
  refine rn.mono (J := xSt F V0 [(b 0, .inr (5, mF b i j)), (b 1, .inl (1, 111, .inr (.inl r)))]) (fun V9 h => by rw [h, hV0, hF]; exact hV.st) ?_
  show rn C (xSt F V0 [(b 0, .inr (5, mF b i j)), (b 1, .inl (1, 111, .inr (.inl r)))]) 0 0 0 [(0, .ref (b 0)), (1, .int x), (2, .int y)] []
  refine r_aload_n hC 0 dX6_approach_0 rfl 1 rfl ?_
  refine r_iconst hC 0 dX6_approach_1 ic_0 2 rfl ?_
  refine r_put (J := xSt F V0 [(b 0, .inr (5, mF b (va_up i 0 0) j)), (b 1, .inl (1, 111, .inr (.inl r)))]) hC kX6 0 rfl q2753 rfl (fun _ h => h.get 0 rfl) (Nat.le_of_ble_eq_true rfl) rfl rfl dX6_approach_2 (fun _ h => h.set 0 _ rfl) 5 rfl ?_
  refine r_aload_n hC 0 dX6_approach_5 rfl 6 rfl ?_
  refine r_iload_n hC 1 dX6_approach_6 rfl 7 rfl ?_
  refine r_i2l hC x.toInt64 dX6_approach_7 (rfl) 8 rfl ?_
  refine r_lconst hC 0 dX6_approach_8 lc_0 9 rfl ?_
  refine r_aload_n hC 0 dX6_approach_9 rfl 10 rfl ?_
  refine r_get (v := .ref (b 1)) hC kX6 1 rfl q2754 (fun _ h => h.get 0 rfl) rfl dX6_approach_10 13 rfl ?_
  refine r_iconst hC 5 dX6_approach_13 ic_5 14 rfl ?_
  refine r_lald hC 5 (xix_n 5 (Nat.le_of_ble_eq_true rfl) (Nat.le_of_ble_eq_true rfl)) (fun _ h => h.get 1 rfl) (r 5) (rfl) dX6_approach_14 15 rfl ?_
  refine r_lconst hC 1 dX6_approach_15 lc_1 16 rfl ?_
  refine r_lsub hC ((r 5) - 1) dX6_approach_16  (rfl) 17 rfl ?_
  refine r_invSr hC [.long x.toInt64, .long 0, .long ((r 5) - 1)] (.int 0) mSX6_in q2891 (metX6_inB _ _ hG x.toInt64 0 ((r 5) - 1) 0 (hx)) (fun _ _ => xIn.nil) ⟨rfl, rfl⟩ 0 0 rfl rfl (Nat.le_of_ble_eq_true rfl) (Nat.le_of_ble_eq_true rfl) rfl (Nat.le_of_ble_eq_true rfl) dX6_approach_17 20 rfl ?_
  refine r_ifeq hC 39 dX6_approach_20 (by decide) 23 rfl (fun _ => ?_) (fun h => absurd h (by decide))
  refine r_iconst hC 0 dX6_approach_39 ic_0 40 rfl ?_
  refine r_iconst hC 1 dX6_approach_40 ic_1 41 rfl ?_
  refine r_invVw hC kX6 (b 0) [.int 0, .int 1] [(b 1, .inl (1, 111, .inr (.inl r)))] mVX6_fails q2894 0 rfl (metX6_fails0 _ _ hG b _ _ 1) [0] [1] rfl rfl rfl rfl (by decide) ⟨rfl, rfl⟩ 0 0 rfl rfl (Nat.le_of_ble_eq_true rfl) (Nat.le_of_ble_eq_true rfl) rfl (Nat.le_of_ble_eq_true rfl) dX6_approach_41 44 rfl (fun v1 w2 h3 => ?_) (fun _ _ h => h.elim)
  obtain ⟨rfl, rfl⟩ := h3
  show rn C (xSt F V0 [(b 1, .inl (1, 111, .inr (.inl r))), (b 0, .inr (5, mF b (va_up (va_up i 0 0) 0 1) j))]) 0 0 44 [(0, .ref (b 0)), (1, .int x), (2, .int y)] [.int 1]
  refine r_ifeq hC 49 dX6_approach_44 (by decide) 47 rfl (fun h => absurd h (by decide)) (fun _ => ?_)
  refine r_iconst hC 0 dX6_approach_47 ic_0 48 rfl ?_
  exact r_iret hC (Nat.le_of_ble_eq_true rfl) (Nat.le_of_ble_eq_true rfl) (fun V9 h => hQ _ _ ⟨[(b 0, .inr (5, mF b (va_up (va_up i 0 0) 0 1) j)), (b 1, .inl (1, 111, .inr (.inl r)))], ⟨rfl, by simp only [bx_uu]⟩, by rw [← hV0, ← hF]; exact (h.sub [1, 0] rfl rfl)⟩) dX6_approach_48
set_option maxHeartbeats 4000000 in
set_option maxRecDepth 100000 in
theorem metX6_approachB2 (l : Launch) (G : xG) (hG : xGood G) (b : Nat → Nat) (i : Nat → Int32) (j : Nat → Int64) (r : Nat → Int64) (x y : Int32) (hx : bI (m_in x.toInt64 0 (r 5 - 1)) = 1) (hy : bI (m_in y.toInt64 0 2) = 0) : xWm l G yX6_approach (Cond.code yX6_approach cX6_approach 3 (some .int)) { frames := 1, locals := 25, cells := 0, slots := 0 } [.ref (b 0), .int x, .int y] [(b 0, .inr (5, mF b i j)), (b 1, .inl (1, 111, .inr (.inl r)))] (fun v w' => v = some (.int 0) ∧ w' = [(b 0, .inr (5, mF b (va_up i 0 1) j)), (b 1, .inl (1, 111, .inr (.inl r)))]) (fun _ _ => False) := by
  intro V hV
  refine xMet_of RX6 hG rfl (by decide) (Nat.le_of_ble_eq_true rfl) fun C hC hQ hX hl hg _ => ?_
  subst hl hg
  obtain ⟨V0, hV0⟩ : ∃ V0, V0 = V := ⟨_, rfl⟩
  obtain ⟨F, hF⟩ : ∃ F, F = xF [(b 0, .inr (5, mF b i j)), (b 1, .inl (1, 111, .inr (.inl r)))] := ⟨_, rfl⟩
  refine rn.mono (J := xSt F V0 [(b 0, .inr (5, mF b i j)), (b 1, .inl (1, 111, .inr (.inl r)))]) (fun V9 h => by rw [h, hV0, hF]; exact hV.st) ?_
  show rn C (xSt F V0 [(b 0, .inr (5, mF b i j)), (b 1, .inl (1, 111, .inr (.inl r)))]) 0 0 0 [(0, .ref (b 0)), (1, .int x), (2, .int y)] []
  refine r_aload_n hC 0 dX6_approach_0 rfl 1 rfl ?_
  refine r_iconst hC 0 dX6_approach_1 ic_0 2 rfl ?_
  refine r_put (J := xSt F V0 [(b 0, .inr (5, mF b (va_up i 0 0) j)), (b 1, .inl (1, 111, .inr (.inl r)))]) hC kX6 0 rfl q2753 rfl (fun _ h => h.get 0 rfl) (Nat.le_of_ble_eq_true rfl) rfl rfl dX6_approach_2 (fun _ h => h.set 0 _ rfl) 5 rfl ?_
  refine r_aload_n hC 0 dX6_approach_5 rfl 6 rfl ?_
  refine r_iload_n hC 1 dX6_approach_6 rfl 7 rfl ?_
  refine r_i2l hC x.toInt64 dX6_approach_7 (rfl) 8 rfl ?_
  refine r_lconst hC 0 dX6_approach_8 lc_0 9 rfl ?_
  refine r_aload_n hC 0 dX6_approach_9 rfl 10 rfl ?_
  refine r_get (v := .ref (b 1)) hC kX6 1 rfl q2754 (fun _ h => h.get 0 rfl) rfl dX6_approach_10 13 rfl ?_
  refine r_iconst hC 5 dX6_approach_13 ic_5 14 rfl ?_
  refine r_lald hC 5 (xix_n 5 (Nat.le_of_ble_eq_true rfl) (Nat.le_of_ble_eq_true rfl)) (fun _ h => h.get 1 rfl) (r 5) (rfl) dX6_approach_14 15 rfl ?_
  refine r_lconst hC 1 dX6_approach_15 lc_1 16 rfl ?_
  refine r_lsub hC ((r 5) - 1) dX6_approach_16  (rfl) 17 rfl ?_
  refine r_invSr hC [.long x.toInt64, .long 0, .long ((r 5) - 1)] (.int 1) mSX6_in q2891 (metX6_inB _ _ hG x.toInt64 0 ((r 5) - 1) 1 (hx)) (fun _ _ => xIn.nil) ⟨rfl, rfl⟩ 0 0 rfl rfl (Nat.le_of_ble_eq_true rfl) (Nat.le_of_ble_eq_true rfl) rfl (Nat.le_of_ble_eq_true rfl) dX6_approach_17 20 rfl ?_
  refine r_ifeq hC 39 dX6_approach_20 (by decide) 23 rfl (fun h => absurd h (by decide)) (fun _ => ?_)
  refine r_iload_n hC 2 dX6_approach_23 rfl 24 rfl ?_
  refine r_i2l hC y.toInt64 dX6_approach_24 (rfl) 25 rfl ?_
  refine r_lconst hC 0 dX6_approach_25 lc_0 26 rfl ?_
  refine r_ldc2 hC q2728 dX6_approach_26 29 rfl ?_
  refine r_invSr hC [.long y.toInt64, .long 0, .long 2] (.int 0) mSX6_in q2891 (metX6_inB _ _ hG y.toInt64 0 2 0 (hy)) (fun _ _ => xIn.nil) ⟨rfl, rfl⟩ 0 0 rfl rfl (Nat.le_of_ble_eq_true rfl) (Nat.le_of_ble_eq_true rfl) rfl (Nat.le_of_ble_eq_true rfl) dX6_approach_29 32 rfl ?_
  refine r_ifeq hC 39 dX6_approach_32 (by decide) 35 rfl (fun _ => ?_) (fun h => absurd h (by decide))
  refine r_iconst hC 0 dX6_approach_39 ic_0 40 rfl ?_
  refine r_iconst hC 1 dX6_approach_40 ic_1 41 rfl ?_
  refine r_invVw hC kX6 (b 0) [.int 0, .int 1] [(b 1, .inl (1, 111, .inr (.inl r)))] mVX6_fails q2894 0 rfl (metX6_fails0 _ _ hG b _ _ 1) [0] [1] rfl rfl rfl rfl (by decide) ⟨rfl, rfl⟩ 0 0 rfl rfl (Nat.le_of_ble_eq_true rfl) (Nat.le_of_ble_eq_true rfl) rfl (Nat.le_of_ble_eq_true rfl) dX6_approach_41 44 rfl (fun v1 w2 h3 => ?_) (fun _ _ h => h.elim)
  obtain ⟨rfl, rfl⟩ := h3
  show rn C (xSt F V0 [(b 1, .inl (1, 111, .inr (.inl r))), (b 0, .inr (5, mF b (va_up (va_up i 0 0) 0 1) j))]) 0 0 44 [(0, .ref (b 0)), (1, .int x), (2, .int y)] [.int 1]
  refine r_ifeq hC 49 dX6_approach_44 (by decide) 47 rfl (fun h => absurd h (by decide)) (fun _ => ?_)
  refine r_iconst hC 0 dX6_approach_47 ic_0 48 rfl ?_
  exact r_iret hC (Nat.le_of_ble_eq_true rfl) (Nat.le_of_ble_eq_true rfl) (fun V9 h => hQ _ _ ⟨[(b 0, .inr (5, mF b (va_up (va_up i 0 0) 0 1) j)), (b 1, .inl (1, 111, .inr (.inl r)))], ⟨rfl, by simp only [bx_uu]⟩, by rw [← hV0, ← hF]; exact (h.sub [1, 0] rfl rfl)⟩) dX6_approach_48
