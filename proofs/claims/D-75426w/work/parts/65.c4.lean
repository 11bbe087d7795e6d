/-! ===== the class: kicks, drifts ===== -/
set_option maxRecDepth 100000
theorem cpy_full {α : Type} {f g : Nat → α} {n j : Nat} (h : j < n) : va_cpy f g 0 0 n j = f j := by
  rw [cpy_in (Nat.zero_le _) (by omega)]; simp
theorem zq_U {G : xG} (hG : xGood G) : ∃ o : Option Nat, xZ G "java/lang/Throwable" "UNASSIGNED_STACK" "[Ljava/lang/StackTraceElement;" (va_rf o) := by
  obtain ⟨-, b, ht, hn, -⟩ := hG
  replace hn := flat_of_before _ hn
  rcases va_Zqof (A := xA G) (ht _ q367) (ht _ (lw_sub q104)) (hn _ (nr_at 16 rfl)) (fun a h => Nat.not_le.mpr h) with h | ⟨t, h⟩
  · exact ⟨none, h⟩
  · exact ⟨some t, h⟩
theorem zq_S {G : xG} (hG : xGood G) : ∃ o : Option Nat, xZ G "java/lang/Throwable" "SUPPRESSED_SENTINEL" "Ljava/util/List;" (va_rf o) := by
  obtain ⟨-, b, ht, hn, -⟩ := hG
  replace hn := flat_of_before _ hn
  rcases va_Zqof (A := xA G) (ht _ q369) (ht _ (lw_sub q104)) (hn _ (nr_at 17 rfl)) (fun a h => Nat.not_le.mpr h) with h | ⟨t, h⟩
  · exact ⟨none, h⟩
  · exact ⟨some t, h⟩
set_option maxHeartbeats 4000000 in
set_option maxRecDepth 100000 in
theorem metJ2_init_2_X4 (l : Launch) (G : xG) (hG : xGood G) (q : Nat) : xWm l G yJ2_init_2 (Cond.code yJ2_init_2 cJ2_init_2 5 none) { frames := 1, locals := 20, cells := 0, slots := 0 } [.ref q, .null, .null, .int 0, .int 0] [(q, .inr (3, [.null, .null, .null, .null, .null, .int 0]))] (fun v w' => v = none ∧ w' = [(q, .inr (3, [.null, .null, .null, .null, .null, .int 0]))]) (fun _ _ => False) := by
  intro V hV
  refine xMet_ofT RJ2 hG rfl (by decide) (Nat.le_of_ble_eq_true rfl) fun C hC hQ hX hl hg hini hTab => ?_
  subst hl hg
  replace hini := hini rfl
  obtain ⟨oS, hzS⟩ := zq_S hG
  obtain ⟨oU, hzU⟩ := zq_U hG
  obtain ⟨V0, hV0⟩ : ∃ V0, V0 = V := ⟨_, rfl⟩
  obtain ⟨F, hF⟩ : ∃ F, F = xF [(q, .inr (3, [.null, .null, .null, .null, .null, .int 0]))] := ⟨_, rfl⟩
  refine rn.mono (J := xSt F V0 [(q, .inr (3, [.null, .null, .null, .null, .null, .int 0]))]) (fun V9 h => by rw [h, hV0, hF]; exact hV.st) ?_
  show rn C (xSt F V0 [(q, .inr (3, [.null, .null, .null, .null, .null, .int 0]))]) 0 0 0 [(0, .ref q), (1, .null), (2, .null), (3, .int 0), (4, .int 0)] []
  refine r_aload_n hC 0 dJ2_init_2_0 rfl 1 rfl ?_
  refine r_objInit hC q365 (Nat.le_of_ble_eq_true rfl) (Nat.le_of_ble_eq_true rfl) (Nat.le_of_ble_eq_true rfl) dJ2_init_2_1 4 rfl ?_
  refine r_aload_n hC 0 dJ2_init_2_4 rfl 5 rfl ?_
  refine r_aload_n hC 0 dJ2_init_2_5 rfl 6 rfl ?_
  refine r_put (J := xSt F V0 [(q, .inr (3, [.ref q, .null, .null, .null, .null, .int 0]))]) hC kX4 0 rfl q397 rfl (fun _ h => h.get 0 rfl) (Nat.le_of_ble_eq_true rfl) (rfl) (rfl) dJ2_init_2_6 (fun _ h => h.set 0 _ rfl) 9 rfl ?_
  refine r_aload_n hC 0 dJ2_init_2_9 rfl 10 rfl ?_
  refine r_gets hC hzU q366 dJ2_init_2_10 13 rfl ?_
  refine r_put (J := xSt F V0 [(q, .inr (3, [.ref q, va_rf oU, .null, .null, .null, .int 0]))]) hC kX4 1 rfl q398 rfl (fun _ h => h.get 0 rfl) (Nat.le_of_ble_eq_true rfl) (by cases oU <;> rfl) (by cases oU <;> rfl) dJ2_init_2_13 (fun _ h => h.set 0 _ rfl) 16 rfl ?_
  refine r_aload_n hC 0 dJ2_init_2_16 rfl 17 rfl ?_
  refine r_gets hC hzS q368 dJ2_init_2_17 20 rfl ?_
  refine r_put (J := xSt F V0 [(q, .inr (3, [.ref q, va_rf oU, va_rf oS, .null, .null, .int 0]))]) hC kX4 2 rfl q399 rfl (fun _ h => h.get 0 rfl) (Nat.le_of_ble_eq_true rfl) (by cases oS <;> rfl) (by cases oS <;> rfl) dJ2_init_2_20 (fun _ h => h.set 0 _ rfl) 23 rfl ?_
  refine r_iload hC 4 dJ2_init_2_23 rfl 25 rfl ?_
  refine r_ifeq hC 36 dJ2_init_2_25 (by decide) 28 rfl (fun _ => ?_) (fun h => absurd h (by decide))
  refine r_aload_n hC 0 dJ2_init_2_36 rfl 37 rfl ?_
  refine r_null hC dJ2_init_2_37 38 rfl ?_
  refine r_put (J := xSt F V0 [(q, .inr (3, [.ref q, .null, va_rf oS, .null, .null, .int 0]))]) hC kX4 1 rfl q398 rfl (fun _ h => h.get 0 rfl) (Nat.le_of_ble_eq_true rfl) (rfl) (rfl) dJ2_init_2_38 (fun _ h => h.set 0 _ rfl) 41 rfl ?_
  refine r_aload_n hC 0 dJ2_init_2_41 rfl 42 rfl ?_
  refine r_aload_nN hC 1 dJ2_init_2_42 rfl 43 rfl ?_
  refine r_put (J := xSt F V0 [(q, .inr (3, [.ref q, .null, va_rf oS, .null, .null, .int 0]))]) hC kX4 3 rfl q396 rfl (fun _ h => h.get 0 rfl) (Nat.le_of_ble_eq_true rfl) (rfl) (rfl) dJ2_init_2_43 (fun _ h => h.set 0 _ rfl) 46 rfl ?_
  refine r_aload_n hC 0 dJ2_init_2_46 rfl 47 rfl ?_
  refine r_aload_nN hC 2 dJ2_init_2_47 rfl 48 rfl ?_
  refine r_put (J := xSt F V0 [(q, .inr (3, [.null, .null, va_rf oS, .null, .null, .int 0]))]) hC kX4 0 rfl q397 rfl (fun _ h => h.get 0 rfl) (Nat.le_of_ble_eq_true rfl) (rfl) (rfl) dJ2_init_2_48 (fun _ h => h.set 0 _ rfl) 51 rfl ?_
  refine r_iload_n hC 3 dJ2_init_2_51 rfl 52 rfl ?_
  refine r_ifne hC 60 dJ2_init_2_52 (by decide) 55 rfl (fun h => absurd h (by decide)) (fun _ => ?_)
  refine r_aload_n hC 0 dJ2_init_2_55 rfl 56 rfl ?_
  refine r_null hC dJ2_init_2_56 57 rfl ?_
  refine r_put (J := xSt F V0 [(q, .inr (3, [.null, .null, .null, .null, .null, .int 0]))]) hC kX4 2 rfl q399 rfl (fun _ h => h.get 0 rfl) (Nat.le_of_ble_eq_true rfl) (rfl) (rfl) dJ2_init_2_57 (fun _ h => h.set 0 _ rfl) 60 rfl ?_
  exact r_vret hC (Nat.le_of_ble_eq_true rfl) (Nat.le_of_ble_eq_true rfl) (fun V9 h => hQ _ _ ⟨[(q, .inr (3, [.null, .null, .null, .null, .null, .int 0]))], ⟨rfl, rfl⟩, by rw [← hV0, ← hF]; exact h⟩) dJ2_init_2_60
set_option maxHeartbeats 4000000 in
set_option maxRecDepth 100000 in
theorem metJ3_init_X4 (l : Launch) (G : xG) (hG : xGood G) (q : Nat) : xWm l G yJ3_init (Cond.code yJ3_init cJ3_init 5 none) { frames := 2, locals := 44, cells := 0, slots := 0 } [.ref q, .null, .null, .int 0, .int 0] [(q, .inr (3, [.null, .null, .null, .null, .null, .int 0]))] (fun v w' => v = none ∧ w' = [(q, .inr (3, [.null, .null, .null, .null, .null, .int 0]))]) (fun _ _ => False) := by
  intro V hV
  refine xMet_ofT RJ3 hG rfl (by decide) (Nat.le_of_ble_eq_true rfl) fun C hC hQ hX hl hg hini hTab => ?_
  subst hl hg
  replace hini := hini rfl
  obtain ⟨V0, hV0⟩ : ∃ V0, V0 = V := ⟨_, rfl⟩
  obtain ⟨F, hF⟩ : ∃ F, F = xF [(q, .inr (3, [.null, .null, .null, .null, .null, .int 0]))] := ⟨_, rfl⟩
  refine rn.mono (J := xSt F V0 [(q, .inr (3, [.null, .null, .null, .null, .null, .int 0]))]) (fun V9 h => by rw [h, hV0, hF]; exact hV.st) ?_
  show rn C (xSt F V0 [(q, .inr (3, [.null, .null, .null, .null, .null, .int 0]))]) 0 0 0 [(0, .ref q), (1, .null), (2, .null), (3, .int 0), (4, .int 0)] []
  refine r_aload_n hC 0 dJ3_init_0 rfl 1 rfl ?_
  refine r_aload_nN hC 1 dJ3_init_1 rfl 2 rfl ?_
  refine r_aload_nN hC 2 dJ3_init_2 rfl 3 rfl ?_
  refine r_iload_n hC 3 dJ3_init_3 rfl 4 rfl ?_
  refine r_iload hC 4 dJ3_init_4 rfl 6 rfl ?_
  refine xCall.w (wr := []) (r_cI hC q [.null, .null, .int 0, .int 0] mIJ2_init_2 q392 (fun V9 h9 => (metJ2_init_2_X4 _ _ hG q) V9 (h9.in.sub [0] rfl rfl)) ⟨rfl, rfl⟩ (Nat.le_of_ble_eq_true rfl) (Nat.le_of_ble_eq_true rfl) rfl (Nat.le_of_ble_eq_true rfl) dJ3_init_6) [0] [] rfl rfl rfl (by decide) 0 0 9 rfl rfl rfl (fun v1 w2 h3 => ?_) (fun _ _ h => h.elim)
  obtain ⟨rfl, rfl⟩ := h3
  show rn C (xSt F V0 [(q, .inr (3, [.null, .null, .null, .null, .null, .int 0]))]) 0 0 9 [(0, .ref q), (1, .null), (2, .null), (3, .int 0), (4, .int 0)] []
  exact r_vret hC (Nat.le_of_ble_eq_true rfl) (Nat.le_of_ble_eq_true rfl) (fun V9 h => hQ _ _ ⟨[(q, .inr (3, [.null, .null, .null, .null, .null, .int 0]))], ⟨rfl, rfl⟩, by rw [← hV0, ← hF]; exact h⟩) dJ3_init_9
set_option maxHeartbeats 4000000 in
set_option maxRecDepth 100000 in
theorem metX4_init (l : Launch) (G : xG) (hG : xGood G) (q : Nat) : xWm l G yX4_init (Cond.code yX4_init cX4_init 1 none) { frames := 3, locals := 68, cells := 0, slots := 0 } [.ref q] [(q, .inr (3, [.null, .null, .null, .null, .null, .int 0]))] (fun v w' => v = none ∧ w' = [(q, .inr (3, [.null, .null, .null, .null, .null, .int 0]))]) (fun _ _ => False) := by
  intro V hV
  refine xMet_ofT RX4 hG rfl (by decide) (Nat.le_of_ble_eq_true rfl) fun C hC hQ hX hl hg hini hTab => ?_
  subst hl hg
  replace hini := hini rfl
  obtain ⟨V0, hV0⟩ : ∃ V0, V0 = V := ⟨_, rfl⟩
  obtain ⟨F, hF⟩ : ∃ F, F = xF [(q, .inr (3, [.null, .null, .null, .null, .null, .int 0]))] := ⟨_, rfl⟩
  refine rn.mono (J := xSt F V0 [(q, .inr (3, [.null, .null, .null, .null, .null, .int 0]))]) (fun V9 h => by rw [h, hV0, hF]; exact hV.st) ?_
  show rn C (xSt F V0 [(q, .inr (3, [.null, .null, .null, .null, .null, .int 0]))]) 0 0 0 [(0, .ref q)] []
  refine r_aload_n hC 0 dX4_init_0 rfl 1 rfl ?_
  refine r_null hC dX4_init_1 2 rfl ?_
  refine r_null hC dX4_init_2 3 rfl ?_
  refine r_iconst hC 0 dX4_init_3 ic_0 4 rfl ?_
  refine r_iconst hC 0 dX4_init_4 ic_0 5 rfl ?_
  refine xCall.w (wr := []) (r_cI hC q [.null, .null, .int 0, .int 0] mIJ3_init q389 (fun V9 h9 => (metJ3_init_X4 _ _ hG q) V9 (h9.in.sub [0] rfl rfl)) ⟨rfl, rfl⟩ (Nat.le_of_ble_eq_true rfl) (Nat.le_of_ble_eq_true rfl) rfl (Nat.le_of_ble_eq_true rfl) dX4_init_5) [0] [] rfl rfl rfl (by decide) 0 0 8 rfl rfl rfl (fun v1 w2 h3 => ?_) (fun _ _ h => h.elim)
  obtain ⟨rfl, rfl⟩ := h3
  show rn C (xSt F V0 [(q, .inr (3, [.null, .null, .null, .null, .null, .int 0]))]) 0 0 8 [(0, .ref q)] []
  exact r_vret hC (Nat.le_of_ble_eq_true rfl) (Nat.le_of_ble_eq_true rfl) (fun V9 h => hQ _ _ ⟨[(q, .inr (3, [.null, .null, .null, .null, .null, .int 0]))], ⟨rfl, rfl⟩, by rw [← hV0, ← hF]; exact h⟩) dX4_init_8
set_option maxHeartbeats 4000000 in
set_option maxRecDepth 100000 in
theorem metX3_checkG (l : Launch) (G : xG) (hG : xGood G) (v m : Int64) (hz : m_in v (-m) m = true) : xRm l G yX3_check (Cond.code yX3_check cX3_check 4 none) { frames := 1, locals := 25, cells := 0, slots := 0 } [.long v, .long m] [] none := by
  intro V hV
  refine xMet_ofT RX3 hG rfl (by decide) (Nat.le_of_ble_eq_true rfl) fun C hC hQ hX hl hg _ hTab => ?_
  subst hl hg
  refine rn.mono (J := xRo [] V) (fun V9 h => ⟨h, hV⟩) ?_
  show rn C (xRo [] V) 0 0 0 [(0, .long v), (2, .long m)] []
  refine r_lload_n hC 0 dX3_check_0 rfl 1 rfl ?_
  refine r_lload_n hC 1 dX3_check_1 rfl 2 rfl ?_
  refine r_lneg hC (-m) dX3_check_2 (rfl) 3 rfl ?_
  refine r_lload_n hC 1 dX3_check_3 rfl 4 rfl ?_
  refine xCall.r (r := some (.int 1)) (r_cSN hC hG [.long v, .long (-m), .long m] mSX1_inRange q339 (fun V9 h9 => (metX1_inRangeB _ _ hG v (-m) m 1 (by rw [hz]; rfl)) V9 xIn.nil) ⟨rfl, rfl⟩ (Nat.le_of_ble_eq_true rfl) (Nat.le_of_ble_eq_true rfl) rfl (Nat.le_of_ble_eq_true rfl) dX3_check_4) 0 0 7 rfl rfl rfl ?_
  refine r_ifne hC 18 dX3_check_7 (by decide) 10 rfl (fun _ => ?_) (fun h => absurd h (by decide))
  exact r_vret hC (Nat.le_of_ble_eq_true rfl) (Nat.le_of_ble_eq_true rfl) (fun V9 h => hQ _ _ ⟨rfl, h.1⟩) dX3_check_18
set_option maxHeartbeats 4000000 in
set_option maxRecDepth 100000 in
theorem metX3_checkB (l : Launch) (G : xG) (hG : xGood G) (v m : Int64) (hz : m_in v (-m) m = false) : xWm l G yX3_check (Cond.code yX3_check cX3_check 4 none) { frames := 4, locals := 88, cells := 1, slots := 6 } [.long v, .long m] [] (fun _ _ => False) (fun q w' => w' = [(q, .inr (3, [.null, .null, .null, .null, .null, .int 0]))]) := by
  intro V hV
  refine xMet_ofT RX3 hG rfl (by decide) (Nat.le_of_ble_eq_true rfl) fun C hC hQ hX hl hg _ hTab => ?_
  subst hl hg
  obtain ⟨V0, hV0⟩ : ∃ V0, V0 = V := ⟨_, rfl⟩
  obtain ⟨F, hF⟩ : ∃ F, F = xF [] := ⟨_, rfl⟩
  refine rn.mono (J := xSt F V0 []) (fun V9 h => by rw [h, hV0, hF]; exact hV.st) ?_
  show rn C (xSt F V0 []) 0 0 0 [(0, .long v), (2, .long m)] []
  refine r_lload_n hC 0 dX3_check_0 rfl 1 rfl ?_
  refine r_lload_n hC 1 dX3_check_1 rfl 2 rfl ?_
  refine r_lneg hC (-m) dX3_check_2 (rfl) 3 rfl ?_
  refine r_lload_n hC 1 dX3_check_3 rfl 4 rfl ?_
  refine xCall.r (r := some (.int 0)) (r_cSN hC hG [.long v, .long (-m), .long m] mSX1_inRange q339 (fun V9 h9 => (metX1_inRangeB _ _ hG v (-m) m 0 (by rw [hz]; rfl)) V9 xIn.nil) ⟨rfl, rfl⟩ (Nat.le_of_ble_eq_true rfl) (Nat.le_of_ble_eq_true rfl) rfl (Nat.le_of_ble_eq_true rfl) dX3_check_4) 0 0 7 rfl rfl rfl ?_
  refine r_ifne hC 18 dX3_check_7 (by decide) 10 rfl (fun h => absurd h (by decide)) (fun _ => ?_)
  refine r_new (J := fun q1 => xSt F V0 [(q1, .inr (3, [.null, .null, .null, .null, .null, .int 0]))]) hC [.null, .null, .null, .null, .null, .int 0] kX4 q342 q343 q106 dfX4 (Nat.le_of_ble_eq_true rfl) (Nat.le_of_ble_eq_true rfl) dX3_check_10 (fun _ h => h.push _) 13 rfl (fun q1 => ?_)
  show rn C (xSt F V0 [(q1, .inr (3, [.null, .null, .null, .null, .null, .int 0]))]) 1 6 13 [(0, .long v), (2, .long m)] [.ref q1]
  refine r_dup hC dX3_check_13 rfl 14 rfl ?_
  refine xCall.w (wr := []) (r_cI hC q1 [] mIX4_init q386 (fun V9 h9 => (metX4_init _ _ hG q1) V9 (h9.in.sub [0] rfl rfl)) ⟨rfl, rfl⟩ (Nat.le_of_ble_eq_true rfl) (Nat.le_of_ble_eq_true rfl) rfl (Nat.le_of_ble_eq_true rfl) dX3_check_14) [0] [] rfl rfl rfl (by decide) 1 6 17 rfl rfl rfl (fun v2 w3 h4 => ?_) (fun _ _ h => h.elim)
  obtain ⟨rfl, rfl⟩ := h4
  show rn C (xSt F V0 [(q1, .inr (3, [.null, .null, .null, .null, .null, .int 0]))]) 1 6 17 [(0, .long v), (2, .long m)] [.ref q1]
  refine r_athrow hC (fun _ h => h.get 0 rfl) dX3_check_17 ?_
  exact rx_out hC hTab (fun _ h => by cases h) (Nat.le_of_ble_eq_true rfl) (Nat.le_of_ble_eq_true rfl) (fun V9 h => hX _ _ ⟨[(q1, .inr (3, [.null, .null, .null, .null, .null, .int 0]))], rfl, by rw [← hV0, ← hF]; exact h⟩)
theorem in_t {R : Nat → Int64} (hpl : plR R) (h9 : m_in (R 9) (-1000000000) 1000000000 = true) (h10 : m_in (R 10) (-1000000000) 1000000000 = true) (h14 : m_in (R 14) (-1000000000) 1000000000 = true) (h15 : m_in (R 15) (-1000000000) 1000000000 = true) (h19 : m_in (R 19) (-1000000000) 1000000000 = true) (h20 : m_in (R 20) (-1000000000) 1000000000 = true) : isInQ R = true := by
  have p0 := hpl 0 (by decide)
  have p1 := hpl 1 (by decide)
  have p2 := hpl 2 (by decide)
  have e : ∀ v : Int64, -100000 ≤ v.toInt → v.toInt ≤ 100000 → m_in v (-100000) 100000 = true := fun v h1 h2 => in_yes h1 h2
  unfold isInQ
  rw [h9, h10, h14, h15, h19, h20, e _ p0.1.1 p0.1.2, e _ p0.2.1 p0.2.2, e _ p1.1.1 p1.1.2, e _ p1.2.1 p1.2.2, e _ p2.1.1 p2.1.2, e _ p2.2.1 p2.2.2]
  rfl
theorem in_t2 {R : Nat → Int64} (hmo : moR R) (h7 : m_in (R 7) (-100000) 100000 = true) (h8 : m_in (R 8) (-100000) 100000 = true) (h12 : m_in (R 12) (-100000) 100000 = true) (h13 : m_in (R 13) (-100000) 100000 = true) (h17 : m_in (R 17) (-100000) 100000 = true) (h18 : m_in (R 18) (-100000) 100000 = true) : isInQ R = true := by
  have p0 := hmo 0 (by decide)
  have p1 := hmo 1 (by decide)
  have p2 := hmo 2 (by decide)
  have e : ∀ v : Int64, -1000000000 ≤ v.toInt → v.toInt ≤ 1000000000 → m_in v (-1000000000) 1000000000 = true := fun v h1 h2 => in_yes h1 h2
  unfold isInQ
  rw [h7, h8, h12, h13, h17, h18, e _ p0.1.1 p0.1.2, e _ p0.2.1 p0.2.2, e _ p1.1.1 p1.1.2, e _ p1.2.1 p1.2.2, e _ p2.1.1 p2.1.2, e _ p2.2.1 p2.2.2]
  rfl
theorem in_f7 {R : Nat → Int64} (h : m_in (R 7) (-100000) 100000 = false) : isInQ R = false := by unfold isInQ; rw [h]; simp
theorem in_y7 {R : Nat → Int64} (h : isInQ R = true) : m_in (R 7) (-100000) 100000 = true := by
  cases h2 : m_in (R 7) (-100000) 100000 with
  | true => rfl
  | false => rw [in_f7 h2] at h; cases h
theorem in_f8 {R : Nat → Int64} (h : m_in (R 8) (-100000) 100000 = false) : isInQ R = false := by unfold isInQ; rw [h]; simp
theorem in_y8 {R : Nat → Int64} (h : isInQ R = true) : m_in (R 8) (-100000) 100000 = true := by
  cases h2 : m_in (R 8) (-100000) 100000 with
  | true => rfl
  | false => rw [in_f8 h2] at h; cases h
theorem in_f9 {R : Nat → Int64} (h : m_in (R 9) (-1000000000) 1000000000 = false) : isInQ R = false := by unfold isInQ; rw [h]; simp
theorem in_y9 {R : Nat → Int64} (h : isInQ R = true) : m_in (R 9) (-1000000000) 1000000000 = true := by
  cases h2 : m_in (R 9) (-1000000000) 1000000000 with
  | true => rfl
  | false => rw [in_f9 h2] at h; cases h
theorem in_f10 {R : Nat → Int64} (h : m_in (R 10) (-1000000000) 1000000000 = false) : isInQ R = false := by unfold isInQ; rw [h]; simp
theorem in_y10 {R : Nat → Int64} (h : isInQ R = true) : m_in (R 10) (-1000000000) 1000000000 = true := by
  cases h2 : m_in (R 10) (-1000000000) 1000000000 with
  | true => rfl
  | false => rw [in_f10 h2] at h; cases h
theorem in_f12 {R : Nat → Int64} (h : m_in (R 12) (-100000) 100000 = false) : isInQ R = false := by unfold isInQ; rw [h]; simp
theorem in_y12 {R : Nat → Int64} (h : isInQ R = true) : m_in (R 12) (-100000) 100000 = true := by
  cases h2 : m_in (R 12) (-100000) 100000 with
  | true => rfl
  | false => rw [in_f12 h2] at h; cases h
theorem in_f13 {R : Nat → Int64} (h : m_in (R 13) (-100000) 100000 = false) : isInQ R = false := by unfold isInQ; rw [h]; simp
theorem in_y13 {R : Nat → Int64} (h : isInQ R = true) : m_in (R 13) (-100000) 100000 = true := by
  cases h2 : m_in (R 13) (-100000) 100000 with
  | true => rfl
  | false => rw [in_f13 h2] at h; cases h
theorem in_f14 {R : Nat → Int64} (h : m_in (R 14) (-1000000000) 1000000000 = false) : isInQ R = false := by unfold isInQ; rw [h]; simp
theorem in_y14 {R : Nat → Int64} (h : isInQ R = true) : m_in (R 14) (-1000000000) 1000000000 = true := by
  cases h2 : m_in (R 14) (-1000000000) 1000000000 with
  | true => rfl
  | false => rw [in_f14 h2] at h; cases h
theorem in_f15 {R : Nat → Int64} (h : m_in (R 15) (-1000000000) 1000000000 = false) : isInQ R = false := by unfold isInQ; rw [h]; simp
theorem in_y15 {R : Nat → Int64} (h : isInQ R = true) : m_in (R 15) (-1000000000) 1000000000 = true := by
  cases h2 : m_in (R 15) (-1000000000) 1000000000 with
  | true => rfl
  | false => rw [in_f15 h2] at h; cases h
theorem in_f17 {R : Nat → Int64} (h : m_in (R 17) (-100000) 100000 = false) : isInQ R = false := by unfold isInQ; rw [h]; simp
theorem in_y17 {R : Nat → Int64} (h : isInQ R = true) : m_in (R 17) (-100000) 100000 = true := by
  cases h2 : m_in (R 17) (-100000) 100000 with
  | true => rfl
  | false => rw [in_f17 h2] at h; cases h
theorem in_f18 {R : Nat → Int64} (h : m_in (R 18) (-100000) 100000 = false) : isInQ R = false := by unfold isInQ; rw [h]; simp
theorem in_y18 {R : Nat → Int64} (h : isInQ R = true) : m_in (R 18) (-100000) 100000 = true := by
  cases h2 : m_in (R 18) (-100000) 100000 with
  | true => rfl
  | false => rw [in_f18 h2] at h; cases h
theorem in_f19 {R : Nat → Int64} (h : m_in (R 19) (-1000000000) 1000000000 = false) : isInQ R = false := by unfold isInQ; rw [h]; simp
theorem in_y19 {R : Nat → Int64} (h : isInQ R = true) : m_in (R 19) (-1000000000) 1000000000 = true := by
  cases h2 : m_in (R 19) (-1000000000) 1000000000 with
  | true => rfl
  | false => rw [in_f19 h2] at h; cases h
theorem in_f20 {R : Nat → Int64} (h : m_in (R 20) (-1000000000) 1000000000 = false) : isInQ R = false := by unfold isInQ; rw [h]; simp
theorem in_y20 {R : Nat → Int64} (h : isInQ R = true) : m_in (R 20) (-1000000000) 1000000000 = true := by
  cases h2 : m_in (R 20) (-1000000000) 1000000000 with
  | true => rfl
  | false => rw [in_f20 h2] at h; cases h
theorem plR_kick {t r : Nat → Int64} {hf bk : Bool} (h : plR r) : plR (kickQ t r hf bk) := by
  intro k hk
  rcases (show k = 0 ∨ k = 1 ∨ k = 2 by omega) with rfl | rfl | rfl
  · exact h 0 hk
  · exact h 1 hk
  · exact h 2 hk
theorem moR_drift {t r : Nat → Int64} {hf bk : Bool} (h : moR r) : moR (driftQ t r hf bk) := by
  intro k hk
  rcases (show k = 0 ∨ k = 1 ∨ k = 2 by omega) with rfl | rfl | rfl
  · exact h 0 hk
  · exact h 1 hk
  · exact h 2 hk
theorem kkq_0 {t r : Nat → Int64} {hf bk : Bool} : kickQ t r hf bk 0 = r 0 := by unfold kickQ; exact (up_ne (by decide)).trans ((up_ne (by decide)).trans ((up_ne (by decide)).trans ((up_ne (by decide)).trans ((up_ne (by decide)).trans (up_ne (by decide))))))
theorem kkq_1 {t r : Nat → Int64} {hf bk : Bool} : kickQ t r hf bk 1 = r 1 := by unfold kickQ; exact (up_ne (by decide)).trans ((up_ne (by decide)).trans ((up_ne (by decide)).trans ((up_ne (by decide)).trans ((up_ne (by decide)).trans (up_ne (by decide))))))
theorem kkq_6 {t r : Nat → Int64} {hf bk : Bool} : kickQ t r hf bk 6 = r 6 := by unfold kickQ; exact (up_ne (by decide)).trans ((up_ne (by decide)).trans ((up_ne (by decide)).trans ((up_ne (by decide)).trans ((up_ne (by decide)).trans (up_ne (by decide))))))
theorem kkq_7 {t r : Nat → Int64} {hf bk : Bool} : kickQ t r hf bk 7 = r 7 := by unfold kickQ; exact (up_ne (by decide)).trans ((up_ne (by decide)).trans ((up_ne (by decide)).trans ((up_ne (by decide)).trans ((up_ne (by decide)).trans (up_ne (by decide))))))
theorem kkq_8 {t r : Nat → Int64} {hf bk : Bool} : kickQ t r hf bk 8 = r 8 := by unfold kickQ; exact (up_ne (by decide)).trans ((up_ne (by decide)).trans ((up_ne (by decide)).trans ((up_ne (by decide)).trans ((up_ne (by decide)).trans (up_ne (by decide))))))
theorem kkq_9 {t r : Nat → Int64} {hf bk : Bool} : kickQ t r hf bk 9 = r 9 + gQ t r hf bk 0 0 + gQ t r hf bk 1 0 := by unfold kickQ; exact (up_ne (by decide)).trans ((up_ne (by decide)).trans ((up_ne (by decide)).trans ((up_ne (by decide)).trans ((up_ne (by decide)).trans (up_same _ _ _)))))
theorem kkq_10 {t r : Nat → Int64} {hf bk : Bool} : kickQ t r hf bk 10 = r 10 + gQ t r hf bk 0 1 + gQ t r hf bk 1 1 := by unfold kickQ; exact (up_ne (by decide)).trans ((up_ne (by decide)).trans ((up_ne (by decide)).trans ((up_ne (by decide)).trans (up_same _ _ _))))
theorem kkq_11 {t r : Nat → Int64} {hf bk : Bool} : kickQ t r hf bk 11 = r 11 := by unfold kickQ; exact (up_ne (by decide)).trans ((up_ne (by decide)).trans ((up_ne (by decide)).trans ((up_ne (by decide)).trans ((up_ne (by decide)).trans (up_ne (by decide))))))
theorem kkq_12 {t r : Nat → Int64} {hf bk : Bool} : kickQ t r hf bk 12 = r 12 := by unfold kickQ; exact (up_ne (by decide)).trans ((up_ne (by decide)).trans ((up_ne (by decide)).trans ((up_ne (by decide)).trans ((up_ne (by decide)).trans (up_ne (by decide))))))
theorem kkq_13 {t r : Nat → Int64} {hf bk : Bool} : kickQ t r hf bk 13 = r 13 := by unfold kickQ; exact (up_ne (by decide)).trans ((up_ne (by decide)).trans ((up_ne (by decide)).trans ((up_ne (by decide)).trans ((up_ne (by decide)).trans (up_ne (by decide))))))
theorem kkq_14 {t r : Nat → Int64} {hf bk : Bool} : kickQ t r hf bk 14 = r 14 - gQ t r hf bk 0 0 + gQ t r hf bk 2 0 := by unfold kickQ; exact (up_ne (by decide)).trans ((up_ne (by decide)).trans ((up_ne (by decide)).trans (up_same _ _ _)))
theorem kkq_15 {t r : Nat → Int64} {hf bk : Bool} : kickQ t r hf bk 15 = r 15 - gQ t r hf bk 0 1 + gQ t r hf bk 2 1 := by unfold kickQ; exact (up_ne (by decide)).trans ((up_ne (by decide)).trans (up_same _ _ _))
theorem kkq_16 {t r : Nat → Int64} {hf bk : Bool} : kickQ t r hf bk 16 = r 16 := by unfold kickQ; exact (up_ne (by decide)).trans ((up_ne (by decide)).trans ((up_ne (by decide)).trans ((up_ne (by decide)).trans ((up_ne (by decide)).trans (up_ne (by decide))))))
theorem kkq_17 {t r : Nat → Int64} {hf bk : Bool} : kickQ t r hf bk 17 = r 17 := by unfold kickQ; exact (up_ne (by decide)).trans ((up_ne (by decide)).trans ((up_ne (by decide)).trans ((up_ne (by decide)).trans ((up_ne (by decide)).trans (up_ne (by decide))))))
theorem kkq_18 {t r : Nat → Int64} {hf bk : Bool} : kickQ t r hf bk 18 = r 18 := by unfold kickQ; exact (up_ne (by decide)).trans ((up_ne (by decide)).trans ((up_ne (by decide)).trans ((up_ne (by decide)).trans ((up_ne (by decide)).trans (up_ne (by decide))))))
theorem kkq_19 {t r : Nat → Int64} {hf bk : Bool} : kickQ t r hf bk 19 = r 19 - gQ t r hf bk 1 0 - gQ t r hf bk 2 0 := by unfold kickQ; exact (up_ne (by decide)).trans (up_same _ _ _)
theorem kkq_20 {t r : Nat → Int64} {hf bk : Bool} : kickQ t r hf bk 20 = r 20 - gQ t r hf bk 1 1 - gQ t r hf bk 2 1 := by unfold kickQ; exact up_same _ _ _
theorem drq_0 {t r : Nat → Int64} {hf bk : Bool} : driftQ t r hf bk 0 = r 0 := by unfold driftQ; exact (up_ne (by decide)).trans ((up_ne (by decide)).trans ((up_ne (by decide)).trans ((up_ne (by decide)).trans ((up_ne (by decide)).trans (up_ne (by decide))))))
theorem drq_1 {t r : Nat → Int64} {hf bk : Bool} : driftQ t r hf bk 1 = r 1 := by unfold driftQ; exact (up_ne (by decide)).trans ((up_ne (by decide)).trans ((up_ne (by decide)).trans ((up_ne (by decide)).trans ((up_ne (by decide)).trans (up_ne (by decide))))))
theorem drq_6 {t r : Nat → Int64} {hf bk : Bool} : driftQ t r hf bk 6 = r 6 := by unfold driftQ; exact (up_ne (by decide)).trans ((up_ne (by decide)).trans ((up_ne (by decide)).trans ((up_ne (by decide)).trans ((up_ne (by decide)).trans (up_ne (by decide))))))
theorem drq_7 {t r : Nat → Int64} {hf bk : Bool} : driftQ t r hf bk 7 = r 7 + fQ t r hf bk 0 0 := by unfold driftQ; exact (up_ne (by decide)).trans ((up_ne (by decide)).trans ((up_ne (by decide)).trans ((up_ne (by decide)).trans ((up_ne (by decide)).trans (up_same _ _ _)))))
theorem drq_8 {t r : Nat → Int64} {hf bk : Bool} : driftQ t r hf bk 8 = r 8 + fQ t r hf bk 0 1 := by unfold driftQ; exact (up_ne (by decide)).trans ((up_ne (by decide)).trans ((up_ne (by decide)).trans ((up_ne (by decide)).trans (up_same _ _ _))))
theorem drq_9 {t r : Nat → Int64} {hf bk : Bool} : driftQ t r hf bk 9 = r 9 := by unfold driftQ; exact (up_ne (by decide)).trans ((up_ne (by decide)).trans ((up_ne (by decide)).trans ((up_ne (by decide)).trans ((up_ne (by decide)).trans (up_ne (by decide))))))
theorem drq_10 {t r : Nat → Int64} {hf bk : Bool} : driftQ t r hf bk 10 = r 10 := by unfold driftQ; exact (up_ne (by decide)).trans ((up_ne (by decide)).trans ((up_ne (by decide)).trans ((up_ne (by decide)).trans ((up_ne (by decide)).trans (up_ne (by decide))))))
theorem drq_11 {t r : Nat → Int64} {hf bk : Bool} : driftQ t r hf bk 11 = r 11 := by unfold driftQ; exact (up_ne (by decide)).trans ((up_ne (by decide)).trans ((up_ne (by decide)).trans ((up_ne (by decide)).trans ((up_ne (by decide)).trans (up_ne (by decide))))))
theorem drq_12 {t r : Nat → Int64} {hf bk : Bool} : driftQ t r hf bk 12 = r 12 + fQ t r hf bk 1 0 := by unfold driftQ; exact (up_ne (by decide)).trans ((up_ne (by decide)).trans ((up_ne (by decide)).trans (up_same _ _ _)))
theorem drq_13 {t r : Nat → Int64} {hf bk : Bool} : driftQ t r hf bk 13 = r 13 + fQ t r hf bk 1 1 := by unfold driftQ; exact (up_ne (by decide)).trans ((up_ne (by decide)).trans (up_same _ _ _))
theorem drq_14 {t r : Nat → Int64} {hf bk : Bool} : driftQ t r hf bk 14 = r 14 := by unfold driftQ; exact (up_ne (by decide)).trans ((up_ne (by decide)).trans ((up_ne (by decide)).trans ((up_ne (by decide)).trans ((up_ne (by decide)).trans (up_ne (by decide))))))
theorem drq_15 {t r : Nat → Int64} {hf bk : Bool} : driftQ t r hf bk 15 = r 15 := by unfold driftQ; exact (up_ne (by decide)).trans ((up_ne (by decide)).trans ((up_ne (by decide)).trans ((up_ne (by decide)).trans ((up_ne (by decide)).trans (up_ne (by decide))))))
theorem drq_16 {t r : Nat → Int64} {hf bk : Bool} : driftQ t r hf bk 16 = r 16 := by unfold driftQ; exact (up_ne (by decide)).trans ((up_ne (by decide)).trans ((up_ne (by decide)).trans ((up_ne (by decide)).trans ((up_ne (by decide)).trans (up_ne (by decide))))))
theorem drq_17 {t r : Nat → Int64} {hf bk : Bool} : driftQ t r hf bk 17 = r 17 + fQ t r hf bk 2 0 := by unfold driftQ; exact (up_ne (by decide)).trans (up_same _ _ _)
theorem drq_18 {t r : Nat → Int64} {hf bk : Bool} : driftQ t r hf bk 18 = r 18 + fQ t r hf bk 2 1 := by unfold driftQ; exact up_same _ _ _
theorem drq_19 {t r : Nat → Int64} {hf bk : Bool} : driftQ t r hf bk 19 = r 19 := by unfold driftQ; exact (up_ne (by decide)).trans ((up_ne (by decide)).trans ((up_ne (by decide)).trans ((up_ne (by decide)).trans ((up_ne (by decide)).trans (up_ne (by decide))))))
theorem drq_20 {t r : Nat → Int64} {hf bk : Bool} : driftQ t r hf bk 20 = r 20 := by unfold driftQ; exact (up_ne (by decide)).trans ((up_ne (by decide)).trans ((up_ne (by decide)).trans ((up_ne (by decide)).trans ((up_ne (by decide)).trans (up_ne (by decide))))))
set_option maxHeartbeats 4000000 in
set_option maxRecDepth 100000 in
theorem metX3_kick00 (l : Launch) (G : xG) (hG : xGood G) (o : Nat → Nat) (t r : Nat → Int64) (hpl : plR r) (ht : tOK t) (hm : mOK r) : xWm l G yX3_kick (Cond.code yX3_kick cX3_kick 8 none) { frames := 5, locals := 111, cells := 1, slots := 6 } [.ref (o 0), .int 1, .int 1] [(o 0, .inr (2, [.ref (o 1), .ref (o 2), .ref (o 3), .ref (o 4), .ref (o 5), .ref (o 6), .ref (o 7), .ref (o 8), .ref (o 9), .ref (o 10), .int ((r 0).toInt32)])), (o 1, .inl (0, 6, .inl (seF t r))), (o 2, .inl (0, 3, .inl (maF r))), (o 3, .inl (0, 3, .inl (plX r))), (o 4, .inl (0, 3, .inl (plY r))), (o 5, .inl (1, 3, .inr (.inl (moX r)))), (o 6, .inl (1, 3, .inr (.inl (moY r))))] (fun v w' => v = none ∧ isInQ (kickQ t r false false) = true ∧ w' = [(o 0, .inr (2, [.ref (o 1), .ref (o 2), .ref (o 3), .ref (o 4), .ref (o 5), .ref (o 6), .ref (o 7), .ref (o 8), .ref (o 9), .ref (o 10), .int (((kickQ t r false false) 0).toInt32)])), (o 1, .inl (0, 6, .inl (seF t (kickQ t r false false)))), (o 2, .inl (0, 3, .inl (maF (kickQ t r false false)))), (o 3, .inl (0, 3, .inl (plX (kickQ t r false false)))), (o 4, .inl (0, 3, .inl (plY (kickQ t r false false)))), (o 5, .inl (1, 3, .inr (.inl (moX (kickQ t r false false))))), (o 6, .inl (1, 3, .inr (.inl (moY (kickQ t r false false)))))]) (fun q w' => isInQ (kickQ t r false false) = false ∧ ∃ px' py' : Nat → Int64, w' = [(o 0, .inr (2, [.ref (o 1), .ref (o 2), .ref (o 3), .ref (o 4), .ref (o 5), .ref (o 6), .ref (o 7), .ref (o 8), .ref (o 9), .ref (o 10), .int ((r 0).toInt32)])), (o 1, .inl (0, 6, .inl (seF t r))), (o 2, .inl (0, 3, .inl (maF r))), (o 3, .inl (0, 3, .inl (plX r))), (o 4, .inl (0, 3, .inl (plY r))), (o 5, .inl (1, 3, .inr (.inl px'))), (o 6, .inl (1, 3, .inr (.inl py'))), (q, .inr (3, [.null, .null, .null, .null, .null, .int 0]))]) := by
  intro V hV
  refine xMet_ofT RX3 hG rfl (by decide) (Nat.le_of_ble_eq_true rfl) fun C hC hQ hX hl hg _ hTab => ?_
  subst hl hg
  obtain ⟨tONE, hzONE, htONE⟩ := za_ONE hG
  obtain ⟨tOTH, hzOTH, htOTH⟩ := za_OTH hG
  obtain ⟨V0, hV0⟩ : ∃ V0, V0 = V := ⟨_, rfl⟩
  obtain ⟨F, hF⟩ : ∃ F, F = xF [(o 0, .inr (2, [.ref (o 1), .ref (o 2), .ref (o 3), .ref (o 4), .ref (o 5), .ref (o 6), .ref (o 7), .ref (o 8), .ref (o 9), .ref (o 10), .int ((r 0).toInt32)])), (o 1, .inl (0, 6, .inl (seF t r))), (o 2, .inl (0, 3, .inl (maF r))), (o 3, .inl (0, 3, .inl (plX r))), (o 4, .inl (0, 3, .inl (plY r))), (o 5, .inl (1, 3, .inr (.inl (moX r)))), (o 6, .inl (1, 3, .inr (.inl (moY r))))] := ⟨_, rfl⟩
  refine rn.mono (J := xSt F V0 [(o 0, .inr (2, [.ref (o 1), .ref (o 2), .ref (o 3), .ref (o 4), .ref (o 5), .ref (o 6), .ref (o 7), .ref (o 8), .ref (o 9), .ref (o 10), .int ((r 0).toInt32)])), (o 1, .inl (0, 6, .inl (seF t r))), (o 2, .inl (0, 3, .inl (maF r))), (o 3, .inl (0, 3, .inl (plX r))), (o 4, .inl (0, 3, .inl (plY r))), (o 5, .inl (1, 3, .inr (.inl (moX r)))), (o 6, .inl (1, 3, .inr (.inl (moY r))))]) (fun V9 h => by rw [h, hV0, hF]; exact hV.st) ?_
  show rn C (xSt F V0 [(o 0, .inr (2, [.ref (o 1), .ref (o 2), .ref (o 3), .ref (o 4), .ref (o 5), .ref (o 6), .ref (o 7), .ref (o 8), .ref (o 9), .ref (o 10), .int ((r 0).toInt32)])), (o 1, .inl (0, 6, .inl (seF t r))), (o 2, .inl (0, 3, .inl (maF r))), (o 3, .inl (0, 3, .inl (plX r))), (o 4, .inl (0, 3, .inl (plY r))), (o 5, .inl (1, 3, .inr (.inl (moX r)))), (o 6, .inl (1, 3, .inr (.inl (moY r))))]) 0 0 0 [(0, .ref (o 0)), (1, .int 1), (2, .int 1)] []
  refine r_iconst hC 0 dX3_kick_0 ic_0 1 rfl ?_
  refine r_istore_n hC 3 [(3, .int 0), (0, .ref (o 0)), (1, .int 1), (2, .int 1)] dX3_kick_1 rfl (Nat.le_of_ble_eq_true rfl) rfl 2 rfl ?_
  refine r_iload_n hC 0 dX3_kick_2 rfl 3 rfl ?_
  refine r_iconst hC 3 dX3_kick_3 ic_3 4 rfl ?_
  refine r_icge hC 101 dX3_kick_4 (by decide) 7 rfl (fun h => absurd h (by decide)) (fun _ => ?_)
  refine r_iload_n hC 2 dX3_kick_7 rfl 8 rfl ?_
  refine r_i2l hC 1 dX3_kick_8 (by decide) 9 rfl ?_
  refine r_aload_n hC 1 dX3_kick_9 rfl 10 rfl ?_
  refine r_iload_n hC 0 dX3_kick_10 rfl 11 rfl ?_
  refine r_iconst hC 0 dX3_kick_11 ic_0 12 rfl ?_
  refine xCall.r (r := some (.long (impQ t r 0 0))) (r_cV hC kX3 (o 0) [.int 0, .int 0] mVX3_impulse q331 (fun _ h => ⟨_, h.get 0 rfl⟩) (fun V9 h9 => (metX3_impulse0 _ _ hG o t r 0 (Nat.le_of_ble_eq_true rfl) hpl ht hm) V9 (h9.in.sub [0, 1, 2, 3, 4] rfl rfl)) ⟨rfl, rfl⟩ (Nat.le_of_ble_eq_true rfl) (Nat.le_of_ble_eq_true rfl) rfl (Nat.le_of_ble_eq_true rfl) dX3_kick_12) 0 0 15 rfl rfl rfl ?_
  refine r_iload_n hC 3 dX3_kick_15 rfl 16 rfl ?_
  refine r_i2l hC 1 dX3_kick_16 (by decide) 17 rfl ?_
  refine r_ldiv hC ((impQ t r 0 0) / 1) dX3_kick_17 (by decide) (rfl) 18 rfl ?_
  refine r_lmul hC (1 * ((impQ t r 0 0) / 1)) dX3_kick_18  (rfl) 19 rfl ?_
  refine r_eql (y := gQ t r false false 0 0) (g00 _) ?_
  refine r_lstore hC 4 [(4, .long (gQ t r false false 0 0)), (3, .int 0), (0, .ref (o 0)), (1, .int 1), (2, .int 1)] dX3_kick_19 (Nat.le_of_ble_eq_true rfl) rfl 21 rfl ?_
  refine r_iload_n hC 3 dX3_kick_21 rfl 22 rfl ?_
  refine r_i2l hC 1 dX3_kick_22 (by decide) 23 rfl ?_
  refine r_aload_n hC 2 dX3_kick_23 rfl 24 rfl ?_
  refine r_iload_n hC 1 dX3_kick_24 rfl 25 rfl ?_
  refine r_iconst hC 1 dX3_kick_25 ic_1 26 rfl ?_
  refine xCall.r (r := some (.long (impQ t r 0 1))) (r_cV hC kX3 (o 0) [.int 0, .int 1] mVX3_impulse q331 (fun _ h => ⟨_, h.get 0 rfl⟩) (fun V9 h9 => (metX3_impulse1 _ _ hG o t r 0 (Nat.le_of_ble_eq_true rfl) hpl ht hm) V9 (h9.in.sub [0, 1, 2, 3, 4] rfl rfl)) ⟨rfl, rfl⟩ (Nat.le_of_ble_eq_true rfl) (Nat.le_of_ble_eq_true rfl) rfl (Nat.le_of_ble_eq_true rfl) dX3_kick_26) 0 0 29 rfl rfl rfl ?_
  refine r_iload_n hC 4 dX3_kick_29 rfl 30 rfl ?_
  refine r_i2l hC 1 dX3_kick_30 (by decide) 31 rfl ?_
  refine r_ldiv hC ((impQ t r 0 1) / 1) dX3_kick_31 (by decide) (rfl) 32 rfl ?_
  refine r_lmul hC (1 * ((impQ t r 0 1) / 1)) dX3_kick_32  (rfl) 33 rfl ?_
  refine r_eql (y := gQ t r false false 0 1) (g00 _) ?_
  refine r_lstore hC 6 [(6, .long (gQ t r false false 0 1)), (4, .long (gQ t r false false 0 0)), (3, .int 0), (0, .ref (o 0)), (1, .int 1), (2, .int 1)] dX3_kick_33 (Nat.le_of_ble_eq_true rfl) rfl 35 rfl ?_
  refine r_aload_n hC 3 dX3_kick_35 rfl 36 rfl ?_
  refine r_get (v := .ref (o 5)) hC kX3 4 rfl q188 (fun _ h => h.get 0 rfl) rfl dX3_kick_36 39 rfl ?_
  refine r_getsN hC hG hzONE q271 dX3_kick_39 42 rfl ?_
  refine r_iload_n hC 2 dX3_kick_42 rfl 43 rfl ?_
  refine r_ialdT hC htONE 0 (xix_n 0 (Nat.le_of_ble_eq_true rfl) (Nat.le_of_ble_eq_true rfl)) 0 rfl dX3_kick_43 44 rfl ?_
  refine r_dup2 hC dX3_kick_44 rfl rfl 45 rfl ?_
  refine r_lald hC 0 (xix_n 0 (Nat.le_of_ble_eq_true rfl) (Nat.le_of_ble_eq_true rfl)) (fun _ h => h.get 5 rfl) (moX r 0) (rfl) dX3_kick_45 46 rfl ?_
  refine r_eql (y := r 9) (rfl) ?_
  refine r_lload hC 1 dX3_kick_46 rfl 48 rfl ?_
  refine r_ladd hC ((r 9) + (gQ t r false false 0 0)) dX3_kick_48  (rfl) 49 rfl ?_
  refine r_last (J := xSt F V0 [(o 0, .inr (2, [.ref (o 1), .ref (o 2), .ref (o 3), .ref (o 4), .ref (o 5), .ref (o 6), .ref (o 7), .ref (o 8), .ref (o 9), .ref (o 10), .int ((r 0).toInt32)])), (o 1, .inl (0, 6, .inl (seF t r))), (o 2, .inl (0, 3, .inl (maF r))), (o 3, .inl (0, 3, .inl (plX r))), (o 4, .inl (0, 3, .inl (plY r))), (o 5, .inl (1, 3, .inr (.inl (va_up (moX r) 0 ((r 9) + (gQ t r false false 0 0)))))), (o 6, .inl (1, 3, .inr (.inl (moY r))))]) hC 0 (xix_n 0 (Nat.le_of_ble_eq_true rfl) (Nat.le_of_ble_eq_true rfl)) (fun _ h => h.get 5 rfl) dX3_kick_49 (fun _ h => h.set 5 _ rfl) 50 rfl ?_
  generalize hu1 : va_up (moX r) 0 ((r 9) + (gQ t r false false 0 0)) = u1
  refine r_aload_n hC 3 dX3_kick_50 rfl 51 rfl ?_
  refine r_get (v := .ref (o 6)) hC kX3 5 rfl q191 (fun _ h => h.get 0 rfl) rfl dX3_kick_51 54 rfl ?_
  refine r_getsN hC hG hzONE q271 dX3_kick_54 57 rfl ?_
  refine r_iload_n hC 2 dX3_kick_57 rfl 58 rfl ?_
  refine r_ialdT hC htONE 0 (xix_n 0 (Nat.le_of_ble_eq_true rfl) (Nat.le_of_ble_eq_true rfl)) 0 rfl dX3_kick_58 59 rfl ?_
  refine r_dup2 hC dX3_kick_59 rfl rfl 60 rfl ?_
  refine r_lald hC 0 (xix_n 0 (Nat.le_of_ble_eq_true rfl) (Nat.le_of_ble_eq_true rfl)) (fun _ h => h.get 6 rfl) (moY r 0) (rfl) dX3_kick_60 61 rfl ?_
  refine r_eql (y := r 10) (rfl) ?_
  refine r_lload hC 0 dX3_kick_61 rfl 63 rfl ?_
  refine r_ladd hC ((r 10) + (gQ t r false false 0 1)) dX3_kick_63  (rfl) 64 rfl ?_
  refine r_last (J := xSt F V0 [(o 0, .inr (2, [.ref (o 1), .ref (o 2), .ref (o 3), .ref (o 4), .ref (o 5), .ref (o 6), .ref (o 7), .ref (o 8), .ref (o 9), .ref (o 10), .int ((r 0).toInt32)])), (o 1, .inl (0, 6, .inl (seF t r))), (o 2, .inl (0, 3, .inl (maF r))), (o 3, .inl (0, 3, .inl (plX r))), (o 4, .inl (0, 3, .inl (plY r))), (o 5, .inl (1, 3, .inr (.inl u1))), (o 6, .inl (1, 3, .inr (.inl (va_up (moY r) 0 ((r 10) + (gQ t r false false 0 1))))))]) hC 0 (xix_n 0 (Nat.le_of_ble_eq_true rfl) (Nat.le_of_ble_eq_true rfl)) (fun _ h => h.get 6 rfl) dX3_kick_64 (fun _ h => h.set 6 _ rfl) 65 rfl ?_
  generalize hu2 : va_up (moY r) 0 ((r 10) + (gQ t r false false 0 1)) = u2
  refine r_aload_n hC 3 dX3_kick_65 rfl 66 rfl ?_
  refine r_get (v := .ref (o 5)) hC kX3 4 rfl q188 (fun _ h => h.get 0 rfl) rfl dX3_kick_66 69 rfl ?_
  refine r_getsN hC hG hzOTH q273 dX3_kick_69 72 rfl ?_
  refine r_iload_n hC 2 dX3_kick_72 rfl 73 rfl ?_
  refine r_ialdT hC htOTH 0 (xix_n 0 (Nat.le_of_ble_eq_true rfl) (Nat.le_of_ble_eq_true rfl)) 1 rfl dX3_kick_73 74 rfl ?_
  refine r_dup2 hC dX3_kick_74 rfl rfl 75 rfl ?_
  refine r_lald hC 1 (xix_n 1 (Nat.le_of_ble_eq_true rfl) (Nat.le_of_ble_eq_true rfl)) (fun _ h => h.get 5 rfl) (moX r 1) (by rw [← hu1]; rfl) dX3_kick_75 76 rfl ?_
  refine r_eql (y := r 14) (rfl) ?_
  refine r_lload hC 1 dX3_kick_76 rfl 78 rfl ?_
  refine r_lsub hC ((r 14) - (gQ t r false false 0 0)) dX3_kick_78  (rfl) 79 rfl ?_
  refine r_last (J := xSt F V0 [(o 0, .inr (2, [.ref (o 1), .ref (o 2), .ref (o 3), .ref (o 4), .ref (o 5), .ref (o 6), .ref (o 7), .ref (o 8), .ref (o 9), .ref (o 10), .int ((r 0).toInt32)])), (o 1, .inl (0, 6, .inl (seF t r))), (o 2, .inl (0, 3, .inl (maF r))), (o 3, .inl (0, 3, .inl (plX r))), (o 4, .inl (0, 3, .inl (plY r))), (o 5, .inl (1, 3, .inr (.inl (va_up u1 1 ((r 14) - (gQ t r false false 0 0)))))), (o 6, .inl (1, 3, .inr (.inl u2)))]) hC 1 (xix_n 1 (Nat.le_of_ble_eq_true rfl) (Nat.le_of_ble_eq_true rfl)) (fun _ h => h.get 5 rfl) dX3_kick_79 (fun _ h => h.set 5 _ rfl) 80 rfl ?_
  generalize hu3 : va_up u1 1 ((r 14) - (gQ t r false false 0 0)) = u3
  refine r_aload_n hC 3 dX3_kick_80 rfl 81 rfl ?_
  refine r_get (v := .ref (o 6)) hC kX3 5 rfl q191 (fun _ h => h.get 0 rfl) rfl dX3_kick_81 84 rfl ?_
  refine r_getsN hC hG hzOTH q273 dX3_kick_84 87 rfl ?_
  refine r_iload_n hC 2 dX3_kick_87 rfl 88 rfl ?_
  refine r_ialdT hC htOTH 0 (xix_n 0 (Nat.le_of_ble_eq_true rfl) (Nat.le_of_ble_eq_true rfl)) 1 rfl dX3_kick_88 89 rfl ?_
  refine r_dup2 hC dX3_kick_89 rfl rfl 90 rfl ?_
  refine r_lald hC 1 (xix_n 1 (Nat.le_of_ble_eq_true rfl) (Nat.le_of_ble_eq_true rfl)) (fun _ h => h.get 6 rfl) (moY r 1) (by rw [← hu2]; rfl) dX3_kick_90 91 rfl ?_
  refine r_eql (y := r 15) (rfl) ?_
  refine r_lload hC 0 dX3_kick_91 rfl 93 rfl ?_
  refine r_lsub hC ((r 15) - (gQ t r false false 0 1)) dX3_kick_93  (rfl) 94 rfl ?_
  refine r_last (J := xSt F V0 [(o 0, .inr (2, [.ref (o 1), .ref (o 2), .ref (o 3), .ref (o 4), .ref (o 5), .ref (o 6), .ref (o 7), .ref (o 8), .ref (o 9), .ref (o 10), .int ((r 0).toInt32)])), (o 1, .inl (0, 6, .inl (seF t r))), (o 2, .inl (0, 3, .inl (maF r))), (o 3, .inl (0, 3, .inl (plX r))), (o 4, .inl (0, 3, .inl (plY r))), (o 5, .inl (1, 3, .inr (.inl u3))), (o 6, .inl (1, 3, .inr (.inl (va_up u2 1 ((r 15) - (gQ t r false false 0 1))))))]) hC 1 (xix_n 1 (Nat.le_of_ble_eq_true rfl) (Nat.le_of_ble_eq_true rfl)) (fun _ h => h.get 6 rfl) dX3_kick_94 (fun _ h => h.set 6 _ rfl) 95 rfl ?_
  generalize hu4 : va_up u2 1 ((r 15) - (gQ t r false false 0 1)) = u4
  refine r_iinc hC 1 3 2 [(3, .int 1), (6, .long (gQ t r false false 0 1)), (4, .long (gQ t r false false 0 0)), (0, .ref (o 0)), (1, .int 1), (2, .int 1)] dX3_kick_95 rfl (by decide) (Nat.le_of_ble_eq_true rfl) rfl 98 rfl ?_
  refine r_goto hC 2 dX3_kick_98 (by decide) ?_
  refine r_iload_n hC 0 dX3_kick_2 rfl 3 rfl ?_
  refine r_iconst hC 3 dX3_kick_3 ic_3 4 rfl ?_
  refine r_icge hC 101 dX3_kick_4 (by decide) 7 rfl (fun h => absurd h (by decide)) (fun _ => ?_)
  refine r_iload_n hC 4 dX3_kick_7 rfl 8 rfl ?_
  refine r_i2l hC 1 dX3_kick_8 (by decide) 9 rfl ?_
  refine r_aload_n hC 3 dX3_kick_9 rfl 10 rfl ?_
  refine r_iload_n hC 0 dX3_kick_10 rfl 11 rfl ?_
  refine r_iconst hC 0 dX3_kick_11 ic_0 12 rfl ?_
  refine xCall.r (r := some (.long (impQ t r 1 0))) (r_cV hC kX3 (o 0) [.int 1, .int 0] mVX3_impulse q331 (fun _ h => ⟨_, h.get 0 rfl⟩) (fun V9 h9 => (metX3_impulse0 _ _ hG o t r 1 (Nat.le_of_ble_eq_true rfl) hpl ht hm) V9 (h9.in.sub [0, 1, 2, 3, 4] rfl rfl)) ⟨rfl, rfl⟩ (Nat.le_of_ble_eq_true rfl) (Nat.le_of_ble_eq_true rfl) rfl (Nat.le_of_ble_eq_true rfl) dX3_kick_12) 0 0 15 rfl rfl rfl ?_
  refine r_iload_n hC 5 dX3_kick_15 rfl 16 rfl ?_
  refine r_i2l hC 1 dX3_kick_16 (by decide) 17 rfl ?_
  refine r_ldiv hC ((impQ t r 1 0) / 1) dX3_kick_17 (by decide) (rfl) 18 rfl ?_
  refine r_lmul hC (1 * ((impQ t r 1 0) / 1)) dX3_kick_18  (rfl) 19 rfl ?_
  refine r_eql (y := gQ t r false false 1 0) (g00 _) ?_
  refine r_lstore hC 4 [(4, .long (gQ t r false false 1 0)), (3, .int 1), (6, .long (gQ t r false false 0 1)), (0, .ref (o 0)), (1, .int 1), (2, .int 1)] dX3_kick_19 (Nat.le_of_ble_eq_true rfl) rfl 21 rfl ?_
  refine r_iload_n hC 4 dX3_kick_21 rfl 22 rfl ?_
  refine r_i2l hC 1 dX3_kick_22 (by decide) 23 rfl ?_
  refine r_aload_n hC 3 dX3_kick_23 rfl 24 rfl ?_
  refine r_iload_n hC 1 dX3_kick_24 rfl 25 rfl ?_
  refine r_iconst hC 1 dX3_kick_25 ic_1 26 rfl ?_
  refine xCall.r (r := some (.long (impQ t r 1 1))) (r_cV hC kX3 (o 0) [.int 1, .int 1] mVX3_impulse q331 (fun _ h => ⟨_, h.get 0 rfl⟩) (fun V9 h9 => (metX3_impulse1 _ _ hG o t r 1 (Nat.le_of_ble_eq_true rfl) hpl ht hm) V9 (h9.in.sub [0, 1, 2, 3, 4] rfl rfl)) ⟨rfl, rfl⟩ (Nat.le_of_ble_eq_true rfl) (Nat.le_of_ble_eq_true rfl) rfl (Nat.le_of_ble_eq_true rfl) dX3_kick_26) 0 0 29 rfl rfl rfl ?_
  refine r_iload_n hC 5 dX3_kick_29 rfl 30 rfl ?_
  refine r_i2l hC 1 dX3_kick_30 (by decide) 31 rfl ?_
  refine r_ldiv hC ((impQ t r 1 1) / 1) dX3_kick_31 (by decide) (rfl) 32 rfl ?_
  refine r_lmul hC (1 * ((impQ t r 1 1) / 1)) dX3_kick_32  (rfl) 33 rfl ?_
  refine r_eql (y := gQ t r false false 1 1) (g00 _) ?_
  refine r_lstore hC 6 [(6, .long (gQ t r false false 1 1)), (4, .long (gQ t r false false 1 0)), (3, .int 1), (0, .ref (o 0)), (1, .int 1), (2, .int 1)] dX3_kick_33 (Nat.le_of_ble_eq_true rfl) rfl 35 rfl ?_
  refine r_aload_n hC 3 dX3_kick_35 rfl 36 rfl ?_
  refine r_get (v := .ref (o 5)) hC kX3 4 rfl q188 (fun _ h => h.get 0 rfl) rfl dX3_kick_36 39 rfl ?_
  refine r_getsN hC hG hzONE q271 dX3_kick_39 42 rfl ?_
  refine r_iload_n hC 2 dX3_kick_42 rfl 43 rfl ?_
  refine r_ialdT hC htONE 1 (xix_n 1 (Nat.le_of_ble_eq_true rfl) (Nat.le_of_ble_eq_true rfl)) 0 rfl dX3_kick_43 44 rfl ?_
  refine r_dup2 hC dX3_kick_44 rfl rfl 45 rfl ?_
  refine r_lald hC 0 (xix_n 0 (Nat.le_of_ble_eq_true rfl) (Nat.le_of_ble_eq_true rfl)) (fun _ h => h.get 5 rfl) ((r 9) + (gQ t r false false 0 0)) (by rw [← hu3, ← hu1]; rfl) dX3_kick_45 46 rfl ?_
  refine r_lload hC 1 dX3_kick_46 rfl 48 rfl ?_
  refine r_ladd hC (((r 9) + (gQ t r false false 0 0)) + (gQ t r false false 1 0)) dX3_kick_48  (rfl) 49 rfl ?_
  refine r_last (J := xSt F V0 [(o 0, .inr (2, [.ref (o 1), .ref (o 2), .ref (o 3), .ref (o 4), .ref (o 5), .ref (o 6), .ref (o 7), .ref (o 8), .ref (o 9), .ref (o 10), .int ((r 0).toInt32)])), (o 1, .inl (0, 6, .inl (seF t r))), (o 2, .inl (0, 3, .inl (maF r))), (o 3, .inl (0, 3, .inl (plX r))), (o 4, .inl (0, 3, .inl (plY r))), (o 5, .inl (1, 3, .inr (.inl (va_up u3 0 (((r 9) + (gQ t r false false 0 0)) + (gQ t r false false 1 0)))))), (o 6, .inl (1, 3, .inr (.inl u4)))]) hC 0 (xix_n 0 (Nat.le_of_ble_eq_true rfl) (Nat.le_of_ble_eq_true rfl)) (fun _ h => h.get 5 rfl) dX3_kick_49 (fun _ h => h.set 5 _ rfl) 50 rfl ?_
  generalize hu5 : va_up u3 0 (((r 9) + (gQ t r false false 0 0)) + (gQ t r false false 1 0)) = u5
  refine r_aload_n hC 3 dX3_kick_50 rfl 51 rfl ?_
  refine r_get (v := .ref (o 6)) hC kX3 5 rfl q191 (fun _ h => h.get 0 rfl) rfl dX3_kick_51 54 rfl ?_
  refine r_getsN hC hG hzONE q271 dX3_kick_54 57 rfl ?_
  refine r_iload_n hC 2 dX3_kick_57 rfl 58 rfl ?_
  refine r_ialdT hC htONE 1 (xix_n 1 (Nat.le_of_ble_eq_true rfl) (Nat.le_of_ble_eq_true rfl)) 0 rfl dX3_kick_58 59 rfl ?_
  refine r_dup2 hC dX3_kick_59 rfl rfl 60 rfl ?_
  refine r_lald hC 0 (xix_n 0 (Nat.le_of_ble_eq_true rfl) (Nat.le_of_ble_eq_true rfl)) (fun _ h => h.get 6 rfl) ((r 10) + (gQ t r false false 0 1)) (by rw [← hu4, ← hu2]; rfl) dX3_kick_60 61 rfl ?_
  refine r_lload hC 0 dX3_kick_61 rfl 63 rfl ?_
  refine r_ladd hC (((r 10) + (gQ t r false false 0 1)) + (gQ t r false false 1 1)) dX3_kick_63  (rfl) 64 rfl ?_
  refine r_last (J := xSt F V0 [(o 0, .inr (2, [.ref (o 1), .ref (o 2), .ref (o 3), .ref (o 4), .ref (o 5), .ref (o 6), .ref (o 7), .ref (o 8), .ref (o 9), .ref (o 10), .int ((r 0).toInt32)])), (o 1, .inl (0, 6, .inl (seF t r))), (o 2, .inl (0, 3, .inl (maF r))), (o 3, .inl (0, 3, .inl (plX r))), (o 4, .inl (0, 3, .inl (plY r))), (o 5, .inl (1, 3, .inr (.inl u5))), (o 6, .inl (1, 3, .inr (.inl (va_up u4 0 (((r 10) + (gQ t r false false 0 1)) + (gQ t r false false 1 1))))))]) hC 0 (xix_n 0 (Nat.le_of_ble_eq_true rfl) (Nat.le_of_ble_eq_true rfl)) (fun _ h => h.get 6 rfl) dX3_kick_64 (fun _ h => h.set 6 _ rfl) 65 rfl ?_
  generalize hu6 : va_up u4 0 (((r 10) + (gQ t r false false 0 1)) + (gQ t r false false 1 1)) = u6
  refine r_aload_n hC 3 dX3_kick_65 rfl 66 rfl ?_
  refine r_get (v := .ref (o 5)) hC kX3 4 rfl q188 (fun _ h => h.get 0 rfl) rfl dX3_kick_66 69 rfl ?_
  refine r_getsN hC hG hzOTH q273 dX3_kick_69 72 rfl ?_
  refine r_iload_n hC 2 dX3_kick_72 rfl 73 rfl ?_
  refine r_ialdT hC htOTH 1 (xix_n 1 (Nat.le_of_ble_eq_true rfl) (Nat.le_of_ble_eq_true rfl)) 2 rfl dX3_kick_73 74 rfl ?_
  refine r_dup2 hC dX3_kick_74 rfl rfl 75 rfl ?_
  refine r_lald hC 2 (xix_n 2 (Nat.le_of_ble_eq_true rfl) (Nat.le_of_ble_eq_true rfl)) (fun _ h => h.get 5 rfl) (moX r 2) (by rw [← hu5, ← hu3, ← hu1]; rfl) dX3_kick_75 76 rfl ?_
  refine r_eql (y := r 19) (rfl) ?_
  refine r_lload hC 1 dX3_kick_76 rfl 78 rfl ?_
  refine r_lsub hC ((r 19) - (gQ t r false false 1 0)) dX3_kick_78  (rfl) 79 rfl ?_
  refine r_last (J := xSt F V0 [(o 0, .inr (2, [.ref (o 1), .ref (o 2), .ref (o 3), .ref (o 4), .ref (o 5), .ref (o 6), .ref (o 7), .ref (o 8), .ref (o 9), .ref (o 10), .int ((r 0).toInt32)])), (o 1, .inl (0, 6, .inl (seF t r))), (o 2, .inl (0, 3, .inl (maF r))), (o 3, .inl (0, 3, .inl (plX r))), (o 4, .inl (0, 3, .inl (plY r))), (o 5, .inl (1, 3, .inr (.inl (va_up u5 2 ((r 19) - (gQ t r false false 1 0)))))), (o 6, .inl (1, 3, .inr (.inl u6)))]) hC 2 (xix_n 2 (Nat.le_of_ble_eq_true rfl) (Nat.le_of_ble_eq_true rfl)) (fun _ h => h.get 5 rfl) dX3_kick_79 (fun _ h => h.set 5 _ rfl) 80 rfl ?_
  generalize hu7 : va_up u5 2 ((r 19) - (gQ t r false false 1 0)) = u7
  refine r_aload_n hC 3 dX3_kick_80 rfl 81 rfl ?_
  refine r_get (v := .ref (o 6)) hC kX3 5 rfl q191 (fun _ h => h.get 0 rfl) rfl dX3_kick_81 84 rfl ?_
  refine r_getsN hC hG hzOTH q273 dX3_kick_84 87 rfl ?_
  refine r_iload_n hC 2 dX3_kick_87 rfl 88 rfl ?_
  refine r_ialdT hC htOTH 1 (xix_n 1 (Nat.le_of_ble_eq_true rfl) (Nat.le_of_ble_eq_true rfl)) 2 rfl dX3_kick_88 89 rfl ?_
  refine r_dup2 hC dX3_kick_89 rfl rfl 90 rfl ?_
  refine r_lald hC 2 (xix_n 2 (Nat.le_of_ble_eq_true rfl) (Nat.le_of_ble_eq_true rfl)) (fun _ h => h.get 6 rfl) (moY r 2) (by rw [← hu6, ← hu4, ← hu2]; rfl) dX3_kick_90 91 rfl ?_
  refine r_eql (y := r 20) (rfl) ?_
  refine r_lload hC 0 dX3_kick_91 rfl 93 rfl ?_
  refine r_lsub hC ((r 20) - (gQ t r false false 1 1)) dX3_kick_93  (rfl) 94 rfl ?_
  refine r_last (J := xSt F V0 [(o 0, .inr (2, [.ref (o 1), .ref (o 2), .ref (o 3), .ref (o 4), .ref (o 5), .ref (o 6), .ref (o 7), .ref (o 8), .ref (o 9), .ref (o 10), .int ((r 0).toInt32)])), (o 1, .inl (0, 6, .inl (seF t r))), (o 2, .inl (0, 3, .inl (maF r))), (o 3, .inl (0, 3, .inl (plX r))), (o 4, .inl (0, 3, .inl (plY r))), (o 5, .inl (1, 3, .inr (.inl u7))), (o 6, .inl (1, 3, .inr (.inl (va_up u6 2 ((r 20) - (gQ t r false false 1 1))))))]) hC 2 (xix_n 2 (Nat.le_of_ble_eq_true rfl) (Nat.le_of_ble_eq_true rfl)) (fun _ h => h.get 6 rfl) dX3_kick_94 (fun _ h => h.set 6 _ rfl) 95 rfl ?_
  generalize hu8 : va_up u6 2 ((r 20) - (gQ t r false false 1 1)) = u8
  refine r_iinc hC 2 3 2 [(3, .int 2), (6, .long (gQ t r false false 1 1)), (4, .long (gQ t r false false 1 0)), (0, .ref (o 0)), (1, .int 1), (2, .int 1)] dX3_kick_95 rfl (by decide) (Nat.le_of_ble_eq_true rfl) rfl 98 rfl ?_
  refine r_goto hC 2 dX3_kick_98 (by decide) ?_
  refine r_iload_n hC 0 dX3_kick_2 rfl 3 rfl ?_
  refine r_iconst hC 3 dX3_kick_3 ic_3 4 rfl ?_
  refine r_icge hC 101 dX3_kick_4 (by decide) 7 rfl (fun h => absurd h (by decide)) (fun _ => ?_)
  refine r_iload_n hC 4 dX3_kick_7 rfl 8 rfl ?_
  refine r_i2l hC 1 dX3_kick_8 (by decide) 9 rfl ?_
  refine r_aload_n hC 3 dX3_kick_9 rfl 10 rfl ?_
  refine r_iload_n hC 0 dX3_kick_10 rfl 11 rfl ?_
  refine r_iconst hC 0 dX3_kick_11 ic_0 12 rfl ?_
  refine xCall.r (r := some (.long (impQ t r 2 0))) (r_cV hC kX3 (o 0) [.int 2, .int 0] mVX3_impulse q331 (fun _ h => ⟨_, h.get 0 rfl⟩) (fun V9 h9 => (metX3_impulse0 _ _ hG o t r 2 (Nat.le_of_ble_eq_true rfl) hpl ht hm) V9 (h9.in.sub [0, 1, 2, 3, 4] rfl rfl)) ⟨rfl, rfl⟩ (Nat.le_of_ble_eq_true rfl) (Nat.le_of_ble_eq_true rfl) rfl (Nat.le_of_ble_eq_true rfl) dX3_kick_12) 0 0 15 rfl rfl rfl ?_
  refine r_iload_n hC 5 dX3_kick_15 rfl 16 rfl ?_
  refine r_i2l hC 1 dX3_kick_16 (by decide) 17 rfl ?_
  refine r_ldiv hC ((impQ t r 2 0) / 1) dX3_kick_17 (by decide) (rfl) 18 rfl ?_
  refine r_lmul hC (1 * ((impQ t r 2 0) / 1)) dX3_kick_18  (rfl) 19 rfl ?_
  refine r_eql (y := gQ t r false false 2 0) (g00 _) ?_
  refine r_lstore hC 4 [(4, .long (gQ t r false false 2 0)), (3, .int 2), (6, .long (gQ t r false false 1 1)), (0, .ref (o 0)), (1, .int 1), (2, .int 1)] dX3_kick_19 (Nat.le_of_ble_eq_true rfl) rfl 21 rfl ?_
  refine r_iload_n hC 4 dX3_kick_21 rfl 22 rfl ?_
  refine r_i2l hC 1 dX3_kick_22 (by decide) 23 rfl ?_
  refine r_aload_n hC 3 dX3_kick_23 rfl 24 rfl ?_
  refine r_iload_n hC 1 dX3_kick_24 rfl 25 rfl ?_
  refine r_iconst hC 1 dX3_kick_25 ic_1 26 rfl ?_
  refine xCall.r (r := some (.long (impQ t r 2 1))) (r_cV hC kX3 (o 0) [.int 2, .int 1] mVX3_impulse q331 (fun _ h => ⟨_, h.get 0 rfl⟩) (fun V9 h9 => (metX3_impulse1 _ _ hG o t r 2 (Nat.le_of_ble_eq_true rfl) hpl ht hm) V9 (h9.in.sub [0, 1, 2, 3, 4] rfl rfl)) ⟨rfl, rfl⟩ (Nat.le_of_ble_eq_true rfl) (Nat.le_of_ble_eq_true rfl) rfl (Nat.le_of_ble_eq_true rfl) dX3_kick_26) 0 0 29 rfl rfl rfl ?_
  refine r_iload_n hC 5 dX3_kick_29 rfl 30 rfl ?_
  refine r_i2l hC 1 dX3_kick_30 (by decide) 31 rfl ?_
  refine r_ldiv hC ((impQ t r 2 1) / 1) dX3_kick_31 (by decide) (rfl) 32 rfl ?_
  refine r_lmul hC (1 * ((impQ t r 2 1) / 1)) dX3_kick_32  (rfl) 33 rfl ?_
  refine r_eql (y := gQ t r false false 2 1) (g00 _) ?_
  refine r_lstore hC 6 [(6, .long (gQ t r false false 2 1)), (4, .long (gQ t r false false 2 0)), (3, .int 2), (0, .ref (o 0)), (1, .int 1), (2, .int 1)] dX3_kick_33 (Nat.le_of_ble_eq_true rfl) rfl 35 rfl ?_
  refine r_aload_n hC 3 dX3_kick_35 rfl 36 rfl ?_
  refine r_get (v := .ref (o 5)) hC kX3 4 rfl q188 (fun _ h => h.get 0 rfl) rfl dX3_kick_36 39 rfl ?_
  refine r_getsN hC hG hzONE q271 dX3_kick_39 42 rfl ?_
  refine r_iload_n hC 2 dX3_kick_42 rfl 43 rfl ?_
  refine r_ialdT hC htONE 2 (xix_n 2 (Nat.le_of_ble_eq_true rfl) (Nat.le_of_ble_eq_true rfl)) 1 rfl dX3_kick_43 44 rfl ?_
  refine r_dup2 hC dX3_kick_44 rfl rfl 45 rfl ?_
  refine r_lald hC 1 (xix_n 1 (Nat.le_of_ble_eq_true rfl) (Nat.le_of_ble_eq_true rfl)) (fun _ h => h.get 5 rfl) ((r 14) - (gQ t r false false 0 0)) (by rw [← hu7, ← hu5, ← hu3]; rfl) dX3_kick_45 46 rfl ?_
  refine r_lload hC 1 dX3_kick_46 rfl 48 rfl ?_
  refine r_ladd hC (((r 14) - (gQ t r false false 0 0)) + (gQ t r false false 2 0)) dX3_kick_48  (rfl) 49 rfl ?_
  refine r_last (J := xSt F V0 [(o 0, .inr (2, [.ref (o 1), .ref (o 2), .ref (o 3), .ref (o 4), .ref (o 5), .ref (o 6), .ref (o 7), .ref (o 8), .ref (o 9), .ref (o 10), .int ((r 0).toInt32)])), (o 1, .inl (0, 6, .inl (seF t r))), (o 2, .inl (0, 3, .inl (maF r))), (o 3, .inl (0, 3, .inl (plX r))), (o 4, .inl (0, 3, .inl (plY r))), (o 5, .inl (1, 3, .inr (.inl (va_up u7 1 (((r 14) - (gQ t r false false 0 0)) + (gQ t r false false 2 0)))))), (o 6, .inl (1, 3, .inr (.inl u8)))]) hC 1 (xix_n 1 (Nat.le_of_ble_eq_true rfl) (Nat.le_of_ble_eq_true rfl)) (fun _ h => h.get 5 rfl) dX3_kick_49 (fun _ h => h.set 5 _ rfl) 50 rfl ?_
  generalize hu9 : va_up u7 1 (((r 14) - (gQ t r false false 0 0)) + (gQ t r false false 2 0)) = u9
  refine r_aload_n hC 3 dX3_kick_50 rfl 51 rfl ?_
  refine r_get (v := .ref (o 6)) hC kX3 5 rfl q191 (fun _ h => h.get 0 rfl) rfl dX3_kick_51 54 rfl ?_
  refine r_getsN hC hG hzONE q271 dX3_kick_54 57 rfl ?_
  refine r_iload_n hC 2 dX3_kick_57 rfl 58 rfl ?_
  refine r_ialdT hC htONE 2 (xix_n 2 (Nat.le_of_ble_eq_true rfl) (Nat.le_of_ble_eq_true rfl)) 1 rfl dX3_kick_58 59 rfl ?_
  refine r_dup2 hC dX3_kick_59 rfl rfl 60 rfl ?_
  refine r_lald hC 1 (xix_n 1 (Nat.le_of_ble_eq_true rfl) (Nat.le_of_ble_eq_true rfl)) (fun _ h => h.get 6 rfl) ((r 15) - (gQ t r false false 0 1)) (by rw [← hu8, ← hu6, ← hu4]; rfl) dX3_kick_60 61 rfl ?_
  refine r_lload hC 0 dX3_kick_61 rfl 63 rfl ?_
  refine r_ladd hC (((r 15) - (gQ t r false false 0 1)) + (gQ t r false false 2 1)) dX3_kick_63  (rfl) 64 rfl ?_
  refine r_last (J := xSt F V0 [(o 0, .inr (2, [.ref (o 1), .ref (o 2), .ref (o 3), .ref (o 4), .ref (o 5), .ref (o 6), .ref (o 7), .ref (o 8), .ref (o 9), .ref (o 10), .int ((r 0).toInt32)])), (o 1, .inl (0, 6, .inl (seF t r))), (o 2, .inl (0, 3, .inl (maF r))), (o 3, .inl (0, 3, .inl (plX r))), (o 4, .inl (0, 3, .inl (plY r))), (o 5, .inl (1, 3, .inr (.inl u9))), (o 6, .inl (1, 3, .inr (.inl (va_up u8 1 (((r 15) - (gQ t r false false 0 1)) + (gQ t r false false 2 1))))))]) hC 1 (xix_n 1 (Nat.le_of_ble_eq_true rfl) (Nat.le_of_ble_eq_true rfl)) (fun _ h => h.get 6 rfl) dX3_kick_64 (fun _ h => h.set 6 _ rfl) 65 rfl ?_
  generalize hu10 : va_up u8 1 (((r 15) - (gQ t r false false 0 1)) + (gQ t r false false 2 1)) = u10
  refine r_aload_n hC 3 dX3_kick_65 rfl 66 rfl ?_
  refine r_get (v := .ref (o 5)) hC kX3 4 rfl q188 (fun _ h => h.get 0 rfl) rfl dX3_kick_66 69 rfl ?_
  refine r_getsN hC hG hzOTH q273 dX3_kick_69 72 rfl ?_
  refine r_iload_n hC 2 dX3_kick_72 rfl 73 rfl ?_
  refine r_ialdT hC htOTH 2 (xix_n 2 (Nat.le_of_ble_eq_true rfl) (Nat.le_of_ble_eq_true rfl)) 2 rfl dX3_kick_73 74 rfl ?_
  refine r_dup2 hC dX3_kick_74 rfl rfl 75 rfl ?_
  refine r_lald hC 2 (xix_n 2 (Nat.le_of_ble_eq_true rfl) (Nat.le_of_ble_eq_true rfl)) (fun _ h => h.get 5 rfl) ((r 19) - (gQ t r false false 1 0)) (by rw [← hu9, ← hu7]; rfl) dX3_kick_75 76 rfl ?_
  refine r_lload hC 1 dX3_kick_76 rfl 78 rfl ?_
  refine r_lsub hC (((r 19) - (gQ t r false false 1 0)) - (gQ t r false false 2 0)) dX3_kick_78  (rfl) 79 rfl ?_
  refine r_last (J := xSt F V0 [(o 0, .inr (2, [.ref (o 1), .ref (o 2), .ref (o 3), .ref (o 4), .ref (o 5), .ref (o 6), .ref (o 7), .ref (o 8), .ref (o 9), .ref (o 10), .int ((r 0).toInt32)])), (o 1, .inl (0, 6, .inl (seF t r))), (o 2, .inl (0, 3, .inl (maF r))), (o 3, .inl (0, 3, .inl (plX r))), (o 4, .inl (0, 3, .inl (plY r))), (o 5, .inl (1, 3, .inr (.inl (va_up u9 2 (((r 19) - (gQ t r false false 1 0)) - (gQ t r false false 2 0)))))), (o 6, .inl (1, 3, .inr (.inl u10)))]) hC 2 (xix_n 2 (Nat.le_of_ble_eq_true rfl) (Nat.le_of_ble_eq_true rfl)) (fun _ h => h.get 5 rfl) dX3_kick_79 (fun _ h => h.set 5 _ rfl) 80 rfl ?_
  generalize hu11 : va_up u9 2 (((r 19) - (gQ t r false false 1 0)) - (gQ t r false false 2 0)) = u11
  refine r_aload_n hC 3 dX3_kick_80 rfl 81 rfl ?_
  refine r_get (v := .ref (o 6)) hC kX3 5 rfl q191 (fun _ h => h.get 0 rfl) rfl dX3_kick_81 84 rfl ?_
  refine r_getsN hC hG hzOTH q273 dX3_kick_84 87 rfl ?_
  refine r_iload_n hC 2 dX3_kick_87 rfl 88 rfl ?_
  refine r_ialdT hC htOTH 2 (xix_n 2 (Nat.le_of_ble_eq_true rfl) (Nat.le_of_ble_eq_true rfl)) 2 rfl dX3_kick_88 89 rfl ?_
  refine r_dup2 hC dX3_kick_89 rfl rfl 90 rfl ?_
  refine r_lald hC 2 (xix_n 2 (Nat.le_of_ble_eq_true rfl) (Nat.le_of_ble_eq_true rfl)) (fun _ h => h.get 6 rfl) ((r 20) - (gQ t r false false 1 1)) (by rw [← hu10, ← hu8]; rfl) dX3_kick_90 91 rfl ?_
  refine r_lload hC 0 dX3_kick_91 rfl 93 rfl ?_
  refine r_lsub hC (((r 20) - (gQ t r false false 1 1)) - (gQ t r false false 2 1)) dX3_kick_93  (rfl) 94 rfl ?_
  refine r_last (J := xSt F V0 [(o 0, .inr (2, [.ref (o 1), .ref (o 2), .ref (o 3), .ref (o 4), .ref (o 5), .ref (o 6), .ref (o 7), .ref (o 8), .ref (o 9), .ref (o 10), .int ((r 0).toInt32)])), (o 1, .inl (0, 6, .inl (seF t r))), (o 2, .inl (0, 3, .inl (maF r))), (o 3, .inl (0, 3, .inl (plX r))), (o 4, .inl (0, 3, .inl (plY r))), (o 5, .inl (1, 3, .inr (.inl u11))), (o 6, .inl (1, 3, .inr (.inl (va_up u10 2 (((r 20) - (gQ t r false false 1 1)) - (gQ t r false false 2 1))))))]) hC 2 (xix_n 2 (Nat.le_of_ble_eq_true rfl) (Nat.le_of_ble_eq_true rfl)) (fun _ h => h.get 6 rfl) dX3_kick_94 (fun _ h => h.set 6 _ rfl) 95 rfl ?_
  generalize hu12 : va_up u10 2 (((r 20) - (gQ t r false false 1 1)) - (gQ t r false false 2 1)) = u12
  refine r_iinc hC 3 3 2 [(3, .int 3), (6, .long (gQ t r false false 2 1)), (4, .long (gQ t r false false 2 0)), (0, .ref (o 0)), (1, .int 1), (2, .int 1)] dX3_kick_95 rfl (by decide) (Nat.le_of_ble_eq_true rfl) rfl 98 rfl ?_
  refine r_goto hC 2 dX3_kick_98 (by decide) ?_
  refine r_iload_n hC 0 dX3_kick_2 rfl 3 rfl ?_
  refine r_iconst hC 3 dX3_kick_3 ic_3 4 rfl ?_
  refine r_icge hC 101 dX3_kick_4 (by decide) 7 rfl (fun _ => ?_) (fun h => absurd h (by decide))
  refine r_iconst hC 0 dX3_kick_101 ic_0 102 rfl ?_
  refine r_istore_n hC 3 [(3, .int 0), (6, .long (gQ t r false false 2 1)), (4, .long (gQ t r false false 2 0)), (0, .ref (o 0)), (1, .int 1), (2, .int 1)] dX3_kick_102 rfl (Nat.le_of_ble_eq_true rfl) rfl 103 rfl ?_
  refine r_iload_n hC 0 dX3_kick_103 rfl 104 rfl ?_
  refine r_iconst hC 3 dX3_kick_104 ic_3 105 rfl ?_
  refine r_icge hC 138 dX3_kick_105 (by decide) 108 rfl (fun h => absurd h (by decide)) (fun _ => ?_)
  refine r_aload_n hC 3 dX3_kick_108 rfl 109 rfl ?_
  refine r_get (v := .ref (o 5)) hC kX3 4 rfl q188 (fun _ h => h.get 0 rfl) rfl dX3_kick_109 112 rfl ?_
  refine r_iload_n hC 0 dX3_kick_112 rfl 113 rfl ?_
  refine r_lald hC 0 (xix_n 0 (Nat.le_of_ble_eq_true rfl) (Nat.le_of_ble_eq_true rfl)) (fun _ h => h.get 5 rfl) (((r 9) + (gQ t r false false 0 0)) + (gQ t r false false 1 0)) (by rw [← hu11, ← hu9, ← hu7, ← hu5]; rfl) dX3_kick_113 114 rfl ?_
  refine r_ldc2 hC q335 dX3_kick_114 117 rfl ?_
  rcases Bool.eq_false_or_eq_true (m_in (((r 9) + (gQ t r false false 0 0)) + (gQ t r false false 1 0)) (-1000000000) 1000000000) with hk13 | hk13
  · skip
    refine xCall.r (r := none) (r_cS hC [.long (((r 9) + (gQ t r false false 0 0)) + (gQ t r false false 1 0)), .long 1000000000] mSX3_check q336 (fun V9 h9 => (metX3_checkG _ _ hG (((r 9) + (gQ t r false false 0 0)) + (gQ t r false false 1 0)) 1000000000 hk13) V9 xIn.nil) ⟨rfl, rfl⟩ (Nat.le_of_ble_eq_true rfl) (Nat.le_of_ble_eq_true rfl) rfl (Nat.le_of_ble_eq_true rfl) dX3_kick_117) 0 0 120 rfl rfl rfl ?_
    refine r_aload_n hC 3 dX3_kick_120 rfl 121 rfl ?_
    refine r_get (v := .ref (o 6)) hC kX3 5 rfl q191 (fun _ h => h.get 0 rfl) rfl dX3_kick_121 124 rfl ?_
    refine r_iload_n hC 0 dX3_kick_124 rfl 125 rfl ?_
    refine r_lald hC 0 (xix_n 0 (Nat.le_of_ble_eq_true rfl) (Nat.le_of_ble_eq_true rfl)) (fun _ h => h.get 6 rfl) (((r 10) + (gQ t r false false 0 1)) + (gQ t r false false 1 1)) (by rw [← hu12, ← hu10, ← hu8, ← hu6]; rfl) dX3_kick_125 126 rfl ?_
    refine r_ldc2 hC q335 dX3_kick_126 129 rfl ?_
    rcases Bool.eq_false_or_eq_true (m_in (((r 10) + (gQ t r false false 0 1)) + (gQ t r false false 1 1)) (-1000000000) 1000000000) with hk14 | hk14
    · skip
      refine xCall.r (r := none) (r_cS hC [.long (((r 10) + (gQ t r false false 0 1)) + (gQ t r false false 1 1)), .long 1000000000] mSX3_check q336 (fun V9 h9 => (metX3_checkG _ _ hG (((r 10) + (gQ t r false false 0 1)) + (gQ t r false false 1 1)) 1000000000 hk14) V9 xIn.nil) ⟨rfl, rfl⟩ (Nat.le_of_ble_eq_true rfl) (Nat.le_of_ble_eq_true rfl) rfl (Nat.le_of_ble_eq_true rfl) dX3_kick_129) 0 0 132 rfl rfl rfl ?_
      refine r_iinc hC 1 3 0 [(3, .int 1), (6, .long (gQ t r false false 2 1)), (4, .long (gQ t r false false 2 0)), (0, .ref (o 0)), (1, .int 1), (2, .int 1)] dX3_kick_132 rfl (by decide) (Nat.le_of_ble_eq_true rfl) rfl 135 rfl ?_
      refine r_goto hC 103 dX3_kick_135 (by decide) ?_
      refine r_iload_n hC 0 dX3_kick_103 rfl 104 rfl ?_
      refine r_iconst hC 3 dX3_kick_104 ic_3 105 rfl ?_
      refine r_icge hC 138 dX3_kick_105 (by decide) 108 rfl (fun h => absurd h (by decide)) (fun _ => ?_)
      refine r_aload_n hC 3 dX3_kick_108 rfl 109 rfl ?_
      refine r_get (v := .ref (o 5)) hC kX3 4 rfl q188 (fun _ h => h.get 0 rfl) rfl dX3_kick_109 112 rfl ?_
      refine r_iload_n hC 0 dX3_kick_112 rfl 113 rfl ?_
      refine r_lald hC 1 (xix_n 1 (Nat.le_of_ble_eq_true rfl) (Nat.le_of_ble_eq_true rfl)) (fun _ h => h.get 5 rfl) (((r 14) - (gQ t r false false 0 0)) + (gQ t r false false 2 0)) (by rw [← hu11, ← hu9]; rfl) dX3_kick_113 114 rfl ?_
      refine r_ldc2 hC q335 dX3_kick_114 117 rfl ?_
      rcases Bool.eq_false_or_eq_true (m_in (((r 14) - (gQ t r false false 0 0)) + (gQ t r false false 2 0)) (-1000000000) 1000000000) with hk15 | hk15
      · skip
        refine xCall.r (r := none) (r_cS hC [.long (((r 14) - (gQ t r false false 0 0)) + (gQ t r false false 2 0)), .long 1000000000] mSX3_check q336 (fun V9 h9 => (metX3_checkG _ _ hG (((r 14) - (gQ t r false false 0 0)) + (gQ t r false false 2 0)) 1000000000 hk15) V9 xIn.nil) ⟨rfl, rfl⟩ (Nat.le_of_ble_eq_true rfl) (Nat.le_of_ble_eq_true rfl) rfl (Nat.le_of_ble_eq_true rfl) dX3_kick_117) 0 0 120 rfl rfl rfl ?_
        refine r_aload_n hC 3 dX3_kick_120 rfl 121 rfl ?_
        refine r_get (v := .ref (o 6)) hC kX3 5 rfl q191 (fun _ h => h.get 0 rfl) rfl dX3_kick_121 124 rfl ?_
        refine r_iload_n hC 0 dX3_kick_124 rfl 125 rfl ?_
        refine r_lald hC 1 (xix_n 1 (Nat.le_of_ble_eq_true rfl) (Nat.le_of_ble_eq_true rfl)) (fun _ h => h.get 6 rfl) (((r 15) - (gQ t r false false 0 1)) + (gQ t r false false 2 1)) (by rw [← hu12, ← hu10]; rfl) dX3_kick_125 126 rfl ?_
        refine r_ldc2 hC q335 dX3_kick_126 129 rfl ?_
        rcases Bool.eq_false_or_eq_true (m_in (((r 15) - (gQ t r false false 0 1)) + (gQ t r false false 2 1)) (-1000000000) 1000000000) with hk16 | hk16
        · skip
          refine xCall.r (r := none) (r_cS hC [.long (((r 15) - (gQ t r false false 0 1)) + (gQ t r false false 2 1)), .long 1000000000] mSX3_check q336 (fun V9 h9 => (metX3_checkG _ _ hG (((r 15) - (gQ t r false false 0 1)) + (gQ t r false false 2 1)) 1000000000 hk16) V9 xIn.nil) ⟨rfl, rfl⟩ (Nat.le_of_ble_eq_true rfl) (Nat.le_of_ble_eq_true rfl) rfl (Nat.le_of_ble_eq_true rfl) dX3_kick_129) 0 0 132 rfl rfl rfl ?_
          refine r_iinc hC 2 3 0 [(3, .int 2), (6, .long (gQ t r false false 2 1)), (4, .long (gQ t r false false 2 0)), (0, .ref (o 0)), (1, .int 1), (2, .int 1)] dX3_kick_132 rfl (by decide) (Nat.le_of_ble_eq_true rfl) rfl 135 rfl ?_
          refine r_goto hC 103 dX3_kick_135 (by decide) ?_
          refine r_iload_n hC 0 dX3_kick_103 rfl 104 rfl ?_
          refine r_iconst hC 3 dX3_kick_104 ic_3 105 rfl ?_
          refine r_icge hC 138 dX3_kick_105 (by decide) 108 rfl (fun h => absurd h (by decide)) (fun _ => ?_)
          refine r_aload_n hC 3 dX3_kick_108 rfl 109 rfl ?_
          refine r_get (v := .ref (o 5)) hC kX3 4 rfl q188 (fun _ h => h.get 0 rfl) rfl dX3_kick_109 112 rfl ?_
          refine r_iload_n hC 0 dX3_kick_112 rfl 113 rfl ?_
          refine r_lald hC 2 (xix_n 2 (Nat.le_of_ble_eq_true rfl) (Nat.le_of_ble_eq_true rfl)) (fun _ h => h.get 5 rfl) (((r 19) - (gQ t r false false 1 0)) - (gQ t r false false 2 0)) (by rw [← hu11]; rfl) dX3_kick_113 114 rfl ?_
          refine r_ldc2 hC q335 dX3_kick_114 117 rfl ?_
          rcases Bool.eq_false_or_eq_true (m_in (((r 19) - (gQ t r false false 1 0)) - (gQ t r false false 2 0)) (-1000000000) 1000000000) with hk17 | hk17
          · skip
            refine xCall.r (r := none) (r_cS hC [.long (((r 19) - (gQ t r false false 1 0)) - (gQ t r false false 2 0)), .long 1000000000] mSX3_check q336 (fun V9 h9 => (metX3_checkG _ _ hG (((r 19) - (gQ t r false false 1 0)) - (gQ t r false false 2 0)) 1000000000 hk17) V9 xIn.nil) ⟨rfl, rfl⟩ (Nat.le_of_ble_eq_true rfl) (Nat.le_of_ble_eq_true rfl) rfl (Nat.le_of_ble_eq_true rfl) dX3_kick_117) 0 0 120 rfl rfl rfl ?_
            refine r_aload_n hC 3 dX3_kick_120 rfl 121 rfl ?_
            refine r_get (v := .ref (o 6)) hC kX3 5 rfl q191 (fun _ h => h.get 0 rfl) rfl dX3_kick_121 124 rfl ?_
            refine r_iload_n hC 0 dX3_kick_124 rfl 125 rfl ?_
            refine r_lald hC 2 (xix_n 2 (Nat.le_of_ble_eq_true rfl) (Nat.le_of_ble_eq_true rfl)) (fun _ h => h.get 6 rfl) (((r 20) - (gQ t r false false 1 1)) - (gQ t r false false 2 1)) (by rw [← hu12]; rfl) dX3_kick_125 126 rfl ?_
            refine r_ldc2 hC q335 dX3_kick_126 129 rfl ?_
            rcases Bool.eq_false_or_eq_true (m_in (((r 20) - (gQ t r false false 1 1)) - (gQ t r false false 2 1)) (-1000000000) 1000000000) with hk18 | hk18
            · skip
              refine xCall.r (r := none) (r_cS hC [.long (((r 20) - (gQ t r false false 1 1)) - (gQ t r false false 2 1)), .long 1000000000] mSX3_check q336 (fun V9 h9 => (metX3_checkG _ _ hG (((r 20) - (gQ t r false false 1 1)) - (gQ t r false false 2 1)) 1000000000 hk18) V9 xIn.nil) ⟨rfl, rfl⟩ (Nat.le_of_ble_eq_true rfl) (Nat.le_of_ble_eq_true rfl) rfl (Nat.le_of_ble_eq_true rfl) dX3_kick_129) 0 0 132 rfl rfl rfl ?_
              refine r_iinc hC 3 3 0 [(3, .int 3), (6, .long (gQ t r false false 2 1)), (4, .long (gQ t r false false 2 0)), (0, .ref (o 0)), (1, .int 1), (2, .int 1)] dX3_kick_132 rfl (by decide) (Nat.le_of_ble_eq_true rfl) rfl 135 rfl ?_
              refine r_goto hC 103 dX3_kick_135 (by decide) ?_
              refine r_iload_n hC 0 dX3_kick_103 rfl 104 rfl ?_
              refine r_iconst hC 3 dX3_kick_104 ic_3 105 rfl ?_
              refine r_icge hC 138 dX3_kick_105 (by decide) 108 rfl (fun _ => ?_) (fun h => absurd h (by decide))
              subst hu12
              subst hu11
              subst hu10
              subst hu9
              subst hu8
              subst hu7
              subst hu6
              subst hu5
              subst hu4
              subst hu3
              subst hu2
              subst hu1
              refine rn_cellI (J := xSt F V0 [(o 0, .inr (2, [.ref (o 1), .ref (o 2), .ref (o 3), .ref (o 4), .ref (o 5), .ref (o 6), .ref (o 7), .ref (o 8), .ref (o 9), .ref (o 10), .int ((r 0).toInt32)])), (o 1, .inl (0, 6, .inl (seF t r))), (o 2, .inl (0, 3, .inl (maF (kickQ t r false false)))), (o 3, .inl (0, 3, .inl (plX r))), (o 4, .inl (0, 3, .inl (plY r))), (o 5, .inl (1, 3, .inr (.inl (va_up (va_up (va_up (va_up (va_up (va_up (moX r) 0 ((r 9) + (gQ t r false false 0 0))) 1 ((r 14) - (gQ t r false false 0 0))) 0 (((r 9) + (gQ t r false false 0 0)) + (gQ t r false false 1 0))) 2 ((r 19) - (gQ t r false false 1 0))) 1 (((r 14) - (gQ t r false false 0 0)) + (gQ t r false false 2 0))) 2 (((r 19) - (gQ t r false false 1 0)) - (gQ t r false false 2 0)))))), (o 6, .inl (1, 3, .inr (.inl (va_up (va_up (va_up (va_up (va_up (va_up (moY r) 0 ((r 10) + (gQ t r false false 0 1))) 1 ((r 15) - (gQ t r false false 0 1))) 0 (((r 10) + (gQ t r false false 0 1)) + (gQ t r false false 1 1))) 2 ((r 20) - (gQ t r false false 1 1))) 1 (((r 15) - (gQ t r false false 0 1)) + (gQ t r false false 2 1))) 2 (((r 20) - (gQ t r false false 1 1)) - (gQ t r false false 2 1))))))]) (fun _ h => h.get 2 rfl) (fun j9 hj9 => by
                  rcases (show j9 = 0 ∨ j9 = 1 ∨ j9 = 2 by omega) with rfl | rfl | rfl
                  · exact congrArg Int64.toInt32 (kkq_6).symm
                  · exact congrArg Int64.toInt32 (kkq_11).symm
                  · exact congrArg Int64.toInt32 (kkq_16).symm) (fun _ h => h.set 2 _ rfl) ?_
              refine rn_cellI (J := xSt F V0 [(o 0, .inr (2, [.ref (o 1), .ref (o 2), .ref (o 3), .ref (o 4), .ref (o 5), .ref (o 6), .ref (o 7), .ref (o 8), .ref (o 9), .ref (o 10), .int ((r 0).toInt32)])), (o 1, .inl (0, 6, .inl (seF t r))), (o 2, .inl (0, 3, .inl (maF (kickQ t r false false)))), (o 3, .inl (0, 3, .inl (plX (kickQ t r false false)))), (o 4, .inl (0, 3, .inl (plY r))), (o 5, .inl (1, 3, .inr (.inl (va_up (va_up (va_up (va_up (va_up (va_up (moX r) 0 ((r 9) + (gQ t r false false 0 0))) 1 ((r 14) - (gQ t r false false 0 0))) 0 (((r 9) + (gQ t r false false 0 0)) + (gQ t r false false 1 0))) 2 ((r 19) - (gQ t r false false 1 0))) 1 (((r 14) - (gQ t r false false 0 0)) + (gQ t r false false 2 0))) 2 (((r 19) - (gQ t r false false 1 0)) - (gQ t r false false 2 0)))))), (o 6, .inl (1, 3, .inr (.inl (va_up (va_up (va_up (va_up (va_up (va_up (moY r) 0 ((r 10) + (gQ t r false false 0 1))) 1 ((r 15) - (gQ t r false false 0 1))) 0 (((r 10) + (gQ t r false false 0 1)) + (gQ t r false false 1 1))) 2 ((r 20) - (gQ t r false false 1 1))) 1 (((r 15) - (gQ t r false false 0 1)) + (gQ t r false false 2 1))) 2 (((r 20) - (gQ t r false false 1 1)) - (gQ t r false false 2 1))))))]) (fun _ h => h.get 3 rfl) (fun j9 hj9 => by
                  rcases (show j9 = 0 ∨ j9 = 1 ∨ j9 = 2 by omega) with rfl | rfl | rfl
                  · exact congrArg Int64.toInt32 (kkq_7).symm
                  · exact congrArg Int64.toInt32 (kkq_12).symm
                  · exact congrArg Int64.toInt32 (kkq_17).symm) (fun _ h => h.set 3 _ rfl) ?_
              refine rn_cellI (J := xSt F V0 [(o 0, .inr (2, [.ref (o 1), .ref (o 2), .ref (o 3), .ref (o 4), .ref (o 5), .ref (o 6), .ref (o 7), .ref (o 8), .ref (o 9), .ref (o 10), .int ((r 0).toInt32)])), (o 1, .inl (0, 6, .inl (seF t r))), (o 2, .inl (0, 3, .inl (maF (kickQ t r false false)))), (o 3, .inl (0, 3, .inl (plX (kickQ t r false false)))), (o 4, .inl (0, 3, .inl (plY (kickQ t r false false)))), (o 5, .inl (1, 3, .inr (.inl (va_up (va_up (va_up (va_up (va_up (va_up (moX r) 0 ((r 9) + (gQ t r false false 0 0))) 1 ((r 14) - (gQ t r false false 0 0))) 0 (((r 9) + (gQ t r false false 0 0)) + (gQ t r false false 1 0))) 2 ((r 19) - (gQ t r false false 1 0))) 1 (((r 14) - (gQ t r false false 0 0)) + (gQ t r false false 2 0))) 2 (((r 19) - (gQ t r false false 1 0)) - (gQ t r false false 2 0)))))), (o 6, .inl (1, 3, .inr (.inl (va_up (va_up (va_up (va_up (va_up (va_up (moY r) 0 ((r 10) + (gQ t r false false 0 1))) 1 ((r 15) - (gQ t r false false 0 1))) 0 (((r 10) + (gQ t r false false 0 1)) + (gQ t r false false 1 1))) 2 ((r 20) - (gQ t r false false 1 1))) 1 (((r 15) - (gQ t r false false 0 1)) + (gQ t r false false 2 1))) 2 (((r 20) - (gQ t r false false 1 1)) - (gQ t r false false 2 1))))))]) (fun _ h => h.get 4 rfl) (fun j9 hj9 => by
                  rcases (show j9 = 0 ∨ j9 = 1 ∨ j9 = 2 by omega) with rfl | rfl | rfl
                  · exact congrArg Int64.toInt32 (kkq_8).symm
                  · exact congrArg Int64.toInt32 (kkq_13).symm
                  · exact congrArg Int64.toInt32 (kkq_18).symm) (fun _ h => h.set 4 _ rfl) ?_
              refine rn_cellJ (J := xSt F V0 [(o 0, .inr (2, [.ref (o 1), .ref (o 2), .ref (o 3), .ref (o 4), .ref (o 5), .ref (o 6), .ref (o 7), .ref (o 8), .ref (o 9), .ref (o 10), .int ((r 0).toInt32)])), (o 1, .inl (0, 6, .inl (seF t r))), (o 2, .inl (0, 3, .inl (maF (kickQ t r false false)))), (o 3, .inl (0, 3, .inl (plX (kickQ t r false false)))), (o 4, .inl (0, 3, .inl (plY (kickQ t r false false)))), (o 5, .inl (1, 3, .inr (.inl (moX (kickQ t r false false))))), (o 6, .inl (1, 3, .inr (.inl (va_up (va_up (va_up (va_up (va_up (va_up (moY r) 0 ((r 10) + (gQ t r false false 0 1))) 1 ((r 15) - (gQ t r false false 0 1))) 0 (((r 10) + (gQ t r false false 0 1)) + (gQ t r false false 1 1))) 2 ((r 20) - (gQ t r false false 1 1))) 1 (((r 15) - (gQ t r false false 0 1)) + (gQ t r false false 2 1))) 2 (((r 20) - (gQ t r false false 1 1)) - (gQ t r false false 2 1))))))]) (fun _ h => h.get 5 rfl) (fun j9 hj9 => by
                  rcases (show j9 = 0 ∨ j9 = 1 ∨ j9 = 2 by omega) with rfl | rfl | rfl
                  · exact ((up_ne (by decide)).trans ((up_ne (by decide)).trans ((up_ne (by decide)).trans (up_same _ _ _)))).trans (kkq_9).symm
                  · exact ((up_ne (by decide)).trans (up_same _ _ _)).trans (kkq_14).symm
                  · exact (up_same _ _ _).trans (kkq_19).symm) (fun _ h => h.set 5 _ rfl) ?_
              refine rn_cellJ (J := xSt F V0 [(o 0, .inr (2, [.ref (o 1), .ref (o 2), .ref (o 3), .ref (o 4), .ref (o 5), .ref (o 6), .ref (o 7), .ref (o 8), .ref (o 9), .ref (o 10), .int ((r 0).toInt32)])), (o 1, .inl (0, 6, .inl (seF t r))), (o 2, .inl (0, 3, .inl (maF (kickQ t r false false)))), (o 3, .inl (0, 3, .inl (plX (kickQ t r false false)))), (o 4, .inl (0, 3, .inl (plY (kickQ t r false false)))), (o 5, .inl (1, 3, .inr (.inl (moX (kickQ t r false false))))), (o 6, .inl (1, 3, .inr (.inl (moY (kickQ t r false false)))))]) (fun _ h => h.get 6 rfl) (fun j9 hj9 => by
                  rcases (show j9 = 0 ∨ j9 = 1 ∨ j9 = 2 by omega) with rfl | rfl | rfl
                  · exact ((up_ne (by decide)).trans ((up_ne (by decide)).trans ((up_ne (by decide)).trans (up_same _ _ _)))).trans (kkq_10).symm
                  · exact ((up_ne (by decide)).trans (up_same _ _ _)).trans (kkq_15).symm
                  · exact (up_same _ _ _).trans (kkq_20).symm) (fun _ h => h.set 6 _ rfl) ?_
              exact r_vret hC (Nat.le_of_ble_eq_true rfl) (Nat.le_of_ble_eq_true rfl) (fun V9 h => hQ _ _ ⟨[(o 0, .inr (2, [.ref (o 1), .ref (o 2), .ref (o 3), .ref (o 4), .ref (o 5), .ref (o 6), .ref (o 7), .ref (o 8), .ref (o 9), .ref (o 10), .int (((kickQ t r false false) 0).toInt32)])), (o 1, .inl (0, 6, .inl (seF t (kickQ t r false false)))), (o 2, .inl (0, 3, .inl (maF (kickQ t r false false)))), (o 3, .inl (0, 3, .inl (plX (kickQ t r false false)))), (o 4, .inl (0, 3, .inl (plY (kickQ t r false false)))), (o 5, .inl (1, 3, .inr (.inl (moX (kickQ t r false false))))), (o 6, .inl (1, 3, .inr (.inl (moY (kickQ t r false false)))))], ⟨rfl, in_t (plR_kick hpl) (by rw [kkq_9]; exact hk13) (by rw [kkq_10]; exact hk14) (by rw [kkq_14]; exact hk15) (by rw [kkq_15]; exact hk16) (by rw [kkq_19]; exact hk17) (by rw [kkq_20]; exact hk18), rfl⟩, by rw [← hV0, ← hF]; exact h⟩) dX3_kick_138
            · skip
              refine xCall.w (wr := [(o 0, .inr (2, [.ref (o 1), .ref (o 2), .ref (o 3), .ref (o 4), .ref (o 5), .ref (o 6), .ref (o 7), .ref (o 8), .ref (o 9), .ref (o 10), .int ((r 0).toInt32)])), (o 1, .inl (0, 6, .inl (seF t r))), (o 2, .inl (0, 3, .inl (maF r))), (o 3, .inl (0, 3, .inl (plX r))), (o 4, .inl (0, 3, .inl (plY r))), (o 5, .inl (1, 3, .inr (.inl u11))), (o 6, .inl (1, 3, .inr (.inl u12)))]) (r_cS hC [.long (((r 20) - (gQ t r false false 1 1)) - (gQ t r false false 2 1)), .long 1000000000] mSX3_check q336 (fun V9 h9 => (metX3_checkB _ _ hG (((r 20) - (gQ t r false false 1 1)) - (gQ t r false false 2 1)) 1000000000 hk18) V9 xIn.nil) ⟨rfl, rfl⟩ (Nat.le_of_ble_eq_true rfl) (Nat.le_of_ble_eq_true rfl) rfl (Nat.le_of_ble_eq_true rfl) dX3_kick_129) [] [0, 1, 2, 3, 4, 5, 6] rfl rfl rfl (by decide) 1 6 132 rfl rfl rfl (fun _ _ h => h.elim) (fun q23 w24 h25 => ?_)
              obtain rfl := h25
              show rx C (xSt F V0 [(o 0, .inr (2, [.ref (o 1), .ref (o 2), .ref (o 3), .ref (o 4), .ref (o 5), .ref (o 6), .ref (o 7), .ref (o 8), .ref (o 9), .ref (o 10), .int ((r 0).toInt32)])), (o 1, .inl (0, 6, .inl (seF t r))), (o 2, .inl (0, 3, .inl (maF r))), (o 3, .inl (0, 3, .inl (plX r))), (o 4, .inl (0, 3, .inl (plY r))), (o 5, .inl (1, 3, .inr (.inl u11))), (o 6, .inl (1, 3, .inr (.inl u12))), (q23, .inr (3, [.null, .null, .null, .null, .null, .int 0]))]) 1 6 129 [(3, .int 2), (6, .long (gQ t r false false 2 1)), (4, .long (gQ t r false false 2 0)), (0, .ref (o 0)), (1, .int 1), (2, .int 1)] [] q23
              subst hu12
              subst hu11
              subst hu10
              subst hu9
              subst hu8
              subst hu7
              subst hu6
              subst hu5
              subst hu4
              subst hu3
              subst hu2
              subst hu1
              exact rx_out hC hTab (fun _ h => by cases h) (Nat.le_of_ble_eq_true rfl) (Nat.le_of_ble_eq_true rfl) (fun V9 h => hX _ _ ⟨[(o 0, .inr (2, [.ref (o 1), .ref (o 2), .ref (o 3), .ref (o 4), .ref (o 5), .ref (o 6), .ref (o 7), .ref (o 8), .ref (o 9), .ref (o 10), .int ((r 0).toInt32)])), (o 1, .inl (0, 6, .inl (seF t r))), (o 2, .inl (0, 3, .inl (maF r))), (o 3, .inl (0, 3, .inl (plX r))), (o 4, .inl (0, 3, .inl (plY r))), (o 5, .inl (1, 3, .inr (.inl (va_up (va_up (va_up (va_up (va_up (va_up (moX r) 0 ((r 9) + (gQ t r false false 0 0))) 1 ((r 14) - (gQ t r false false 0 0))) 0 (((r 9) + (gQ t r false false 0 0)) + (gQ t r false false 1 0))) 2 ((r 19) - (gQ t r false false 1 0))) 1 (((r 14) - (gQ t r false false 0 0)) + (gQ t r false false 2 0))) 2 (((r 19) - (gQ t r false false 1 0)) - (gQ t r false false 2 0)))))), (o 6, .inl (1, 3, .inr (.inl (va_up (va_up (va_up (va_up (va_up (va_up (moY r) 0 ((r 10) + (gQ t r false false 0 1))) 1 ((r 15) - (gQ t r false false 0 1))) 0 (((r 10) + (gQ t r false false 0 1)) + (gQ t r false false 1 1))) 2 ((r 20) - (gQ t r false false 1 1))) 1 (((r 15) - (gQ t r false false 0 1)) + (gQ t r false false 2 1))) 2 (((r 20) - (gQ t r false false 1 1)) - (gQ t r false false 2 1)))))), (q23, .inr (3, [.null, .null, .null, .null, .null, .int 0]))], ⟨in_f20 (by rw [kkq_20]; exact hk18), _, _, rfl⟩, by rw [← hV0, ← hF]; exact h⟩)
          · skip
            refine xCall.w (wr := [(o 0, .inr (2, [.ref (o 1), .ref (o 2), .ref (o 3), .ref (o 4), .ref (o 5), .ref (o 6), .ref (o 7), .ref (o 8), .ref (o 9), .ref (o 10), .int ((r 0).toInt32)])), (o 1, .inl (0, 6, .inl (seF t r))), (o 2, .inl (0, 3, .inl (maF r))), (o 3, .inl (0, 3, .inl (plX r))), (o 4, .inl (0, 3, .inl (plY r))), (o 5, .inl (1, 3, .inr (.inl u11))), (o 6, .inl (1, 3, .inr (.inl u12)))]) (r_cS hC [.long (((r 19) - (gQ t r false false 1 0)) - (gQ t r false false 2 0)), .long 1000000000] mSX3_check q336 (fun V9 h9 => (metX3_checkB _ _ hG (((r 19) - (gQ t r false false 1 0)) - (gQ t r false false 2 0)) 1000000000 hk17) V9 xIn.nil) ⟨rfl, rfl⟩ (Nat.le_of_ble_eq_true rfl) (Nat.le_of_ble_eq_true rfl) rfl (Nat.le_of_ble_eq_true rfl) dX3_kick_117) [] [0, 1, 2, 3, 4, 5, 6] rfl rfl rfl (by decide) 1 6 120 rfl rfl rfl (fun _ _ h => h.elim) (fun q30 w31 h32 => ?_)
            obtain rfl := h32
            show rx C (xSt F V0 [(o 0, .inr (2, [.ref (o 1), .ref (o 2), .ref (o 3), .ref (o 4), .ref (o 5), .ref (o 6), .ref (o 7), .ref (o 8), .ref (o 9), .ref (o 10), .int ((r 0).toInt32)])), (o 1, .inl (0, 6, .inl (seF t r))), (o 2, .inl (0, 3, .inl (maF r))), (o 3, .inl (0, 3, .inl (plX r))), (o 4, .inl (0, 3, .inl (plY r))), (o 5, .inl (1, 3, .inr (.inl u11))), (o 6, .inl (1, 3, .inr (.inl u12))), (q30, .inr (3, [.null, .null, .null, .null, .null, .int 0]))]) 1 6 117 [(3, .int 2), (6, .long (gQ t r false false 2 1)), (4, .long (gQ t r false false 2 0)), (0, .ref (o 0)), (1, .int 1), (2, .int 1)] [] q30
            subst hu12
            subst hu11
            subst hu10
            subst hu9
            subst hu8
            subst hu7
            subst hu6
            subst hu5
            subst hu4
            subst hu3
            subst hu2
            subst hu1
            exact rx_out hC hTab (fun _ h => by cases h) (Nat.le_of_ble_eq_true rfl) (Nat.le_of_ble_eq_true rfl) (fun V9 h => hX _ _ ⟨[(o 0, .inr (2, [.ref (o 1), .ref (o 2), .ref (o 3), .ref (o 4), .ref (o 5), .ref (o 6), .ref (o 7), .ref (o 8), .ref (o 9), .ref (o 10), .int ((r 0).toInt32)])), (o 1, .inl (0, 6, .inl (seF t r))), (o 2, .inl (0, 3, .inl (maF r))), (o 3, .inl (0, 3, .inl (plX r))), (o 4, .inl (0, 3, .inl (plY r))), (o 5, .inl (1, 3, .inr (.inl (va_up (va_up (va_up (va_up (va_up (va_up (moX r) 0 ((r 9) + (gQ t r false false 0 0))) 1 ((r 14) - (gQ t r false false 0 0))) 0 (((r 9) + (gQ t r false false 0 0)) + (gQ t r false false 1 0))) 2 ((r 19) - (gQ t r false false 1 0))) 1 (((r 14) - (gQ t r false false 0 0)) + (gQ t r false false 2 0))) 2 (((r 19) - (gQ t r false false 1 0)) - (gQ t r false false 2 0)))))), (o 6, .inl (1, 3, .inr (.inl (va_up (va_up (va_up (va_up (va_up (va_up (moY r) 0 ((r 10) + (gQ t r false false 0 1))) 1 ((r 15) - (gQ t r false false 0 1))) 0 (((r 10) + (gQ t r false false 0 1)) + (gQ t r false false 1 1))) 2 ((r 20) - (gQ t r false false 1 1))) 1 (((r 15) - (gQ t r false false 0 1)) + (gQ t r false false 2 1))) 2 (((r 20) - (gQ t r false false 1 1)) - (gQ t r false false 2 1)))))), (q30, .inr (3, [.null, .null, .null, .null, .null, .int 0]))], ⟨in_f19 (by rw [kkq_19]; exact hk17), _, _, rfl⟩, by rw [← hV0, ← hF]; exact h⟩)
        · skip
          refine xCall.w (wr := [(o 0, .inr (2, [.ref (o 1), .ref (o 2), .ref (o 3), .ref (o 4), .ref (o 5), .ref (o 6), .ref (o 7), .ref (o 8), .ref (o 9), .ref (o 10), .int ((r 0).toInt32)])), (o 1, .inl (0, 6, .inl (seF t r))), (o 2, .inl (0, 3, .inl (maF r))), (o 3, .inl (0, 3, .inl (plX r))), (o 4, .inl (0, 3, .inl (plY r))), (o 5, .inl (1, 3, .inr (.inl u11))), (o 6, .inl (1, 3, .inr (.inl u12)))]) (r_cS hC [.long (((r 15) - (gQ t r false false 0 1)) + (gQ t r false false 2 1)), .long 1000000000] mSX3_check q336 (fun V9 h9 => (metX3_checkB _ _ hG (((r 15) - (gQ t r false false 0 1)) + (gQ t r false false 2 1)) 1000000000 hk16) V9 xIn.nil) ⟨rfl, rfl⟩ (Nat.le_of_ble_eq_true rfl) (Nat.le_of_ble_eq_true rfl) rfl (Nat.le_of_ble_eq_true rfl) dX3_kick_129) [] [0, 1, 2, 3, 4, 5, 6] rfl rfl rfl (by decide) 1 6 132 rfl rfl rfl (fun _ _ h => h.elim) (fun q37 w38 h39 => ?_)
          obtain rfl := h39
          show rx C (xSt F V0 [(o 0, .inr (2, [.ref (o 1), .ref (o 2), .ref (o 3), .ref (o 4), .ref (o 5), .ref (o 6), .ref (o 7), .ref (o 8), .ref (o 9), .ref (o 10), .int ((r 0).toInt32)])), (o 1, .inl (0, 6, .inl (seF t r))), (o 2, .inl (0, 3, .inl (maF r))), (o 3, .inl (0, 3, .inl (plX r))), (o 4, .inl (0, 3, .inl (plY r))), (o 5, .inl (1, 3, .inr (.inl u11))), (o 6, .inl (1, 3, .inr (.inl u12))), (q37, .inr (3, [.null, .null, .null, .null, .null, .int 0]))]) 1 6 129 [(3, .int 1), (6, .long (gQ t r false false 2 1)), (4, .long (gQ t r false false 2 0)), (0, .ref (o 0)), (1, .int 1), (2, .int 1)] [] q37
          subst hu12
          subst hu11
          subst hu10
          subst hu9
          subst hu8
          subst hu7
          subst hu6
          subst hu5
          subst hu4
          subst hu3
          subst hu2
          subst hu1
          exact rx_out hC hTab (fun _ h => by cases h) (Nat.le_of_ble_eq_true rfl) (Nat.le_of_ble_eq_true rfl) (fun V9 h => hX _ _ ⟨[(o 0, .inr (2, [.ref (o 1), .ref (o 2), .ref (o 3), .ref (o 4), .ref (o 5), .ref (o 6), .ref (o 7), .ref (o 8), .ref (o 9), .ref (o 10), .int ((r 0).toInt32)])), (o 1, .inl (0, 6, .inl (seF t r))), (o 2, .inl (0, 3, .inl (maF r))), (o 3, .inl (0, 3, .inl (plX r))), (o 4, .inl (0, 3, .inl (plY r))), (o 5, .inl (1, 3, .inr (.inl (va_up (va_up (va_up (va_up (va_up (va_up (moX r) 0 ((r 9) + (gQ t r false false 0 0))) 1 ((r 14) - (gQ t r false false 0 0))) 0 (((r 9) + (gQ t r false false 0 0)) + (gQ t r false false 1 0))) 2 ((r 19) - (gQ t r false false 1 0))) 1 (((r 14) - (gQ t r false false 0 0)) + (gQ t r false false 2 0))) 2 (((r 19) - (gQ t r false false 1 0)) - (gQ t r false false 2 0)))))), (o 6, .inl (1, 3, .inr (.inl (va_up (va_up (va_up (va_up (va_up (va_up (moY r) 0 ((r 10) + (gQ t r false false 0 1))) 1 ((r 15) - (gQ t r false false 0 1))) 0 (((r 10) + (gQ t r false false 0 1)) + (gQ t r false false 1 1))) 2 ((r 20) - (gQ t r false false 1 1))) 1 (((r 15) - (gQ t r false false 0 1)) + (gQ t r false false 2 1))) 2 (((r 20) - (gQ t r false false 1 1)) - (gQ t r false false 2 1)))))), (q37, .inr (3, [.null, .null, .null, .null, .null, .int 0]))], ⟨in_f15 (by rw [kkq_15]; exact hk16), _, _, rfl⟩, by rw [← hV0, ← hF]; exact h⟩)
      · skip
        refine xCall.w (wr := [(o 0, .inr (2, [.ref (o 1), .ref (o 2), .ref (o 3), .ref (o 4), .ref (o 5), .ref (o 6), .ref (o 7), .ref (o 8), .ref (o 9), .ref (o 10), .int ((r 0).toInt32)])), (o 1, .inl (0, 6, .inl (seF t r))), (o 2, .inl (0, 3, .inl (maF r))), (o 3, .inl (0, 3, .inl (plX r))), (o 4, .inl (0, 3, .inl (plY r))), (o 5, .inl (1, 3, .inr (.inl u11))), (o 6, .inl (1, 3, .inr (.inl u12)))]) (r_cS hC [.long (((r 14) - (gQ t r false false 0 0)) + (gQ t r false false 2 0)), .long 1000000000] mSX3_check q336 (fun V9 h9 => (metX3_checkB _ _ hG (((r 14) - (gQ t r false false 0 0)) + (gQ t r false false 2 0)) 1000000000 hk15) V9 xIn.nil) ⟨rfl, rfl⟩ (Nat.le_of_ble_eq_true rfl) (Nat.le_of_ble_eq_true rfl) rfl (Nat.le_of_ble_eq_true rfl) dX3_kick_117) [] [0, 1, 2, 3, 4, 5, 6] rfl rfl rfl (by decide) 1 6 120 rfl rfl rfl (fun _ _ h => h.elim) (fun q44 w45 h46 => ?_)
        obtain rfl := h46
        show rx C (xSt F V0 [(o 0, .inr (2, [.ref (o 1), .ref (o 2), .ref (o 3), .ref (o 4), .ref (o 5), .ref (o 6), .ref (o 7), .ref (o 8), .ref (o 9), .ref (o 10), .int ((r 0).toInt32)])), (o 1, .inl (0, 6, .inl (seF t r))), (o 2, .inl (0, 3, .inl (maF r))), (o 3, .inl (0, 3, .inl (plX r))), (o 4, .inl (0, 3, .inl (plY r))), (o 5, .inl (1, 3, .inr (.inl u11))), (o 6, .inl (1, 3, .inr (.inl u12))), (q44, .inr (3, [.null, .null, .null, .null, .null, .int 0]))]) 1 6 117 [(3, .int 1), (6, .long (gQ t r false false 2 1)), (4, .long (gQ t r false false 2 0)), (0, .ref (o 0)), (1, .int 1), (2, .int 1)] [] q44
        subst hu12
        subst hu11
        subst hu10
        subst hu9
        subst hu8
        subst hu7
        subst hu6
        subst hu5
        subst hu4
        subst hu3
        subst hu2
        subst hu1
        exact rx_out hC hTab (fun _ h => by cases h) (Nat.le_of_ble_eq_true rfl) (Nat.le_of_ble_eq_true rfl) (fun V9 h => hX _ _ ⟨[(o 0, .inr (2, [.ref (o 1), .ref (o 2), .ref (o 3), .ref (o 4), .ref (o 5), .ref (o 6), .ref (o 7), .ref (o 8), .ref (o 9), .ref (o 10), .int ((r 0).toInt32)])), (o 1, .inl (0, 6, .inl (seF t r))), (o 2, .inl (0, 3, .inl (maF r))), (o 3, .inl (0, 3, .inl (plX r))), (o 4, .inl (0, 3, .inl (plY r))), (o 5, .inl (1, 3, .inr (.inl (va_up (va_up (va_up (va_up (va_up (va_up (moX r) 0 ((r 9) + (gQ t r false false 0 0))) 1 ((r 14) - (gQ t r false false 0 0))) 0 (((r 9) + (gQ t r false false 0 0)) + (gQ t r false false 1 0))) 2 ((r 19) - (gQ t r false false 1 0))) 1 (((r 14) - (gQ t r false false 0 0)) + (gQ t r false false 2 0))) 2 (((r 19) - (gQ t r false false 1 0)) - (gQ t r false false 2 0)))))), (o 6, .inl (1, 3, .inr (.inl (va_up (va_up (va_up (va_up (va_up (va_up (moY r) 0 ((r 10) + (gQ t r false false 0 1))) 1 ((r 15) - (gQ t r false false 0 1))) 0 (((r 10) + (gQ t r false false 0 1)) + (gQ t r false false 1 1))) 2 ((r 20) - (gQ t r false false 1 1))) 1 (((r 15) - (gQ t r false false 0 1)) + (gQ t r false false 2 1))) 2 (((r 20) - (gQ t r false false 1 1)) - (gQ t r false false 2 1)))))), (q44, .inr (3, [.null, .null, .null, .null, .null, .int 0]))], ⟨in_f14 (by rw [kkq_14]; exact hk15), _, _, rfl⟩, by rw [← hV0, ← hF]; exact h⟩)
    · skip
      refine xCall.w (wr := [(o 0, .inr (2, [.ref (o 1), .ref (o 2), .ref (o 3), .ref (o 4), .ref (o 5), .ref (o 6), .ref (o 7), .ref (o 8), .ref (o 9), .ref (o 10), .int ((r 0).toInt32)])), (o 1, .inl (0, 6, .inl (seF t r))), (o 2, .inl (0, 3, .inl (maF r))), (o 3, .inl (0, 3, .inl (plX r))), (o 4, .inl (0, 3, .inl (plY r))), (o 5, .inl (1, 3, .inr (.inl u11))), (o 6, .inl (1, 3, .inr (.inl u12)))]) (r_cS hC [.long (((r 10) + (gQ t r false false 0 1)) + (gQ t r false false 1 1)), .long 1000000000] mSX3_check q336 (fun V9 h9 => (metX3_checkB _ _ hG (((r 10) + (gQ t r false false 0 1)) + (gQ t r false false 1 1)) 1000000000 hk14) V9 xIn.nil) ⟨rfl, rfl⟩ (Nat.le_of_ble_eq_true rfl) (Nat.le_of_ble_eq_true rfl) rfl (Nat.le_of_ble_eq_true rfl) dX3_kick_129) [] [0, 1, 2, 3, 4, 5, 6] rfl rfl rfl (by decide) 1 6 132 rfl rfl rfl (fun _ _ h => h.elim) (fun q51 w52 h53 => ?_)
      obtain rfl := h53
      show rx C (xSt F V0 [(o 0, .inr (2, [.ref (o 1), .ref (o 2), .ref (o 3), .ref (o 4), .ref (o 5), .ref (o 6), .ref (o 7), .ref (o 8), .ref (o 9), .ref (o 10), .int ((r 0).toInt32)])), (o 1, .inl (0, 6, .inl (seF t r))), (o 2, .inl (0, 3, .inl (maF r))), (o 3, .inl (0, 3, .inl (plX r))), (o 4, .inl (0, 3, .inl (plY r))), (o 5, .inl (1, 3, .inr (.inl u11))), (o 6, .inl (1, 3, .inr (.inl u12))), (q51, .inr (3, [.null, .null, .null, .null, .null, .int 0]))]) 1 6 129 [(3, .int 0), (6, .long (gQ t r false false 2 1)), (4, .long (gQ t r false false 2 0)), (0, .ref (o 0)), (1, .int 1), (2, .int 1)] [] q51
      subst hu12
      subst hu11
      subst hu10
      subst hu9
      subst hu8
      subst hu7
      subst hu6
      subst hu5
      subst hu4
      subst hu3
      subst hu2
      subst hu1
      exact rx_out hC hTab (fun _ h => by cases h) (Nat.le_of_ble_eq_true rfl) (Nat.le_of_ble_eq_true rfl) (fun V9 h => hX _ _ ⟨[(o 0, .inr (2, [.ref (o 1), .ref (o 2), .ref (o 3), .ref (o 4), .ref (o 5), .ref (o 6), .ref (o 7), .ref (o 8), .ref (o 9), .ref (o 10), .int ((r 0).toInt32)])), (o 1, .inl (0, 6, .inl (seF t r))), (o 2, .inl (0, 3, .inl (maF r))), (o 3, .inl (0, 3, .inl (plX r))), (o 4, .inl (0, 3, .inl (plY r))), (o 5, .inl (1, 3, .inr (.inl (va_up (va_up (va_up (va_up (va_up (va_up (moX r) 0 ((r 9) + (gQ t r false false 0 0))) 1 ((r 14) - (gQ t r false false 0 0))) 0 (((r 9) + (gQ t r false false 0 0)) + (gQ t r false false 1 0))) 2 ((r 19) - (gQ t r false false 1 0))) 1 (((r 14) - (gQ t r false false 0 0)) + (gQ t r false false 2 0))) 2 (((r 19) - (gQ t r false false 1 0)) - (gQ t r false false 2 0)))))), (o 6, .inl (1, 3, .inr (.inl (va_up (va_up (va_up (va_up (va_up (va_up (moY r) 0 ((r 10) + (gQ t r false false 0 1))) 1 ((r 15) - (gQ t r false false 0 1))) 0 (((r 10) + (gQ t r false false 0 1)) + (gQ t r false false 1 1))) 2 ((r 20) - (gQ t r false false 1 1))) 1 (((r 15) - (gQ t r false false 0 1)) + (gQ t r false false 2 1))) 2 (((r 20) - (gQ t r false false 1 1)) - (gQ t r false false 2 1)))))), (q51, .inr (3, [.null, .null, .null, .null, .null, .int 0]))], ⟨in_f10 (by rw [kkq_10]; exact hk14), _, _, rfl⟩, by rw [← hV0, ← hF]; exact h⟩)
  · skip
    refine xCall.w (wr := [(o 0, .inr (2, [.ref (o 1), .ref (o 2), .ref (o 3), .ref (o 4), .ref (o 5), .ref (o 6), .ref (o 7), .ref (o 8), .ref (o 9), .ref (o 10), .int ((r 0).toInt32)])), (o 1, .inl (0, 6, .inl (seF t r))), (o 2, .inl (0, 3, .inl (maF r))), (o 3, .inl (0, 3, .inl (plX r))), (o 4, .inl (0, 3, .inl (plY r))), (o 5, .inl (1, 3, .inr (.inl u11))), (o 6, .inl (1, 3, .inr (.inl u12)))]) (r_cS hC [.long (((r 9) + (gQ t r false false 0 0)) + (gQ t r false false 1 0)), .long 1000000000] mSX3_check q336 (fun V9 h9 => (metX3_checkB _ _ hG (((r 9) + (gQ t r false false 0 0)) + (gQ t r false false 1 0)) 1000000000 hk13) V9 xIn.nil) ⟨rfl, rfl⟩ (Nat.le_of_ble_eq_true rfl) (Nat.le_of_ble_eq_true rfl) rfl (Nat.le_of_ble_eq_true rfl) dX3_kick_117) [] [0, 1, 2, 3, 4, 5, 6] rfl rfl rfl (by decide) 1 6 120 rfl rfl rfl (fun _ _ h => h.elim) (fun q58 w59 h60 => ?_)
    obtain rfl := h60
    show rx C (xSt F V0 [(o 0, .inr (2, [.ref (o 1), .ref (o 2), .ref (o 3), .ref (o 4), .ref (o 5), .ref (o 6), .ref (o 7), .ref (o 8), .ref (o 9), .ref (o 10), .int ((r 0).toInt32)])), (o 1, .inl (0, 6, .inl (seF t r))), (o 2, .inl (0, 3, .inl (maF r))), (o 3, .inl (0, 3, .inl (plX r))), (o 4, .inl (0, 3, .inl (plY r))), (o 5, .inl (1, 3, .inr (.inl u11))), (o 6, .inl (1, 3, .inr (.inl u12))), (q58, .inr (3, [.null, .null, .null, .null, .null, .int 0]))]) 1 6 117 [(3, .int 0), (6, .long (gQ t r false false 2 1)), (4, .long (gQ t r false false 2 0)), (0, .ref (o 0)), (1, .int 1), (2, .int 1)] [] q58
    subst hu12
    subst hu11
    subst hu10
    subst hu9
    subst hu8
    subst hu7
    subst hu6
    subst hu5
    subst hu4
    subst hu3
    subst hu2
    subst hu1
    exact rx_out hC hTab (fun _ h => by cases h) (Nat.le_of_ble_eq_true rfl) (Nat.le_of_ble_eq_true rfl) (fun V9 h => hX _ _ ⟨[(o 0, .inr (2, [.ref (o 1), .ref (o 2), .ref (o 3), .ref (o 4), .ref (o 5), .ref (o 6), .ref (o 7), .ref (o 8), .ref (o 9), .ref (o 10), .int ((r 0).toInt32)])), (o 1, .inl (0, 6, .inl (seF t r))), (o 2, .inl (0, 3, .inl (maF r))), (o 3, .inl (0, 3, .inl (plX r))), (o 4, .inl (0, 3, .inl (plY r))), (o 5, .inl (1, 3, .inr (.inl (va_up (va_up (va_up (va_up (va_up (va_up (moX r) 0 ((r 9) + (gQ t r false false 0 0))) 1 ((r 14) - (gQ t r false false 0 0))) 0 (((r 9) + (gQ t r false false 0 0)) + (gQ t r false false 1 0))) 2 ((r 19) - (gQ t r false false 1 0))) 1 (((r 14) - (gQ t r false false 0 0)) + (gQ t r false false 2 0))) 2 (((r 19) - (gQ t r false false 1 0)) - (gQ t r false false 2 0)))))), (o 6, .inl (1, 3, .inr (.inl (va_up (va_up (va_up (va_up (va_up (va_up (moY r) 0 ((r 10) + (gQ t r false false 0 1))) 1 ((r 15) - (gQ t r false false 0 1))) 0 (((r 10) + (gQ t r false false 0 1)) + (gQ t r false false 1 1))) 2 ((r 20) - (gQ t r false false 1 1))) 1 (((r 15) - (gQ t r false false 0 1)) + (gQ t r false false 2 1))) 2 (((r 20) - (gQ t r false false 1 1)) - (gQ t r false false 2 1)))))), (q58, .inr (3, [.null, .null, .null, .null, .null, .int 0]))], ⟨in_f9 (by rw [kkq_9]; exact hk13), _, _, rfl⟩, by rw [← hV0, ← hF]; exact h⟩)
set_option maxHeartbeats 4000000 in
set_option maxRecDepth 100000 in
theorem metX3_kick00S (l : Launch) (G : xG) (hG : xGood G) (o : Nat → Nat) (t r : Nat → Int64) (hpl : plR r) (ht : tOK t) (hm : mOK r) (hin : isInQ (kickQ t r false false) = true) : xWm l G yX3_kick (Cond.code yX3_kick cX3_kick 8 none) { frames := 4, locals := 98, cells := 0, slots := 0 } [.ref (o 0), .int 1, .int 1] [(o 0, .inr (2, [.ref (o 1), .ref (o 2), .ref (o 3), .ref (o 4), .ref (o 5), .ref (o 6), .ref (o 7), .ref (o 8), .ref (o 9), .ref (o 10), .int ((r 0).toInt32)])), (o 1, .inl (0, 6, .inl (seF t r))), (o 2, .inl (0, 3, .inl (maF r))), (o 3, .inl (0, 3, .inl (plX r))), (o 4, .inl (0, 3, .inl (plY r))), (o 5, .inl (1, 3, .inr (.inl (moX r)))), (o 6, .inl (1, 3, .inr (.inl (moY r))))] (fun v w' => v = none ∧ isInQ (kickQ t r false false) = true ∧ w' = [(o 0, .inr (2, [.ref (o 1), .ref (o 2), .ref (o 3), .ref (o 4), .ref (o 5), .ref (o 6), .ref (o 7), .ref (o 8), .ref (o 9), .ref (o 10), .int (((kickQ t r false false) 0).toInt32)])), (o 1, .inl (0, 6, .inl (seF t (kickQ t r false false)))), (o 2, .inl (0, 3, .inl (maF (kickQ t r false false)))), (o 3, .inl (0, 3, .inl (plX (kickQ t r false false)))), (o 4, .inl (0, 3, .inl (plY (kickQ t r false false)))), (o 5, .inl (1, 3, .inr (.inl (moX (kickQ t r false false))))), (o 6, .inl (1, 3, .inr (.inl (moY (kickQ t r false false)))))]) (fun _ _ => False) := by
  intro V hV
  refine xMet_ofT RX3 hG rfl (by decide) (Nat.le_of_ble_eq_true rfl) fun C hC hQ hX hl hg _ hTab => ?_
  subst hl hg
  obtain ⟨tONE, hzONE, htONE⟩ := za_ONE hG
  obtain ⟨tOTH, hzOTH, htOTH⟩ := za_OTH hG
  obtain ⟨V0, hV0⟩ : ∃ V0, V0 = V := ⟨_, rfl⟩
  obtain ⟨F, hF⟩ : ∃ F, F = xF [(o 0, .inr (2, [.ref (o 1), .ref (o 2), .ref (o 3), .ref (o 4), .ref (o 5), .ref (o 6), .ref (o 7), .ref (o 8), .ref (o 9), .ref (o 10), .int ((r 0).toInt32)])), (o 1, .inl (0, 6, .inl (seF t r))), (o 2, .inl (0, 3, .inl (maF r))), (o 3, .inl (0, 3, .inl (plX r))), (o 4, .inl (0, 3, .inl (plY r))), (o 5, .inl (1, 3, .inr (.inl (moX r)))), (o 6, .inl (1, 3, .inr (.inl (moY r))))] := ⟨_, rfl⟩
  refine rn.mono (J := xSt F V0 [(o 0, .inr (2, [.ref (o 1), .ref (o 2), .ref (o 3), .ref (o 4), .ref (o 5), .ref (o 6), .ref (o 7), .ref (o 8), .ref (o 9), .ref (o 10), .int ((r 0).toInt32)])), (o 1, .inl (0, 6, .inl (seF t r))), (o 2, .inl (0, 3, .inl (maF r))), (o 3, .inl (0, 3, .inl (plX r))), (o 4, .inl (0, 3, .inl (plY r))), (o 5, .inl (1, 3, .inr (.inl (moX r)))), (o 6, .inl (1, 3, .inr (.inl (moY r))))]) (fun V9 h => by rw [h, hV0, hF]; exact hV.st) ?_
  show rn C (xSt F V0 [(o 0, .inr (2, [.ref (o 1), .ref (o 2), .ref (o 3), .ref (o 4), .ref (o 5), .ref (o 6), .ref (o 7), .ref (o 8), .ref (o 9), .ref (o 10), .int ((r 0).toInt32)])), (o 1, .inl (0, 6, .inl (seF t r))), (o 2, .inl (0, 3, .inl (maF r))), (o 3, .inl (0, 3, .inl (plX r))), (o 4, .inl (0, 3, .inl (plY r))), (o 5, .inl (1, 3, .inr (.inl (moX r)))), (o 6, .inl (1, 3, .inr (.inl (moY r))))]) 0 0 0 [(0, .ref (o 0)), (1, .int 1), (2, .int 1)] []
  refine r_iconst hC 0 dX3_kick_0 ic_0 1 rfl ?_
  refine r_istore_n hC 3 [(3, .int 0), (0, .ref (o 0)), (1, .int 1), (2, .int 1)] dX3_kick_1 rfl (Nat.le_of_ble_eq_true rfl) rfl 2 rfl ?_
  refine r_iload_n hC 0 dX3_kick_2 rfl 3 rfl ?_
  refine r_iconst hC 3 dX3_kick_3 ic_3 4 rfl ?_
  refine r_icge hC 101 dX3_kick_4 (by decide) 7 rfl (fun h => absurd h (by decide)) (fun _ => ?_)
  refine r_iload_n hC 2 dX3_kick_7 rfl 8 rfl ?_
  refine r_i2l hC 1 dX3_kick_8 (by decide) 9 rfl ?_
  refine r_aload_n hC 1 dX3_kick_9 rfl 10 rfl ?_
  refine r_iload_n hC 0 dX3_kick_10 rfl 11 rfl ?_
  refine r_iconst hC 0 dX3_kick_11 ic_0 12 rfl ?_
  refine xCall.r (r := some (.long (impQ t r 0 0))) (r_cV hC kX3 (o 0) [.int 0, .int 0] mVX3_impulse q331 (fun _ h => ⟨_, h.get 0 rfl⟩) (fun V9 h9 => (metX3_impulse0 _ _ hG o t r 0 (Nat.le_of_ble_eq_true rfl) hpl ht hm) V9 (h9.in.sub [0, 1, 2, 3, 4] rfl rfl)) ⟨rfl, rfl⟩ (Nat.le_of_ble_eq_true rfl) (Nat.le_of_ble_eq_true rfl) rfl (Nat.le_of_ble_eq_true rfl) dX3_kick_12) 0 0 15 rfl rfl rfl ?_
  refine r_iload_n hC 3 dX3_kick_15 rfl 16 rfl ?_
  refine r_i2l hC 1 dX3_kick_16 (by decide) 17 rfl ?_
  refine r_ldiv hC ((impQ t r 0 0) / 1) dX3_kick_17 (by decide) (rfl) 18 rfl ?_
  refine r_lmul hC (1 * ((impQ t r 0 0) / 1)) dX3_kick_18  (rfl) 19 rfl ?_
  refine r_eql (y := gQ t r false false 0 0) (g00 _) ?_
  refine r_lstore hC 4 [(4, .long (gQ t r false false 0 0)), (3, .int 0), (0, .ref (o 0)), (1, .int 1), (2, .int 1)] dX3_kick_19 (Nat.le_of_ble_eq_true rfl) rfl 21 rfl ?_
  refine r_iload_n hC 3 dX3_kick_21 rfl 22 rfl ?_
  refine r_i2l hC 1 dX3_kick_22 (by decide) 23 rfl ?_
  refine r_aload_n hC 2 dX3_kick_23 rfl 24 rfl ?_
  refine r_iload_n hC 1 dX3_kick_24 rfl 25 rfl ?_
  refine r_iconst hC 1 dX3_kick_25 ic_1 26 rfl ?_
  refine xCall.r (r := some (.long (impQ t r 0 1))) (r_cV hC kX3 (o 0) [.int 0, .int 1] mVX3_impulse q331 (fun _ h => ⟨_, h.get 0 rfl⟩) (fun V9 h9 => (metX3_impulse1 _ _ hG o t r 0 (Nat.le_of_ble_eq_true rfl) hpl ht hm) V9 (h9.in.sub [0, 1, 2, 3, 4] rfl rfl)) ⟨rfl, rfl⟩ (Nat.le_of_ble_eq_true rfl) (Nat.le_of_ble_eq_true rfl) rfl (Nat.le_of_ble_eq_true rfl) dX3_kick_26) 0 0 29 rfl rfl rfl ?_
  refine r_iload_n hC 4 dX3_kick_29 rfl 30 rfl ?_
  refine r_i2l hC 1 dX3_kick_30 (by decide) 31 rfl ?_
  refine r_ldiv hC ((impQ t r 0 1) / 1) dX3_kick_31 (by decide) (rfl) 32 rfl ?_
  refine r_lmul hC (1 * ((impQ t r 0 1) / 1)) dX3_kick_32  (rfl) 33 rfl ?_
  refine r_eql (y := gQ t r false false 0 1) (g00 _) ?_
  refine r_lstore hC 6 [(6, .long (gQ t r false false 0 1)), (4, .long (gQ t r false false 0 0)), (3, .int 0), (0, .ref (o 0)), (1, .int 1), (2, .int 1)] dX3_kick_33 (Nat.le_of_ble_eq_true rfl) rfl 35 rfl ?_
  refine r_aload_n hC 3 dX3_kick_35 rfl 36 rfl ?_
  refine r_get (v := .ref (o 5)) hC kX3 4 rfl q188 (fun _ h => h.get 0 rfl) rfl dX3_kick_36 39 rfl ?_
  refine r_getsN hC hG hzONE q271 dX3_kick_39 42 rfl ?_
  refine r_iload_n hC 2 dX3_kick_42 rfl 43 rfl ?_
  refine r_ialdT hC htONE 0 (xix_n 0 (Nat.le_of_ble_eq_true rfl) (Nat.le_of_ble_eq_true rfl)) 0 rfl dX3_kick_43 44 rfl ?_
  refine r_dup2 hC dX3_kick_44 rfl rfl 45 rfl ?_
  refine r_lald hC 0 (xix_n 0 (Nat.le_of_ble_eq_true rfl) (Nat.le_of_ble_eq_true rfl)) (fun _ h => h.get 5 rfl) (moX r 0) (rfl) dX3_kick_45 46 rfl ?_
  refine r_eql (y := r 9) (rfl) ?_
  refine r_lload hC 1 dX3_kick_46 rfl 48 rfl ?_
  refine r_ladd hC ((r 9) + (gQ t r false false 0 0)) dX3_kick_48  (rfl) 49 rfl ?_
  refine r_last (J := xSt F V0 [(o 0, .inr (2, [.ref (o 1), .ref (o 2), .ref (o 3), .ref (o 4), .ref (o 5), .ref (o 6), .ref (o 7), .ref (o 8), .ref (o 9), .ref (o 10), .int ((r 0).toInt32)])), (o 1, .inl (0, 6, .inl (seF t r))), (o 2, .inl (0, 3, .inl (maF r))), (o 3, .inl (0, 3, .inl (plX r))), (o 4, .inl (0, 3, .inl (plY r))), (o 5, .inl (1, 3, .inr (.inl (va_up (moX r) 0 ((r 9) + (gQ t r false false 0 0)))))), (o 6, .inl (1, 3, .inr (.inl (moY r))))]) hC 0 (xix_n 0 (Nat.le_of_ble_eq_true rfl) (Nat.le_of_ble_eq_true rfl)) (fun _ h => h.get 5 rfl) dX3_kick_49 (fun _ h => h.set 5 _ rfl) 50 rfl ?_
  generalize hu1 : va_up (moX r) 0 ((r 9) + (gQ t r false false 0 0)) = u1
  refine r_aload_n hC 3 dX3_kick_50 rfl 51 rfl ?_
  refine r_get (v := .ref (o 6)) hC kX3 5 rfl q191 (fun _ h => h.get 0 rfl) rfl dX3_kick_51 54 rfl ?_
  refine r_getsN hC hG hzONE q271 dX3_kick_54 57 rfl ?_
  refine r_iload_n hC 2 dX3_kick_57 rfl 58 rfl ?_
  refine r_ialdT hC htONE 0 (xix_n 0 (Nat.le_of_ble_eq_true rfl) (Nat.le_of_ble_eq_true rfl)) 0 rfl dX3_kick_58 59 rfl ?_
  refine r_dup2 hC dX3_kick_59 rfl rfl 60 rfl ?_
  refine r_lald hC 0 (xix_n 0 (Nat.le_of_ble_eq_true rfl) (Nat.le_of_ble_eq_true rfl)) (fun _ h => h.get 6 rfl) (moY r 0) (rfl) dX3_kick_60 61 rfl ?_
  refine r_eql (y := r 10) (rfl) ?_
  refine r_lload hC 0 dX3_kick_61 rfl 63 rfl ?_
  refine r_ladd hC ((r 10) + (gQ t r false false 0 1)) dX3_kick_63  (rfl) 64 rfl ?_
  refine r_last (J := xSt F V0 [(o 0, .inr (2, [.ref (o 1), .ref (o 2), .ref (o 3), .ref (o 4), .ref (o 5), .ref (o 6), .ref (o 7), .ref (o 8), .ref (o 9), .ref (o 10), .int ((r 0).toInt32)])), (o 1, .inl (0, 6, .inl (seF t r))), (o 2, .inl (0, 3, .inl (maF r))), (o 3, .inl (0, 3, .inl (plX r))), (o 4, .inl (0, 3, .inl (plY r))), (o 5, .inl (1, 3, .inr (.inl u1))), (o 6, .inl (1, 3, .inr (.inl (va_up (moY r) 0 ((r 10) + (gQ t r false false 0 1))))))]) hC 0 (xix_n 0 (Nat.le_of_ble_eq_true rfl) (Nat.le_of_ble_eq_true rfl)) (fun _ h => h.get 6 rfl) dX3_kick_64 (fun _ h => h.set 6 _ rfl) 65 rfl ?_
  generalize hu2 : va_up (moY r) 0 ((r 10) + (gQ t r false false 0 1)) = u2
  refine r_aload_n hC 3 dX3_kick_65 rfl 66 rfl ?_
  refine r_get (v := .ref (o 5)) hC kX3 4 rfl q188 (fun _ h => h.get 0 rfl) rfl dX3_kick_66 69 rfl ?_
  refine r_getsN hC hG hzOTH q273 dX3_kick_69 72 rfl ?_
  refine r_iload_n hC 2 dX3_kick_72 rfl 73 rfl ?_
  refine r_ialdT hC htOTH 0 (xix_n 0 (Nat.le_of_ble_eq_true rfl) (Nat.le_of_ble_eq_true rfl)) 1 rfl dX3_kick_73 74 rfl ?_
  refine r_dup2 hC dX3_kick_74 rfl rfl 75 rfl ?_
  refine r_lald hC 1 (xix_n 1 (Nat.le_of_ble_eq_true rfl) (Nat.le_of_ble_eq_true rfl)) (fun _ h => h.get 5 rfl) (moX r 1) (by rw [← hu1]; rfl) dX3_kick_75 76 rfl ?_
  refine r_eql (y := r 14) (rfl) ?_
  refine r_lload hC 1 dX3_kick_76 rfl 78 rfl ?_
  refine r_lsub hC ((r 14) - (gQ t r false false 0 0)) dX3_kick_78  (rfl) 79 rfl ?_
  refine r_last (J := xSt F V0 [(o 0, .inr (2, [.ref (o 1), .ref (o 2), .ref (o 3), .ref (o 4), .ref (o 5), .ref (o 6), .ref (o 7), .ref (o 8), .ref (o 9), .ref (o 10), .int ((r 0).toInt32)])), (o 1, .inl (0, 6, .inl (seF t r))), (o 2, .inl (0, 3, .inl (maF r))), (o 3, .inl (0, 3, .inl (plX r))), (o 4, .inl (0, 3, .inl (plY r))), (o 5, .inl (1, 3, .inr (.inl (va_up u1 1 ((r 14) - (gQ t r false false 0 0)))))), (o 6, .inl (1, 3, .inr (.inl u2)))]) hC 1 (xix_n 1 (Nat.le_of_ble_eq_true rfl) (Nat.le_of_ble_eq_true rfl)) (fun _ h => h.get 5 rfl) dX3_kick_79 (fun _ h => h.set 5 _ rfl) 80 rfl ?_
  generalize hu3 : va_up u1 1 ((r 14) - (gQ t r false false 0 0)) = u3
  refine r_aload_n hC 3 dX3_kick_80 rfl 81 rfl ?_
  refine r_get (v := .ref (o 6)) hC kX3 5 rfl q191 (fun _ h => h.get 0 rfl) rfl dX3_kick_81 84 rfl ?_
  refine r_getsN hC hG hzOTH q273 dX3_kick_84 87 rfl ?_
  refine r_iload_n hC 2 dX3_kick_87 rfl 88 rfl ?_
  refine r_ialdT hC htOTH 0 (xix_n 0 (Nat.le_of_ble_eq_true rfl) (Nat.le_of_ble_eq_true rfl)) 1 rfl dX3_kick_88 89 rfl ?_
  refine r_dup2 hC dX3_kick_89 rfl rfl 90 rfl ?_
  refine r_lald hC 1 (xix_n 1 (Nat.le_of_ble_eq_true rfl) (Nat.le_of_ble_eq_true rfl)) (fun _ h => h.get 6 rfl) (moY r 1) (by rw [← hu2]; rfl) dX3_kick_90 91 rfl ?_
  refine r_eql (y := r 15) (rfl) ?_
  refine r_lload hC 0 dX3_kick_91 rfl 93 rfl ?_
  refine r_lsub hC ((r 15) - (gQ t r false false 0 1)) dX3_kick_93  (rfl) 94 rfl ?_
  refine r_last (J := xSt F V0 [(o 0, .inr (2, [.ref (o 1), .ref (o 2), .ref (o 3), .ref (o 4), .ref (o 5), .ref (o 6), .ref (o 7), .ref (o 8), .ref (o 9), .ref (o 10), .int ((r 0).toInt32)])), (o 1, .inl (0, 6, .inl (seF t r))), (o 2, .inl (0, 3, .inl (maF r))), (o 3, .inl (0, 3, .inl (plX r))), (o 4, .inl (0, 3, .inl (plY r))), (o 5, .inl (1, 3, .inr (.inl u3))), (o 6, .inl (1, 3, .inr (.inl (va_up u2 1 ((r 15) - (gQ t r false false 0 1))))))]) hC 1 (xix_n 1 (Nat.le_of_ble_eq_true rfl) (Nat.le_of_ble_eq_true rfl)) (fun _ h => h.get 6 rfl) dX3_kick_94 (fun _ h => h.set 6 _ rfl) 95 rfl ?_
  generalize hu4 : va_up u2 1 ((r 15) - (gQ t r false false 0 1)) = u4
  refine r_iinc hC 1 3 2 [(3, .int 1), (6, .long (gQ t r false false 0 1)), (4, .long (gQ t r false false 0 0)), (0, .ref (o 0)), (1, .int 1), (2, .int 1)] dX3_kick_95 rfl (by decide) (Nat.le_of_ble_eq_true rfl) rfl 98 rfl ?_
  refine r_goto hC 2 dX3_kick_98 (by decide) ?_
  refine r_iload_n hC 0 dX3_kick_2 rfl 3 rfl ?_
  refine r_iconst hC 3 dX3_kick_3 ic_3 4 rfl ?_
  refine r_icge hC 101 dX3_kick_4 (by decide) 7 rfl (fun h => absurd h (by decide)) (fun _ => ?_)
  refine r_iload_n hC 4 dX3_kick_7 rfl 8 rfl ?_
  refine r_i2l hC 1 dX3_kick_8 (by decide) 9 rfl ?_
  refine r_aload_n hC 3 dX3_kick_9 rfl 10 rfl ?_
  refine r_iload_n hC 0 dX3_kick_10 rfl 11 rfl ?_
  refine r_iconst hC 0 dX3_kick_11 ic_0 12 rfl ?_
  refine xCall.r (r := some (.long (impQ t r 1 0))) (r_cV hC kX3 (o 0) [.int 1, .int 0] mVX3_impulse q331 (fun _ h => ⟨_, h.get 0 rfl⟩) (fun V9 h9 => (metX3_impulse0 _ _ hG o t r 1 (Nat.le_of_ble_eq_true rfl) hpl ht hm) V9 (h9.in.sub [0, 1, 2, 3, 4] rfl rfl)) ⟨rfl, rfl⟩ (Nat.le_of_ble_eq_true rfl) (Nat.le_of_ble_eq_true rfl) rfl (Nat.le_of_ble_eq_true rfl) dX3_kick_12) 0 0 15 rfl rfl rfl ?_
  refine r_iload_n hC 5 dX3_kick_15 rfl 16 rfl ?_
  refine r_i2l hC 1 dX3_kick_16 (by decide) 17 rfl ?_
  refine r_ldiv hC ((impQ t r 1 0) / 1) dX3_kick_17 (by decide) (rfl) 18 rfl ?_
  refine r_lmul hC (1 * ((impQ t r 1 0) / 1)) dX3_kick_18  (rfl) 19 rfl ?_
  refine r_eql (y := gQ t r false false 1 0) (g00 _) ?_
  refine r_lstore hC 4 [(4, .long (gQ t r false false 1 0)), (3, .int 1), (6, .long (gQ t r false false 0 1)), (0, .ref (o 0)), (1, .int 1), (2, .int 1)] dX3_kick_19 (Nat.le_of_ble_eq_true rfl) rfl 21 rfl ?_
  refine r_iload_n hC 4 dX3_kick_21 rfl 22 rfl ?_
  refine r_i2l hC 1 dX3_kick_22 (by decide) 23 rfl ?_
  refine r_aload_n hC 3 dX3_kick_23 rfl 24 rfl ?_
  refine r_iload_n hC 1 dX3_kick_24 rfl 25 rfl ?_
  refine r_iconst hC 1 dX3_kick_25 ic_1 26 rfl ?_
  refine xCall.r (r := some (.long (impQ t r 1 1))) (r_cV hC kX3 (o 0) [.int 1, .int 1] mVX3_impulse q331 (fun _ h => ⟨_, h.get 0 rfl⟩) (fun V9 h9 => (metX3_impulse1 _ _ hG o t r 1 (Nat.le_of_ble_eq_true rfl) hpl ht hm) V9 (h9.in.sub [0, 1, 2, 3, 4] rfl rfl)) ⟨rfl, rfl⟩ (Nat.le_of_ble_eq_true rfl) (Nat.le_of_ble_eq_true rfl) rfl (Nat.le_of_ble_eq_true rfl) dX3_kick_26) 0 0 29 rfl rfl rfl ?_
  refine r_iload_n hC 5 dX3_kick_29 rfl 30 rfl ?_
  refine r_i2l hC 1 dX3_kick_30 (by decide) 31 rfl ?_
  refine r_ldiv hC ((impQ t r 1 1) / 1) dX3_kick_31 (by decide) (rfl) 32 rfl ?_
  refine r_lmul hC (1 * ((impQ t r 1 1) / 1)) dX3_kick_32  (rfl) 33 rfl ?_
  refine r_eql (y := gQ t r false false 1 1) (g00 _) ?_
  refine r_lstore hC 6 [(6, .long (gQ t r false false 1 1)), (4, .long (gQ t r false false 1 0)), (3, .int 1), (0, .ref (o 0)), (1, .int 1), (2, .int 1)] dX3_kick_33 (Nat.le_of_ble_eq_true rfl) rfl 35 rfl ?_
  refine r_aload_n hC 3 dX3_kick_35 rfl 36 rfl ?_
  refine r_get (v := .ref (o 5)) hC kX3 4 rfl q188 (fun _ h => h.get 0 rfl) rfl dX3_kick_36 39 rfl ?_
  refine r_getsN hC hG hzONE q271 dX3_kick_39 42 rfl ?_
  refine r_iload_n hC 2 dX3_kick_42 rfl 43 rfl ?_
  refine r_ialdT hC htONE 1 (xix_n 1 (Nat.le_of_ble_eq_true rfl) (Nat.le_of_ble_eq_true rfl)) 0 rfl dX3_kick_43 44 rfl ?_
  refine r_dup2 hC dX3_kick_44 rfl rfl 45 rfl ?_
  refine r_lald hC 0 (xix_n 0 (Nat.le_of_ble_eq_true rfl) (Nat.le_of_ble_eq_true rfl)) (fun _ h => h.get 5 rfl) ((r 9) + (gQ t r false false 0 0)) (by rw [← hu3, ← hu1]; rfl) dX3_kick_45 46 rfl ?_
  refine r_lload hC 1 dX3_kick_46 rfl 48 rfl ?_
  refine r_ladd hC (((r 9) + (gQ t r false false 0 0)) + (gQ t r false false 1 0)) dX3_kick_48  (rfl) 49 rfl ?_
  refine r_last (J := xSt F V0 [(o 0, .inr (2, [.ref (o 1), .ref (o 2), .ref (o 3), .ref (o 4), .ref (o 5), .ref (o 6), .ref (o 7), .ref (o 8), .ref (o 9), .ref (o 10), .int ((r 0).toInt32)])), (o 1, .inl (0, 6, .inl (seF t r))), (o 2, .inl (0, 3, .inl (maF r))), (o 3, .inl (0, 3, .inl (plX r))), (o 4, .inl (0, 3, .inl (plY r))), (o 5, .inl (1, 3, .inr (.inl (va_up u3 0 (((r 9) + (gQ t r false false 0 0)) + (gQ t r false false 1 0)))))), (o 6, .inl (1, 3, .inr (.inl u4)))]) hC 0 (xix_n 0 (Nat.le_of_ble_eq_true rfl) (Nat.le_of_ble_eq_true rfl)) (fun _ h => h.get 5 rfl) dX3_kick_49 (fun _ h => h.set 5 _ rfl) 50 rfl ?_
  generalize hu5 : va_up u3 0 (((r 9) + (gQ t r false false 0 0)) + (gQ t r false false 1 0)) = u5
  refine r_aload_n hC 3 dX3_kick_50 rfl 51 rfl ?_
  refine r_get (v := .ref (o 6)) hC kX3 5 rfl q191 (fun _ h => h.get 0 rfl) rfl dX3_kick_51 54 rfl ?_
  refine r_getsN hC hG hzONE q271 dX3_kick_54 57 rfl ?_
  refine r_iload_n hC 2 dX3_kick_57 rfl 58 rfl ?_
  refine r_ialdT hC htONE 1 (xix_n 1 (Nat.le_of_ble_eq_true rfl) (Nat.le_of_ble_eq_true rfl)) 0 rfl dX3_kick_58 59 rfl ?_
  refine r_dup2 hC dX3_kick_59 rfl rfl 60 rfl ?_
  refine r_lald hC 0 (xix_n 0 (Nat.le_of_ble_eq_true rfl) (Nat.le_of_ble_eq_true rfl)) (fun _ h => h.get 6 rfl) ((r 10) + (gQ t r false false 0 1)) (by rw [← hu4, ← hu2]; rfl) dX3_kick_60 61 rfl ?_
  refine r_lload hC 0 dX3_kick_61 rfl 63 rfl ?_
  refine r_ladd hC (((r 10) + (gQ t r false false 0 1)) + (gQ t r false false 1 1)) dX3_kick_63  (rfl) 64 rfl ?_
  refine r_last (J := xSt F V0 [(o 0, .inr (2, [.ref (o 1), .ref (o 2), .ref (o 3), .ref (o 4), .ref (o 5), .ref (o 6), .ref (o 7), .ref (o 8), .ref (o 9), .ref (o 10), .int ((r 0).toInt32)])), (o 1, .inl (0, 6, .inl (seF t r))), (o 2, .inl (0, 3, .inl (maF r))), (o 3, .inl (0, 3, .inl (plX r))), (o 4, .inl (0, 3, .inl (plY r))), (o 5, .inl (1, 3, .inr (.inl u5))), (o 6, .inl (1, 3, .inr (.inl (va_up u4 0 (((r 10) + (gQ t r false false 0 1)) + (gQ t r false false 1 1))))))]) hC 0 (xix_n 0 (Nat.le_of_ble_eq_true rfl) (Nat.le_of_ble_eq_true rfl)) (fun _ h => h.get 6 rfl) dX3_kick_64 (fun _ h => h.set 6 _ rfl) 65 rfl ?_
  generalize hu6 : va_up u4 0 (((r 10) + (gQ t r false false 0 1)) + (gQ t r false false 1 1)) = u6
  refine r_aload_n hC 3 dX3_kick_65 rfl 66 rfl ?_
  refine r_get (v := .ref (o 5)) hC kX3 4 rfl q188 (fun _ h => h.get 0 rfl) rfl dX3_kick_66 69 rfl ?_
  refine r_getsN hC hG hzOTH q273 dX3_kick_69 72 rfl ?_
  refine r_iload_n hC 2 dX3_kick_72 rfl 73 rfl ?_
  refine r_ialdT hC htOTH 1 (xix_n 1 (Nat.le_of_ble_eq_true rfl) (Nat.le_of_ble_eq_true rfl)) 2 rfl dX3_kick_73 74 rfl ?_
  refine r_dup2 hC dX3_kick_74 rfl rfl 75 rfl ?_
  refine r_lald hC 2 (xix_n 2 (Nat.le_of_ble_eq_true rfl) (Nat.le_of_ble_eq_true rfl)) (fun _ h => h.get 5 rfl) (moX r 2) (by rw [← hu5, ← hu3, ← hu1]; rfl) dX3_kick_75 76 rfl ?_
  refine r_eql (y := r 19) (rfl) ?_
  refine r_lload hC 1 dX3_kick_76 rfl 78 rfl ?_
  refine r_lsub hC ((r 19) - (gQ t r false false 1 0)) dX3_kick_78  (rfl) 79 rfl ?_
  refine r_last (J := xSt F V0 [(o 0, .inr (2, [.ref (o 1), .ref (o 2), .ref (o 3), .ref (o 4), .ref (o 5), .ref (o 6), .ref (o 7), .ref (o 8), .ref (o 9), .ref (o 10), .int ((r 0).toInt32)])), (o 1, .inl (0, 6, .inl (seF t r))), (o 2, .inl (0, 3, .inl (maF r))), (o 3, .inl (0, 3, .inl (plX r))), (o 4, .inl (0, 3, .inl (plY r))), (o 5, .inl (1, 3, .inr (.inl (va_up u5 2 ((r 19) - (gQ t r false false 1 0)))))), (o 6, .inl (1, 3, .inr (.inl u6)))]) hC 2 (xix_n 2 (Nat.le_of_ble_eq_true rfl) (Nat.le_of_ble_eq_true rfl)) (fun _ h => h.get 5 rfl) dX3_kick_79 (fun _ h => h.set 5 _ rfl) 80 rfl ?_
  generalize hu7 : va_up u5 2 ((r 19) - (gQ t r false false 1 0)) = u7
  refine r_aload_n hC 3 dX3_kick_80 rfl 81 rfl ?_
  refine r_get (v := .ref (o 6)) hC kX3 5 rfl q191 (fun _ h => h.get 0 rfl) rfl dX3_kick_81 84 rfl ?_
  refine r_getsN hC hG hzOTH q273 dX3_kick_84 87 rfl ?_
  refine r_iload_n hC 2 dX3_kick_87 rfl 88 rfl ?_
  refine r_ialdT hC htOTH 1 (xix_n 1 (Nat.le_of_ble_eq_true rfl) (Nat.le_of_ble_eq_true rfl)) 2 rfl dX3_kick_88 89 rfl ?_
  refine r_dup2 hC dX3_kick_89 rfl rfl 90 rfl ?_
  refine r_lald hC 2 (xix_n 2 (Nat.le_of_ble_eq_true rfl) (Nat.le_of_ble_eq_true rfl)) (fun _ h => h.get 6 rfl) (moY r 2) (by rw [← hu6, ← hu4, ← hu2]; rfl) dX3_kick_90 91 rfl ?_
  refine r_eql (y := r 20) (rfl) ?_
  refine r_lload hC 0 dX3_kick_91 rfl 93 rfl ?_
  refine r_lsub hC ((r 20) - (gQ t r false false 1 1)) dX3_kick_93  (rfl) 94 rfl ?_
  refine r_last (J := xSt F V0 [(o 0, .inr (2, [.ref (o 1), .ref (o 2), .ref (o 3), .ref (o 4), .ref (o 5), .ref (o 6), .ref (o 7), .ref (o 8), .ref (o 9), .ref (o 10), .int ((r 0).toInt32)])), (o 1, .inl (0, 6, .inl (seF t r))), (o 2, .inl (0, 3, .inl (maF r))), (o 3, .inl (0, 3, .inl (plX r))), (o 4, .inl (0, 3, .inl (plY r))), (o 5, .inl (1, 3, .inr (.inl u7))), (o 6, .inl (1, 3, .inr (.inl (va_up u6 2 ((r 20) - (gQ t r false false 1 1))))))]) hC 2 (xix_n 2 (Nat.le_of_ble_eq_true rfl) (Nat.le_of_ble_eq_true rfl)) (fun _ h => h.get 6 rfl) dX3_kick_94 (fun _ h => h.set 6 _ rfl) 95 rfl ?_
  generalize hu8 : va_up u6 2 ((r 20) - (gQ t r false false 1 1)) = u8
  refine r_iinc hC 2 3 2 [(3, .int 2), (6, .long (gQ t r false false 1 1)), (4, .long (gQ t r false false 1 0)), (0, .ref (o 0)), (1, .int 1), (2, .int 1)] dX3_kick_95 rfl (by decide) (Nat.le_of_ble_eq_true rfl) rfl 98 rfl ?_
  refine r_goto hC 2 dX3_kick_98 (by decide) ?_
  refine r_iload_n hC 0 dX3_kick_2 rfl 3 rfl ?_
  refine r_iconst hC 3 dX3_kick_3 ic_3 4 rfl ?_
  refine r_icge hC 101 dX3_kick_4 (by decide) 7 rfl (fun h => absurd h (by decide)) (fun _ => ?_)
  refine r_iload_n hC 4 dX3_kick_7 rfl 8 rfl ?_
  refine r_i2l hC 1 dX3_kick_8 (by decide) 9 rfl ?_
  refine r_aload_n hC 3 dX3_kick_9 rfl 10 rfl ?_
  refine r_iload_n hC 0 dX3_kick_10 rfl 11 rfl ?_
  refine r_iconst hC 0 dX3_kick_11 ic_0 12 rfl ?_
  refine xCall.r (r := some (.long (impQ t r 2 0))) (r_cV hC kX3 (o 0) [.int 2, .int 0] mVX3_impulse q331 (fun _ h => ⟨_, h.get 0 rfl⟩) (fun V9 h9 => (metX3_impulse0 _ _ hG o t r 2 (Nat.le_of_ble_eq_true rfl) hpl ht hm) V9 (h9.in.sub [0, 1, 2, 3, 4] rfl rfl)) ⟨rfl, rfl⟩ (Nat.le_of_ble_eq_true rfl) (Nat.le_of_ble_eq_true rfl) rfl (Nat.le_of_ble_eq_true rfl) dX3_kick_12) 0 0 15 rfl rfl rfl ?_
  refine r_iload_n hC 5 dX3_kick_15 rfl 16 rfl ?_
  refine r_i2l hC 1 dX3_kick_16 (by decide) 17 rfl ?_
  refine r_ldiv hC ((impQ t r 2 0) / 1) dX3_kick_17 (by decide) (rfl) 18 rfl ?_
  refine r_lmul hC (1 * ((impQ t r 2 0) / 1)) dX3_kick_18  (rfl) 19 rfl ?_
  refine r_eql (y := gQ t r false false 2 0) (g00 _) ?_
  refine r_lstore hC 4 [(4, .long (gQ t r false false 2 0)), (3, .int 2), (6, .long (gQ t r false false 1 1)), (0, .ref (o 0)), (1, .int 1), (2, .int 1)] dX3_kick_19 (Nat.le_of_ble_eq_true rfl) rfl 21 rfl ?_
  refine r_iload_n hC 4 dX3_kick_21 rfl 22 rfl ?_
  refine r_i2l hC 1 dX3_kick_22 (by decide) 23 rfl ?_
  refine r_aload_n hC 3 dX3_kick_23 rfl 24 rfl ?_
  refine r_iload_n hC 1 dX3_kick_24 rfl 25 rfl ?_
  refine r_iconst hC 1 dX3_kick_25 ic_1 26 rfl ?_
  refine xCall.r (r := some (.long (impQ t r 2 1))) (r_cV hC kX3 (o 0) [.int 2, .int 1] mVX3_impulse q331 (fun _ h => ⟨_, h.get 0 rfl⟩) (fun V9 h9 => (metX3_impulse1 _ _ hG o t r 2 (Nat.le_of_ble_eq_true rfl) hpl ht hm) V9 (h9.in.sub [0, 1, 2, 3, 4] rfl rfl)) ⟨rfl, rfl⟩ (Nat.le_of_ble_eq_true rfl) (Nat.le_of_ble_eq_true rfl) rfl (Nat.le_of_ble_eq_true rfl) dX3_kick_26) 0 0 29 rfl rfl rfl ?_
  refine r_iload_n hC 5 dX3_kick_29 rfl 30 rfl ?_
  refine r_i2l hC 1 dX3_kick_30 (by decide) 31 rfl ?_
  refine r_ldiv hC ((impQ t r 2 1) / 1) dX3_kick_31 (by decide) (rfl) 32 rfl ?_
  refine r_lmul hC (1 * ((impQ t r 2 1) / 1)) dX3_kick_32  (rfl) 33 rfl ?_
  refine r_eql (y := gQ t r false false 2 1) (g00 _) ?_
  refine r_lstore hC 6 [(6, .long (gQ t r false false 2 1)), (4, .long (gQ t r false false 2 0)), (3, .int 2), (0, .ref (o 0)), (1, .int 1), (2, .int 1)] dX3_kick_33 (Nat.le_of_ble_eq_true rfl) rfl 35 rfl ?_
  refine r_aload_n hC 3 dX3_kick_35 rfl 36 rfl ?_
  refine r_get (v := .ref (o 5)) hC kX3 4 rfl q188 (fun _ h => h.get 0 rfl) rfl dX3_kick_36 39 rfl ?_
  refine r_getsN hC hG hzONE q271 dX3_kick_39 42 rfl ?_
  refine r_iload_n hC 2 dX3_kick_42 rfl 43 rfl ?_
  refine r_ialdT hC htONE 2 (xix_n 2 (Nat.le_of_ble_eq_true rfl) (Nat.le_of_ble_eq_true rfl)) 1 rfl dX3_kick_43 44 rfl ?_
  refine r_dup2 hC dX3_kick_44 rfl rfl 45 rfl ?_
  refine r_lald hC 1 (xix_n 1 (Nat.le_of_ble_eq_true rfl) (Nat.le_of_ble_eq_true rfl)) (fun _ h => h.get 5 rfl) ((r 14) - (gQ t r false false 0 0)) (by rw [← hu7, ← hu5, ← hu3]; rfl) dX3_kick_45 46 rfl ?_
  refine r_lload hC 1 dX3_kick_46 rfl 48 rfl ?_
  refine r_ladd hC (((r 14) - (gQ t r false false 0 0)) + (gQ t r false false 2 0)) dX3_kick_48  (rfl) 49 rfl ?_
  refine r_last (J := xSt F V0 [(o 0, .inr (2, [.ref (o 1), .ref (o 2), .ref (o 3), .ref (o 4), .ref (o 5), .ref (o 6), .ref (o 7), .ref (o 8), .ref (o 9), .ref (o 10), .int ((r 0).toInt32)])), (o 1, .inl (0, 6, .inl (seF t r))), (o 2, .inl (0, 3, .inl (maF r))), (o 3, .inl (0, 3, .inl (plX r))), (o 4, .inl (0, 3, .inl (plY r))), (o 5, .inl (1, 3, .inr (.inl (va_up u7 1 (((r 14) - (gQ t r false false 0 0)) + (gQ t r false false 2 0)))))), (o 6, .inl (1, 3, .inr (.inl u8)))]) hC 1 (xix_n 1 (Nat.le_of_ble_eq_true rfl) (Nat.le_of_ble_eq_true rfl)) (fun _ h => h.get 5 rfl) dX3_kick_49 (fun _ h => h.set 5 _ rfl) 50 rfl ?_
  generalize hu9 : va_up u7 1 (((r 14) - (gQ t r false false 0 0)) + (gQ t r false false 2 0)) = u9
  refine r_aload_n hC 3 dX3_kick_50 rfl 51 rfl ?_
  refine r_get (v := .ref (o 6)) hC kX3 5 rfl q191 (fun _ h => h.get 0 rfl) rfl dX3_kick_51 54 rfl ?_
  refine r_getsN hC hG hzONE q271 dX3_kick_54 57 rfl ?_
  refine r_iload_n hC 2 dX3_kick_57 rfl 58 rfl ?_
  refine r_ialdT hC htONE 2 (xix_n 2 (Nat.le_of_ble_eq_true rfl) (Nat.le_of_ble_eq_true rfl)) 1 rfl dX3_kick_58 59 rfl ?_
  refine r_dup2 hC dX3_kick_59 rfl rfl 60 rfl ?_
  refine r_lald hC 1 (xix_n 1 (Nat.le_of_ble_eq_true rfl) (Nat.le_of_ble_eq_true rfl)) (fun _ h => h.get 6 rfl) ((r 15) - (gQ t r false false 0 1)) (by rw [← hu8, ← hu6, ← hu4]; rfl) dX3_kick_60 61 rfl ?_
  refine r_lload hC 0 dX3_kick_61 rfl 63 rfl ?_
  refine r_ladd hC (((r 15) - (gQ t r false false 0 1)) + (gQ t r false false 2 1)) dX3_kick_63  (rfl) 64 rfl ?_
  refine r_last (J := xSt F V0 [(o 0, .inr (2, [.ref (o 1), .ref (o 2), .ref (o 3), .ref (o 4), .ref (o 5), .ref (o 6), .ref (o 7), .ref (o 8), .ref (o 9), .ref (o 10), .int ((r 0).toInt32)])), (o 1, .inl (0, 6, .inl (seF t r))), (o 2, .inl (0, 3, .inl (maF r))), (o 3, .inl (0, 3, .inl (plX r))), (o 4, .inl (0, 3, .inl (plY r))), (o 5, .inl (1, 3, .inr (.inl u9))), (o 6, .inl (1, 3, .inr (.inl (va_up u8 1 (((r 15) - (gQ t r false false 0 1)) + (gQ t r false false 2 1))))))]) hC 1 (xix_n 1 (Nat.le_of_ble_eq_true rfl) (Nat.le_of_ble_eq_true rfl)) (fun _ h => h.get 6 rfl) dX3_kick_64 (fun _ h => h.set 6 _ rfl) 65 rfl ?_
  generalize hu10 : va_up u8 1 (((r 15) - (gQ t r false false 0 1)) + (gQ t r false false 2 1)) = u10
  refine r_aload_n hC 3 dX3_kick_65 rfl 66 rfl ?_
  refine r_get (v := .ref (o 5)) hC kX3 4 rfl q188 (fun _ h => h.get 0 rfl) rfl dX3_kick_66 69 rfl ?_
  refine r_getsN hC hG hzOTH q273 dX3_kick_69 72 rfl ?_
  refine r_iload_n hC 2 dX3_kick_72 rfl 73 rfl ?_
  refine r_ialdT hC htOTH 2 (xix_n 2 (Nat.le_of_ble_eq_true rfl) (Nat.le_of_ble_eq_true rfl)) 2 rfl dX3_kick_73 74 rfl ?_
  refine r_dup2 hC dX3_kick_74 rfl rfl 75 rfl ?_
  refine r_lald hC 2 (xix_n 2 (Nat.le_of_ble_eq_true rfl) (Nat.le_of_ble_eq_true rfl)) (fun _ h => h.get 5 rfl) ((r 19) - (gQ t r false false 1 0)) (by rw [← hu9, ← hu7]; rfl) dX3_kick_75 76 rfl ?_
  refine r_lload hC 1 dX3_kick_76 rfl 78 rfl ?_
  refine r_lsub hC (((r 19) - (gQ t r false false 1 0)) - (gQ t r false false 2 0)) dX3_kick_78  (rfl) 79 rfl ?_
  refine r_last (J := xSt F V0 [(o 0, .inr (2, [.ref (o 1), .ref (o 2), .ref (o 3), .ref (o 4), .ref (o 5), .ref (o 6), .ref (o 7), .ref (o 8), .ref (o 9), .ref (o 10), .int ((r 0).toInt32)])), (o 1, .inl (0, 6, .inl (seF t r))), (o 2, .inl (0, 3, .inl (maF r))), (o 3, .inl (0, 3, .inl (plX r))), (o 4, .inl (0, 3, .inl (plY r))), (o 5, .inl (1, 3, .inr (.inl (va_up u9 2 (((r 19) - (gQ t r false false 1 0)) - (gQ t r false false 2 0)))))), (o 6, .inl (1, 3, .inr (.inl u10)))]) hC 2 (xix_n 2 (Nat.le_of_ble_eq_true rfl) (Nat.le_of_ble_eq_true rfl)) (fun _ h => h.get 5 rfl) dX3_kick_79 (fun _ h => h.set 5 _ rfl) 80 rfl ?_
  generalize hu11 : va_up u9 2 (((r 19) - (gQ t r false false 1 0)) - (gQ t r false false 2 0)) = u11
  refine r_aload_n hC 3 dX3_kick_80 rfl 81 rfl ?_
  refine r_get (v := .ref (o 6)) hC kX3 5 rfl q191 (fun _ h => h.get 0 rfl) rfl dX3_kick_81 84 rfl ?_
  refine r_getsN hC hG hzOTH q273 dX3_kick_84 87 rfl ?_
  refine r_iload_n hC 2 dX3_kick_87 rfl 88 rfl ?_
  refine r_ialdT hC htOTH 2 (xix_n 2 (Nat.le_of_ble_eq_true rfl) (Nat.le_of_ble_eq_true rfl)) 2 rfl dX3_kick_88 89 rfl ?_
  refine r_dup2 hC dX3_kick_89 rfl rfl 90 rfl ?_
  refine r_lald hC 2 (xix_n 2 (Nat.le_of_ble_eq_true rfl) (Nat.le_of_ble_eq_true rfl)) (fun _ h => h.get 6 rfl) ((r 20) - (gQ t r false false 1 1)) (by rw [← hu10, ← hu8]; rfl) dX3_kick_90 91 rfl ?_
  refine r_lload hC 0 dX3_kick_91 rfl 93 rfl ?_
  refine r_lsub hC (((r 20) - (gQ t r false false 1 1)) - (gQ t r false false 2 1)) dX3_kick_93  (rfl) 94 rfl ?_
  refine r_last (J := xSt F V0 [(o 0, .inr (2, [.ref (o 1), .ref (o 2), .ref (o 3), .ref (o 4), .ref (o 5), .ref (o 6), .ref (o 7), .ref (o 8), .ref (o 9), .ref (o 10), .int ((r 0).toInt32)])), (o 1, .inl (0, 6, .inl (seF t r))), (o 2, .inl (0, 3, .inl (maF r))), (o 3, .inl (0, 3, .inl (plX r))), (o 4, .inl (0, 3, .inl (plY r))), (o 5, .inl (1, 3, .inr (.inl u11))), (o 6, .inl (1, 3, .inr (.inl (va_up u10 2 (((r 20) - (gQ t r false false 1 1)) - (gQ t r false false 2 1))))))]) hC 2 (xix_n 2 (Nat.le_of_ble_eq_true rfl) (Nat.le_of_ble_eq_true rfl)) (fun _ h => h.get 6 rfl) dX3_kick_94 (fun _ h => h.set 6 _ rfl) 95 rfl ?_
  generalize hu12 : va_up u10 2 (((r 20) - (gQ t r false false 1 1)) - (gQ t r false false 2 1)) = u12
  refine r_iinc hC 3 3 2 [(3, .int 3), (6, .long (gQ t r false false 2 1)), (4, .long (gQ t r false false 2 0)), (0, .ref (o 0)), (1, .int 1), (2, .int 1)] dX3_kick_95 rfl (by decide) (Nat.le_of_ble_eq_true rfl) rfl 98 rfl ?_
  refine r_goto hC 2 dX3_kick_98 (by decide) ?_
  refine r_iload_n hC 0 dX3_kick_2 rfl 3 rfl ?_
  refine r_iconst hC 3 dX3_kick_3 ic_3 4 rfl ?_
  refine r_icge hC 101 dX3_kick_4 (by decide) 7 rfl (fun _ => ?_) (fun h => absurd h (by decide))
  refine r_iconst hC 0 dX3_kick_101 ic_0 102 rfl ?_
  refine r_istore_n hC 3 [(3, .int 0), (6, .long (gQ t r false false 2 1)), (4, .long (gQ t r false false 2 0)), (0, .ref (o 0)), (1, .int 1), (2, .int 1)] dX3_kick_102 rfl (Nat.le_of_ble_eq_true rfl) rfl 103 rfl ?_
  refine r_iload_n hC 0 dX3_kick_103 rfl 104 rfl ?_
  refine r_iconst hC 3 dX3_kick_104 ic_3 105 rfl ?_
  refine r_icge hC 138 dX3_kick_105 (by decide) 108 rfl (fun h => absurd h (by decide)) (fun _ => ?_)
  refine r_aload_n hC 3 dX3_kick_108 rfl 109 rfl ?_
  refine r_get (v := .ref (o 5)) hC kX3 4 rfl q188 (fun _ h => h.get 0 rfl) rfl dX3_kick_109 112 rfl ?_
  refine r_iload_n hC 0 dX3_kick_112 rfl 113 rfl ?_
  refine r_lald hC 0 (xix_n 0 (Nat.le_of_ble_eq_true rfl) (Nat.le_of_ble_eq_true rfl)) (fun _ h => h.get 5 rfl) (((r 9) + (gQ t r false false 0 0)) + (gQ t r false false 1 0)) (by rw [← hu11, ← hu9, ← hu7, ← hu5]; rfl) dX3_kick_113 114 rfl ?_
  refine r_ldc2 hC q335 dX3_kick_114 117 rfl ?_
  have hk13 : m_in (((r 9) + (gQ t r false false 0 0)) + (gQ t r false false 1 0)) (-1000000000) 1000000000 = true := by have h9 := in_y9 hin; rw [kkq_9] at h9; exact h9
  refine xCall.r (r := none) (r_cS hC [.long (((r 9) + (gQ t r false false 0 0)) + (gQ t r false false 1 0)), .long 1000000000] mSX3_check q336 (fun V9 h9 => (metX3_checkG _ _ hG (((r 9) + (gQ t r false false 0 0)) + (gQ t r false false 1 0)) 1000000000 hk13) V9 xIn.nil) ⟨rfl, rfl⟩ (Nat.le_of_ble_eq_true rfl) (Nat.le_of_ble_eq_true rfl) rfl (Nat.le_of_ble_eq_true rfl) dX3_kick_117) 0 0 120 rfl rfl rfl ?_
  refine r_aload_n hC 3 dX3_kick_120 rfl 121 rfl ?_
  refine r_get (v := .ref (o 6)) hC kX3 5 rfl q191 (fun _ h => h.get 0 rfl) rfl dX3_kick_121 124 rfl ?_
  refine r_iload_n hC 0 dX3_kick_124 rfl 125 rfl ?_
  refine r_lald hC 0 (xix_n 0 (Nat.le_of_ble_eq_true rfl) (Nat.le_of_ble_eq_true rfl)) (fun _ h => h.get 6 rfl) (((r 10) + (gQ t r false false 0 1)) + (gQ t r false false 1 1)) (by rw [← hu12, ← hu10, ← hu8, ← hu6]; rfl) dX3_kick_125 126 rfl ?_
  refine r_ldc2 hC q335 dX3_kick_126 129 rfl ?_
  have hk14 : m_in (((r 10) + (gQ t r false false 0 1)) + (gQ t r false false 1 1)) (-1000000000) 1000000000 = true := by have h9 := in_y10 hin; rw [kkq_10] at h9; exact h9
  refine xCall.r (r := none) (r_cS hC [.long (((r 10) + (gQ t r false false 0 1)) + (gQ t r false false 1 1)), .long 1000000000] mSX3_check q336 (fun V9 h9 => (metX3_checkG _ _ hG (((r 10) + (gQ t r false false 0 1)) + (gQ t r false false 1 1)) 1000000000 hk14) V9 xIn.nil) ⟨rfl, rfl⟩ (Nat.le_of_ble_eq_true rfl) (Nat.le_of_ble_eq_true rfl) rfl (Nat.le_of_ble_eq_true rfl) dX3_kick_129) 0 0 132 rfl rfl rfl ?_
  refine r_iinc hC 1 3 0 [(3, .int 1), (6, .long (gQ t r false false 2 1)), (4, .long (gQ t r false false 2 0)), (0, .ref (o 0)), (1, .int 1), (2, .int 1)] dX3_kick_132 rfl (by decide) (Nat.le_of_ble_eq_true rfl) rfl 135 rfl ?_
  refine r_goto hC 103 dX3_kick_135 (by decide) ?_
  refine r_iload_n hC 0 dX3_kick_103 rfl 104 rfl ?_
  refine r_iconst hC 3 dX3_kick_104 ic_3 105 rfl ?_
  refine r_icge hC 138 dX3_kick_105 (by decide) 108 rfl (fun h => absurd h (by decide)) (fun _ => ?_)
  refine r_aload_n hC 3 dX3_kick_108 rfl 109 rfl ?_
  refine r_get (v := .ref (o 5)) hC kX3 4 rfl q188 (fun _ h => h.get 0 rfl) rfl dX3_kick_109 112 rfl ?_
  refine r_iload_n hC 0 dX3_kick_112 rfl 113 rfl ?_
  refine r_lald hC 1 (xix_n 1 (Nat.le_of_ble_eq_true rfl) (Nat.le_of_ble_eq_true rfl)) (fun _ h => h.get 5 rfl) (((r 14) - (gQ t r false false 0 0)) + (gQ t r false false 2 0)) (by rw [← hu11, ← hu9]; rfl) dX3_kick_113 114 rfl ?_
  refine r_ldc2 hC q335 dX3_kick_114 117 rfl ?_
  have hk15 : m_in (((r 14) - (gQ t r false false 0 0)) + (gQ t r false false 2 0)) (-1000000000) 1000000000 = true := by have h9 := in_y14 hin; rw [kkq_14] at h9; exact h9
  refine xCall.r (r := none) (r_cS hC [.long (((r 14) - (gQ t r false false 0 0)) + (gQ t r false false 2 0)), .long 1000000000] mSX3_check q336 (fun V9 h9 => (metX3_checkG _ _ hG (((r 14) - (gQ t r false false 0 0)) + (gQ t r false false 2 0)) 1000000000 hk15) V9 xIn.nil) ⟨rfl, rfl⟩ (Nat.le_of_ble_eq_true rfl) (Nat.le_of_ble_eq_true rfl) rfl (Nat.le_of_ble_eq_true rfl) dX3_kick_117) 0 0 120 rfl rfl rfl ?_
  refine r_aload_n hC 3 dX3_kick_120 rfl 121 rfl ?_
  refine r_get (v := .ref (o 6)) hC kX3 5 rfl q191 (fun _ h => h.get 0 rfl) rfl dX3_kick_121 124 rfl ?_
  refine r_iload_n hC 0 dX3_kick_124 rfl 125 rfl ?_
  refine r_lald hC 1 (xix_n 1 (Nat.le_of_ble_eq_true rfl) (Nat.le_of_ble_eq_true rfl)) (fun _ h => h.get 6 rfl) (((r 15) - (gQ t r false false 0 1)) + (gQ t r false false 2 1)) (by rw [← hu12, ← hu10]; rfl) dX3_kick_125 126 rfl ?_
  refine r_ldc2 hC q335 dX3_kick_126 129 rfl ?_
  have hk16 : m_in (((r 15) - (gQ t r false false 0 1)) + (gQ t r false false 2 1)) (-1000000000) 1000000000 = true := by have h9 := in_y15 hin; rw [kkq_15] at h9; exact h9
  refine xCall.r (r := none) (r_cS hC [.long (((r 15) - (gQ t r false false 0 1)) + (gQ t r false false 2 1)), .long 1000000000] mSX3_check q336 (fun V9 h9 => (metX3_checkG _ _ hG (((r 15) - (gQ t r false false 0 1)) + (gQ t r false false 2 1)) 1000000000 hk16) V9 xIn.nil) ⟨rfl, rfl⟩ (Nat.le_of_ble_eq_true rfl) (Nat.le_of_ble_eq_true rfl) rfl (Nat.le_of_ble_eq_true rfl) dX3_kick_129) 0 0 132 rfl rfl rfl ?_
  refine r_iinc hC 2 3 0 [(3, .int 2), (6, .long (gQ t r false false 2 1)), (4, .long (gQ t r false false 2 0)), (0, .ref (o 0)), (1, .int 1), (2, .int 1)] dX3_kick_132 rfl (by decide) (Nat.le_of_ble_eq_true rfl) rfl 135 rfl ?_
  refine r_goto hC 103 dX3_kick_135 (by decide) ?_
  refine r_iload_n hC 0 dX3_kick_103 rfl 104 rfl ?_
  refine r_iconst hC 3 dX3_kick_104 ic_3 105 rfl ?_
  refine r_icge hC 138 dX3_kick_105 (by decide) 108 rfl (fun h => absurd h (by decide)) (fun _ => ?_)
  refine r_aload_n hC 3 dX3_kick_108 rfl 109 rfl ?_
  refine r_get (v := .ref (o 5)) hC kX3 4 rfl q188 (fun _ h => h.get 0 rfl) rfl dX3_kick_109 112 rfl ?_
  refine r_iload_n hC 0 dX3_kick_112 rfl 113 rfl ?_
  refine r_lald hC 2 (xix_n 2 (Nat.le_of_ble_eq_true rfl) (Nat.le_of_ble_eq_true rfl)) (fun _ h => h.get 5 rfl) (((r 19) - (gQ t r false false 1 0)) - (gQ t r false false 2 0)) (by rw [← hu11]; rfl) dX3_kick_113 114 rfl ?_
  refine r_ldc2 hC q335 dX3_kick_114 117 rfl ?_
  have hk17 : m_in (((r 19) - (gQ t r false false 1 0)) - (gQ t r false false 2 0)) (-1000000000) 1000000000 = true := by have h9 := in_y19 hin; rw [kkq_19] at h9; exact h9
  refine xCall.r (r := none) (r_cS hC [.long (((r 19) - (gQ t r false false 1 0)) - (gQ t r false false 2 0)), .long 1000000000] mSX3_check q336 (fun V9 h9 => (metX3_checkG _ _ hG (((r 19) - (gQ t r false false 1 0)) - (gQ t r false false 2 0)) 1000000000 hk17) V9 xIn.nil) ⟨rfl, rfl⟩ (Nat.le_of_ble_eq_true rfl) (Nat.le_of_ble_eq_true rfl) rfl (Nat.le_of_ble_eq_true rfl) dX3_kick_117) 0 0 120 rfl rfl rfl ?_
  refine r_aload_n hC 3 dX3_kick_120 rfl 121 rfl ?_
  refine r_get (v := .ref (o 6)) hC kX3 5 rfl q191 (fun _ h => h.get 0 rfl) rfl dX3_kick_121 124 rfl ?_
  refine r_iload_n hC 0 dX3_kick_124 rfl 125 rfl ?_
  refine r_lald hC 2 (xix_n 2 (Nat.le_of_ble_eq_true rfl) (Nat.le_of_ble_eq_true rfl)) (fun _ h => h.get 6 rfl) (((r 20) - (gQ t r false false 1 1)) - (gQ t r false false 2 1)) (by rw [← hu12]; rfl) dX3_kick_125 126 rfl ?_
  refine r_ldc2 hC q335 dX3_kick_126 129 rfl ?_
  have hk18 : m_in (((r 20) - (gQ t r false false 1 1)) - (gQ t r false false 2 1)) (-1000000000) 1000000000 = true := by have h9 := in_y20 hin; rw [kkq_20] at h9; exact h9
  refine xCall.r (r := none) (r_cS hC [.long (((r 20) - (gQ t r false false 1 1)) - (gQ t r false false 2 1)), .long 1000000000] mSX3_check q336 (fun V9 h9 => (metX3_checkG _ _ hG (((r 20) - (gQ t r false false 1 1)) - (gQ t r false false 2 1)) 1000000000 hk18) V9 xIn.nil) ⟨rfl, rfl⟩ (Nat.le_of_ble_eq_true rfl) (Nat.le_of_ble_eq_true rfl) rfl (Nat.le_of_ble_eq_true rfl) dX3_kick_129) 0 0 132 rfl rfl rfl ?_
  refine r_iinc hC 3 3 0 [(3, .int 3), (6, .long (gQ t r false false 2 1)), (4, .long (gQ t r false false 2 0)), (0, .ref (o 0)), (1, .int 1), (2, .int 1)] dX3_kick_132 rfl (by decide) (Nat.le_of_ble_eq_true rfl) rfl 135 rfl ?_
  refine r_goto hC 103 dX3_kick_135 (by decide) ?_
  refine r_iload_n hC 0 dX3_kick_103 rfl 104 rfl ?_
  refine r_iconst hC 3 dX3_kick_104 ic_3 105 rfl ?_
  refine r_icge hC 138 dX3_kick_105 (by decide) 108 rfl (fun _ => ?_) (fun h => absurd h (by decide))
  subst hu12
  subst hu11
  subst hu10
  subst hu9
  subst hu8
  subst hu7
  subst hu6
  subst hu5
  subst hu4
  subst hu3
  subst hu2
  subst hu1
  refine rn_cellI (J := xSt F V0 [(o 0, .inr (2, [.ref (o 1), .ref (o 2), .ref (o 3), .ref (o 4), .ref (o 5), .ref (o 6), .ref (o 7), .ref (o 8), .ref (o 9), .ref (o 10), .int ((r 0).toInt32)])), (o 1, .inl (0, 6, .inl (seF t r))), (o 2, .inl (0, 3, .inl (maF (kickQ t r false false)))), (o 3, .inl (0, 3, .inl (plX r))), (o 4, .inl (0, 3, .inl (plY r))), (o 5, .inl (1, 3, .inr (.inl (va_up (va_up (va_up (va_up (va_up (va_up (moX r) 0 ((r 9) + (gQ t r false false 0 0))) 1 ((r 14) - (gQ t r false false 0 0))) 0 (((r 9) + (gQ t r false false 0 0)) + (gQ t r false false 1 0))) 2 ((r 19) - (gQ t r false false 1 0))) 1 (((r 14) - (gQ t r false false 0 0)) + (gQ t r false false 2 0))) 2 (((r 19) - (gQ t r false false 1 0)) - (gQ t r false false 2 0)))))), (o 6, .inl (1, 3, .inr (.inl (va_up (va_up (va_up (va_up (va_up (va_up (moY r) 0 ((r 10) + (gQ t r false false 0 1))) 1 ((r 15) - (gQ t r false false 0 1))) 0 (((r 10) + (gQ t r false false 0 1)) + (gQ t r false false 1 1))) 2 ((r 20) - (gQ t r false false 1 1))) 1 (((r 15) - (gQ t r false false 0 1)) + (gQ t r false false 2 1))) 2 (((r 20) - (gQ t r false false 1 1)) - (gQ t r false false 2 1))))))]) (fun _ h => h.get 2 rfl) (fun j9 hj9 => by
      rcases (show j9 = 0 ∨ j9 = 1 ∨ j9 = 2 by omega) with rfl | rfl | rfl
      · exact congrArg Int64.toInt32 (kkq_6).symm
      · exact congrArg Int64.toInt32 (kkq_11).symm
      · exact congrArg Int64.toInt32 (kkq_16).symm) (fun _ h => h.set 2 _ rfl) ?_
  refine rn_cellI (J := xSt F V0 [(o 0, .inr (2, [.ref (o 1), .ref (o 2), .ref (o 3), .ref (o 4), .ref (o 5), .ref (o 6), .ref (o 7), .ref (o 8), .ref (o 9), .ref (o 10), .int ((r 0).toInt32)])), (o 1, .inl (0, 6, .inl (seF t r))), (o 2, .inl (0, 3, .inl (maF (kickQ t r false false)))), (o 3, .inl (0, 3, .inl (plX (kickQ t r false false)))), (o 4, .inl (0, 3, .inl (plY r))), (o 5, .inl (1, 3, .inr (.inl (va_up (va_up (va_up (va_up (va_up (va_up (moX r) 0 ((r 9) + (gQ t r false false 0 0))) 1 ((r 14) - (gQ t r false false 0 0))) 0 (((r 9) + (gQ t r false false 0 0)) + (gQ t r false false 1 0))) 2 ((r 19) - (gQ t r false false 1 0))) 1 (((r 14) - (gQ t r false false 0 0)) + (gQ t r false false 2 0))) 2 (((r 19) - (gQ t r false false 1 0)) - (gQ t r false false 2 0)))))), (o 6, .inl (1, 3, .inr (.inl (va_up (va_up (va_up (va_up (va_up (va_up (moY r) 0 ((r 10) + (gQ t r false false 0 1))) 1 ((r 15) - (gQ t r false false 0 1))) 0 (((r 10) + (gQ t r false false 0 1)) + (gQ t r false false 1 1))) 2 ((r 20) - (gQ t r false false 1 1))) 1 (((r 15) - (gQ t r false false 0 1)) + (gQ t r false false 2 1))) 2 (((r 20) - (gQ t r false false 1 1)) - (gQ t r false false 2 1))))))]) (fun _ h => h.get 3 rfl) (fun j9 hj9 => by
      rcases (show j9 = 0 ∨ j9 = 1 ∨ j9 = 2 by omega) with rfl | rfl | rfl
      · exact congrArg Int64.toInt32 (kkq_7).symm
      · exact congrArg Int64.toInt32 (kkq_12).symm
      · exact congrArg Int64.toInt32 (kkq_17).symm) (fun _ h => h.set 3 _ rfl) ?_
  refine rn_cellI (J := xSt F V0 [(o 0, .inr (2, [.ref (o 1), .ref (o 2), .ref (o 3), .ref (o 4), .ref (o 5), .ref (o 6), .ref (o 7), .ref (o 8), .ref (o 9), .ref (o 10), .int ((r 0).toInt32)])), (o 1, .inl (0, 6, .inl (seF t r))), (o 2, .inl (0, 3, .inl (maF (kickQ t r false false)))), (o 3, .inl (0, 3, .inl (plX (kickQ t r false false)))), (o 4, .inl (0, 3, .inl (plY (kickQ t r false false)))), (o 5, .inl (1, 3, .inr (.inl (va_up (va_up (va_up (va_up (va_up (va_up (moX r) 0 ((r 9) + (gQ t r false false 0 0))) 1 ((r 14) - (gQ t r false false 0 0))) 0 (((r 9) + (gQ t r false false 0 0)) + (gQ t r false false 1 0))) 2 ((r 19) - (gQ t r false false 1 0))) 1 (((r 14) - (gQ t r false false 0 0)) + (gQ t r false false 2 0))) 2 (((r 19) - (gQ t r false false 1 0)) - (gQ t r false false 2 0)))))), (o 6, .inl (1, 3, .inr (.inl (va_up (va_up (va_up (va_up (va_up (va_up (moY r) 0 ((r 10) + (gQ t r false false 0 1))) 1 ((r 15) - (gQ t r false false 0 1))) 0 (((r 10) + (gQ t r false false 0 1)) + (gQ t r false false 1 1))) 2 ((r 20) - (gQ t r false false 1 1))) 1 (((r 15) - (gQ t r false false 0 1)) + (gQ t r false false 2 1))) 2 (((r 20) - (gQ t r false false 1 1)) - (gQ t r false false 2 1))))))]) (fun _ h => h.get 4 rfl) (fun j9 hj9 => by
      rcases (show j9 = 0 ∨ j9 = 1 ∨ j9 = 2 by omega) with rfl | rfl | rfl
      · exact congrArg Int64.toInt32 (kkq_8).symm
      · exact congrArg Int64.toInt32 (kkq_13).symm
      · exact congrArg Int64.toInt32 (kkq_18).symm) (fun _ h => h.set 4 _ rfl) ?_
  refine rn_cellJ (J := xSt F V0 [(o 0, .inr (2, [.ref (o 1), .ref (o 2), .ref (o 3), .ref (o 4), .ref (o 5), .ref (o 6), .ref (o 7), .ref (o 8), .ref (o 9), .ref (o 10), .int ((r 0).toInt32)])), (o 1, .inl (0, 6, .inl (seF t r))), (o 2, .inl (0, 3, .inl (maF (kickQ t r false false)))), (o 3, .inl (0, 3, .inl (plX (kickQ t r false false)))), (o 4, .inl (0, 3, .inl (plY (kickQ t r false false)))), (o 5, .inl (1, 3, .inr (.inl (moX (kickQ t r false false))))), (o 6, .inl (1, 3, .inr (.inl (va_up (va_up (va_up (va_up (va_up (va_up (moY r) 0 ((r 10) + (gQ t r false false 0 1))) 1 ((r 15) - (gQ t r false false 0 1))) 0 (((r 10) + (gQ t r false false 0 1)) + (gQ t r false false 1 1))) 2 ((r 20) - (gQ t r false false 1 1))) 1 (((r 15) - (gQ t r false false 0 1)) + (gQ t r false false 2 1))) 2 (((r 20) - (gQ t r false false 1 1)) - (gQ t r false false 2 1))))))]) (fun _ h => h.get 5 rfl) (fun j9 hj9 => by
      rcases (show j9 = 0 ∨ j9 = 1 ∨ j9 = 2 by omega) with rfl | rfl | rfl
      · exact ((up_ne (by decide)).trans ((up_ne (by decide)).trans ((up_ne (by decide)).trans (up_same _ _ _)))).trans (kkq_9).symm
      · exact ((up_ne (by decide)).trans (up_same _ _ _)).trans (kkq_14).symm
      · exact (up_same _ _ _).trans (kkq_19).symm) (fun _ h => h.set 5 _ rfl) ?_
  refine rn_cellJ (J := xSt F V0 [(o 0, .inr (2, [.ref (o 1), .ref (o 2), .ref (o 3), .ref (o 4), .ref (o 5), .ref (o 6), .ref (o 7), .ref (o 8), .ref (o 9), .ref (o 10), .int ((r 0).toInt32)])), (o 1, .inl (0, 6, .inl (seF t r))), (o 2, .inl (0, 3, .inl (maF (kickQ t r false false)))), (o 3, .inl (0, 3, .inl (plX (kickQ t r false false)))), (o 4, .inl (0, 3, .inl (plY (kickQ t r false false)))), (o 5, .inl (1, 3, .inr (.inl (moX (kickQ t r false false))))), (o 6, .inl (1, 3, .inr (.inl (moY (kickQ t r false false)))))]) (fun _ h => h.get 6 rfl) (fun j9 hj9 => by
      rcases (show j9 = 0 ∨ j9 = 1 ∨ j9 = 2 by omega) with rfl | rfl | rfl
      · exact ((up_ne (by decide)).trans ((up_ne (by decide)).trans ((up_ne (by decide)).trans (up_same _ _ _)))).trans (kkq_10).symm
      · exact ((up_ne (by decide)).trans (up_same _ _ _)).trans (kkq_15).symm
      · exact (up_same _ _ _).trans (kkq_20).symm) (fun _ h => h.set 6 _ rfl) ?_
  exact r_vret hC (Nat.le_of_ble_eq_true rfl) (Nat.le_of_ble_eq_true rfl) (fun V9 h => hQ _ _ ⟨[(o 0, .inr (2, [.ref (o 1), .ref (o 2), .ref (o 3), .ref (o 4), .ref (o 5), .ref (o 6), .ref (o 7), .ref (o 8), .ref (o 9), .ref (o 10), .int (((kickQ t r false false) 0).toInt32)])), (o 1, .inl (0, 6, .inl (seF t (kickQ t r false false)))), (o 2, .inl (0, 3, .inl (maF (kickQ t r false false)))), (o 3, .inl (0, 3, .inl (plX (kickQ t r false false)))), (o 4, .inl (0, 3, .inl (plY (kickQ t r false false)))), (o 5, .inl (1, 3, .inr (.inl (moX (kickQ t r false false))))), (o 6, .inl (1, 3, .inr (.inl (moY (kickQ t r false false)))))], ⟨rfl, in_t (plR_kick hpl) (by rw [kkq_9]; exact hk13) (by rw [kkq_10]; exact hk14) (by rw [kkq_14]; exact hk15) (by rw [kkq_15]; exact hk16) (by rw [kkq_19]; exact hk17) (by rw [kkq_20]; exact hk18), rfl⟩, by rw [← hV0, ← hF]; exact h⟩) dX3_kick_138
set_option maxHeartbeats 4000000 in
set_option maxRecDepth 100000 in
theorem metX3_kick01 (l : Launch) (G : xG) (hG : xGood G) (o : Nat → Nat) (t r : Nat → Int64) (hpl : plR r) (ht : tOK t) (hm : mOK r) : xWm l G yX3_kick (Cond.code yX3_kick cX3_kick 8 none) { frames := 5, locals := 111, cells := 1, slots := 6 } [.ref (o 0), .int (-1), .int 1] [(o 0, .inr (2, [.ref (o 1), .ref (o 2), .ref (o 3), .ref (o 4), .ref (o 5), .ref (o 6), .ref (o 7), .ref (o 8), .ref (o 9), .ref (o 10), .int ((r 0).toInt32)])), (o 1, .inl (0, 6, .inl (seF t r))), (o 2, .inl (0, 3, .inl (maF r))), (o 3, .inl (0, 3, .inl (plX r))), (o 4, .inl (0, 3, .inl (plY r))), (o 5, .inl (1, 3, .inr (.inl (moX r)))), (o 6, .inl (1, 3, .inr (.inl (moY r))))] (fun v w' => v = none ∧ isInQ (kickQ t r false true) = true ∧ w' = [(o 0, .inr (2, [.ref (o 1), .ref (o 2), .ref (o 3), .ref (o 4), .ref (o 5), .ref (o 6), .ref (o 7), .ref (o 8), .ref (o 9), .ref (o 10), .int (((kickQ t r false true) 0).toInt32)])), (o 1, .inl (0, 6, .inl (seF t (kickQ t r false true)))), (o 2, .inl (0, 3, .inl (maF (kickQ t r false true)))), (o 3, .inl (0, 3, .inl (plX (kickQ t r false true)))), (o 4, .inl (0, 3, .inl (plY (kickQ t r false true)))), (o 5, .inl (1, 3, .inr (.inl (moX (kickQ t r false true))))), (o 6, .inl (1, 3, .inr (.inl (moY (kickQ t r false true)))))]) (fun q w' => isInQ (kickQ t r false true) = false ∧ ∃ px' py' : Nat → Int64, w' = [(o 0, .inr (2, [.ref (o 1), .ref (o 2), .ref (o 3), .ref (o 4), .ref (o 5), .ref (o 6), .ref (o 7), .ref (o 8), .ref (o 9), .ref (o 10), .int ((r 0).toInt32)])), (o 1, .inl (0, 6, .inl (seF t r))), (o 2, .inl (0, 3, .inl (maF r))), (o 3, .inl (0, 3, .inl (plX r))), (o 4, .inl (0, 3, .inl (plY r))), (o 5, .inl (1, 3, .inr (.inl px'))), (o 6, .inl (1, 3, .inr (.inl py'))), (q, .inr (3, [.null, .null, .null, .null, .null, .int 0]))]) := by
  intro V hV
  refine xMet_ofT RX3 hG rfl (by decide) (Nat.le_of_ble_eq_true rfl) fun C hC hQ hX hl hg _ hTab => ?_
  subst hl hg
  obtain ⟨tONE, hzONE, htONE⟩ := za_ONE hG
  obtain ⟨tOTH, hzOTH, htOTH⟩ := za_OTH hG
  obtain ⟨V0, hV0⟩ : ∃ V0, V0 = V := ⟨_, rfl⟩
  obtain ⟨F, hF⟩ : ∃ F, F = xF [(o 0, .inr (2, [.ref (o 1), .ref (o 2), .ref (o 3), .ref (o 4), .ref (o 5), .ref (o 6), .ref (o 7), .ref (o 8), .ref (o 9), .ref (o 10), .int ((r 0).toInt32)])), (o 1, .inl (0, 6, .inl (seF t r))), (o 2, .inl (0, 3, .inl (maF r))), (o 3, .inl (0, 3, .inl (plX r))), (o 4, .inl (0, 3, .inl (plY r))), (o 5, .inl (1, 3, .inr (.inl (moX r)))), (o 6, .inl (1, 3, .inr (.inl (moY r))))] := ⟨_, rfl⟩
  refine rn.mono (J := xSt F V0 [(o 0, .inr (2, [.ref (o 1), .ref (o 2), .ref (o 3), .ref (o 4), .ref (o 5), .ref (o 6), .ref (o 7), .ref (o 8), .ref (o 9), .ref (o 10), .int ((r 0).toInt32)])), (o 1, .inl (0, 6, .inl (seF t r))), (o 2, .inl (0, 3, .inl (maF r))), (o 3, .inl (0, 3, .inl (plX r))), (o 4, .inl (0, 3, .inl (plY r))), (o 5, .inl (1, 3, .inr (.inl (moX r)))), (o 6, .inl (1, 3, .inr (.inl (moY r))))]) (fun V9 h => by rw [h, hV0, hF]; exact hV.st) ?_
  show rn C (xSt F V0 [(o 0, .inr (2, [.ref (o 1), .ref (o 2), .ref (o 3), .ref (o 4), .ref (o 5), .ref (o 6), .ref (o 7), .ref (o 8), .ref (o 9), .ref (o 10), .int ((r 0).toInt32)])), (o 1, .inl (0, 6, .inl (seF t r))), (o 2, .inl (0, 3, .inl (maF r))), (o 3, .inl (0, 3, .inl (plX r))), (o 4, .inl (0, 3, .inl (plY r))), (o 5, .inl (1, 3, .inr (.inl (moX r)))), (o 6, .inl (1, 3, .inr (.inl (moY r))))]) 0 0 0 [(0, .ref (o 0)), (1, .int (-1)), (2, .int 1)] []
  refine r_iconst hC 0 dX3_kick_0 ic_0 1 rfl ?_
  refine r_istore_n hC 3 [(3, .int 0), (0, .ref (o 0)), (1, .int (-1)), (2, .int 1)] dX3_kick_1 rfl (Nat.le_of_ble_eq_true rfl) rfl 2 rfl ?_
  refine r_iload_n hC 0 dX3_kick_2 rfl 3 rfl ?_
  refine r_iconst hC 3 dX3_kick_3 ic_3 4 rfl ?_
  refine r_icge hC 101 dX3_kick_4 (by decide) 7 rfl (fun h => absurd h (by decide)) (fun _ => ?_)
  refine r_iload_n hC 2 dX3_kick_7 rfl 8 rfl ?_
  refine r_i2l hC (-1) dX3_kick_8 (by decide) 9 rfl ?_
  refine r_aload_n hC 1 dX3_kick_9 rfl 10 rfl ?_
  refine r_iload_n hC 0 dX3_kick_10 rfl 11 rfl ?_
  refine r_iconst hC 0 dX3_kick_11 ic_0 12 rfl ?_
  refine xCall.r (r := some (.long (impQ t r 0 0))) (r_cV hC kX3 (o 0) [.int 0, .int 0] mVX3_impulse q331 (fun _ h => ⟨_, h.get 0 rfl⟩) (fun V9 h9 => (metX3_impulse0 _ _ hG o t r 0 (Nat.le_of_ble_eq_true rfl) hpl ht hm) V9 (h9.in.sub [0, 1, 2, 3, 4] rfl rfl)) ⟨rfl, rfl⟩ (Nat.le_of_ble_eq_true rfl) (Nat.le_of_ble_eq_true rfl) rfl (Nat.le_of_ble_eq_true rfl) dX3_kick_12) 0 0 15 rfl rfl rfl ?_
  refine r_iload_n hC 3 dX3_kick_15 rfl 16 rfl ?_
  refine r_i2l hC 1 dX3_kick_16 (by decide) 17 rfl ?_
  refine r_ldiv hC ((impQ t r 0 0) / 1) dX3_kick_17 (by decide) (rfl) 18 rfl ?_
  refine r_lmul hC ((-1) * ((impQ t r 0 0) / 1)) dX3_kick_18  (rfl) 19 rfl ?_
  refine r_eql (y := gQ t r false true 0 0) (g01 _) ?_
  refine r_lstore hC 4 [(4, .long (gQ t r false true 0 0)), (3, .int 0), (0, .ref (o 0)), (1, .int (-1)), (2, .int 1)] dX3_kick_19 (Nat.le_of_ble_eq_true rfl) rfl 21 rfl ?_
  refine r_iload_n hC 3 dX3_kick_21 rfl 22 rfl ?_
  refine r_i2l hC (-1) dX3_kick_22 (by decide) 23 rfl ?_
  refine r_aload_n hC 2 dX3_kick_23 rfl 24 rfl ?_
  refine r_iload_n hC 1 dX3_kick_24 rfl 25 rfl ?_
  refine r_iconst hC 1 dX3_kick_25 ic_1 26 rfl ?_
  refine xCall.r (r := some (.long (impQ t r 0 1))) (r_cV hC kX3 (o 0) [.int 0, .int 1] mVX3_impulse q331 (fun _ h => ⟨_, h.get 0 rfl⟩) (fun V9 h9 => (metX3_impulse1 _ _ hG o t r 0 (Nat.le_of_ble_eq_true rfl) hpl ht hm) V9 (h9.in.sub [0, 1, 2, 3, 4] rfl rfl)) ⟨rfl, rfl⟩ (Nat.le_of_ble_eq_true rfl) (Nat.le_of_ble_eq_true rfl) rfl (Nat.le_of_ble_eq_true rfl) dX3_kick_26) 0 0 29 rfl rfl rfl ?_
  refine r_iload_n hC 4 dX3_kick_29 rfl 30 rfl ?_
  refine r_i2l hC 1 dX3_kick_30 (by decide) 31 rfl ?_
  refine r_ldiv hC ((impQ t r 0 1) / 1) dX3_kick_31 (by decide) (rfl) 32 rfl ?_
  refine r_lmul hC ((-1) * ((impQ t r 0 1) / 1)) dX3_kick_32  (rfl) 33 rfl ?_
  refine r_eql (y := gQ t r false true 0 1) (g01 _) ?_
  refine r_lstore hC 6 [(6, .long (gQ t r false true 0 1)), (4, .long (gQ t r false true 0 0)), (3, .int 0), (0, .ref (o 0)), (1, .int (-1)), (2, .int 1)] dX3_kick_33 (Nat.le_of_ble_eq_true rfl) rfl 35 rfl ?_
  refine r_aload_n hC 3 dX3_kick_35 rfl 36 rfl ?_
  refine r_get (v := .ref (o 5)) hC kX3 4 rfl q188 (fun _ h => h.get 0 rfl) rfl dX3_kick_36 39 rfl ?_
  refine r_getsN hC hG hzONE q271 dX3_kick_39 42 rfl ?_
  refine r_iload_n hC 2 dX3_kick_42 rfl 43 rfl ?_
  refine r_ialdT hC htONE 0 (xix_n 0 (Nat.le_of_ble_eq_true rfl) (Nat.le_of_ble_eq_true rfl)) 0 rfl dX3_kick_43 44 rfl ?_
  refine r_dup2 hC dX3_kick_44 rfl rfl 45 rfl ?_
  refine r_lald hC 0 (xix_n 0 (Nat.le_of_ble_eq_true rfl) (Nat.le_of_ble_eq_true rfl)) (fun _ h => h.get 5 rfl) (moX r 0) (rfl) dX3_kick_45 46 rfl ?_
  refine r_eql (y := r 9) (rfl) ?_
  refine r_lload hC 1 dX3_kick_46 rfl 48 rfl ?_
  refine r_ladd hC ((r 9) + (gQ t r false true 0 0)) dX3_kick_48  (rfl) 49 rfl ?_
  refine r_last (J := xSt F V0 [(o 0, .inr (2, [.ref (o 1), .ref (o 2), .ref (o 3), .ref (o 4), .ref (o 5), .ref (o 6), .ref (o 7), .ref (o 8), .ref (o 9), .ref (o 10), .int ((r 0).toInt32)])), (o 1, .inl (0, 6, .inl (seF t r))), (o 2, .inl (0, 3, .inl (maF r))), (o 3, .inl (0, 3, .inl (plX r))), (o 4, .inl (0, 3, .inl (plY r))), (o 5, .inl (1, 3, .inr (.inl (va_up (moX r) 0 ((r 9) + (gQ t r false true 0 0)))))), (o 6, .inl (1, 3, .inr (.inl (moY r))))]) hC 0 (xix_n 0 (Nat.le_of_ble_eq_true rfl) (Nat.le_of_ble_eq_true rfl)) (fun _ h => h.get 5 rfl) dX3_kick_49 (fun _ h => h.set 5 _ rfl) 50 rfl ?_
  generalize hu1 : va_up (moX r) 0 ((r 9) + (gQ t r false true 0 0)) = u1
  refine r_aload_n hC 3 dX3_kick_50 rfl 51 rfl ?_
  refine r_get (v := .ref (o 6)) hC kX3 5 rfl q191 (fun _ h => h.get 0 rfl) rfl dX3_kick_51 54 rfl ?_
  refine r_getsN hC hG hzONE q271 dX3_kick_54 57 rfl ?_
  refine r_iload_n hC 2 dX3_kick_57 rfl 58 rfl ?_
  refine r_ialdT hC htONE 0 (xix_n 0 (Nat.le_of_ble_eq_true rfl) (Nat.le_of_ble_eq_true rfl)) 0 rfl dX3_kick_58 59 rfl ?_
  refine r_dup2 hC dX3_kick_59 rfl rfl 60 rfl ?_
  refine r_lald hC 0 (xix_n 0 (Nat.le_of_ble_eq_true rfl) (Nat.le_of_ble_eq_true rfl)) (fun _ h => h.get 6 rfl) (moY r 0) (rfl) dX3_kick_60 61 rfl ?_
  refine r_eql (y := r 10) (rfl) ?_
  refine r_lload hC 0 dX3_kick_61 rfl 63 rfl ?_
  refine r_ladd hC ((r 10) + (gQ t r false true 0 1)) dX3_kick_63  (rfl) 64 rfl ?_
  refine r_last (J := xSt F V0 [(o 0, .inr (2, [.ref (o 1), .ref (o 2), .ref (o 3), .ref (o 4), .ref (o 5), .ref (o 6), .ref (o 7), .ref (o 8), .ref (o 9), .ref (o 10), .int ((r 0).toInt32)])), (o 1, .inl (0, 6, .inl (seF t r))), (o 2, .inl (0, 3, .inl (maF r))), (o 3, .inl (0, 3, .inl (plX r))), (o 4, .inl (0, 3, .inl (plY r))), (o 5, .inl (1, 3, .inr (.inl u1))), (o 6, .inl (1, 3, .inr (.inl (va_up (moY r) 0 ((r 10) + (gQ t r false true 0 1))))))]) hC 0 (xix_n 0 (Nat.le_of_ble_eq_true rfl) (Nat.le_of_ble_eq_true rfl)) (fun _ h => h.get 6 rfl) dX3_kick_64 (fun _ h => h.set 6 _ rfl) 65 rfl ?_
  generalize hu2 : va_up (moY r) 0 ((r 10) + (gQ t r false true 0 1)) = u2
  refine r_aload_n hC 3 dX3_kick_65 rfl 66 rfl ?_
  refine r_get (v := .ref (o 5)) hC kX3 4 rfl q188 (fun _ h => h.get 0 rfl) rfl dX3_kick_66 69 rfl ?_
  refine r_getsN hC hG hzOTH q273 dX3_kick_69 72 rfl ?_
  refine r_iload_n hC 2 dX3_kick_72 rfl 73 rfl ?_
  refine r_ialdT hC htOTH 0 (xix_n 0 (Nat.le_of_ble_eq_true rfl) (Nat.le_of_ble_eq_true rfl)) 1 rfl dX3_kick_73 74 rfl ?_
  refine r_dup2 hC dX3_kick_74 rfl rfl 75 rfl ?_
  refine r_lald hC 1 (xix_n 1 (Nat.le_of_ble_eq_true rfl) (Nat.le_of_ble_eq_true rfl)) (fun _ h => h.get 5 rfl) (moX r 1) (by rw [← hu1]; rfl) dX3_kick_75 76 rfl ?_
  refine r_eql (y := r 14) (rfl) ?_
  refine r_lload hC 1 dX3_kick_76 rfl 78 rfl ?_
  refine r_lsub hC ((r 14) - (gQ t r false true 0 0)) dX3_kick_78  (rfl) 79 rfl ?_
  refine r_last (J := xSt F V0 [(o 0, .inr (2, [.ref (o 1), .ref (o 2), .ref (o 3), .ref (o 4), .ref (o 5), .ref (o 6), .ref (o 7), .ref (o 8), .ref (o 9), .ref (o 10), .int ((r 0).toInt32)])), (o 1, .inl (0, 6, .inl (seF t r))), (o 2, .inl (0, 3, .inl (maF r))), (o 3, .inl (0, 3, .inl (plX r))), (o 4, .inl (0, 3, .inl (plY r))), (o 5, .inl (1, 3, .inr (.inl (va_up u1 1 ((r 14) - (gQ t r false true 0 0)))))), (o 6, .inl (1, 3, .inr (.inl u2)))]) hC 1 (xix_n 1 (Nat.le_of_ble_eq_true rfl) (Nat.le_of_ble_eq_true rfl)) (fun _ h => h.get 5 rfl) dX3_kick_79 (fun _ h => h.set 5 _ rfl) 80 rfl ?_
  generalize hu3 : va_up u1 1 ((r 14) - (gQ t r false true 0 0)) = u3
  refine r_aload_n hC 3 dX3_kick_80 rfl 81 rfl ?_
  refine r_get (v := .ref (o 6)) hC kX3 5 rfl q191 (fun _ h => h.get 0 rfl) rfl dX3_kick_81 84 rfl ?_
  refine r_getsN hC hG hzOTH q273 dX3_kick_84 87 rfl ?_
  refine r_iload_n hC 2 dX3_kick_87 rfl 88 rfl ?_
  refine r_ialdT hC htOTH 0 (xix_n 0 (Nat.le_of_ble_eq_true rfl) (Nat.le_of_ble_eq_true rfl)) 1 rfl dX3_kick_88 89 rfl ?_
  refine r_dup2 hC dX3_kick_89 rfl rfl 90 rfl ?_
  refine r_lald hC 1 (xix_n 1 (Nat.le_of_ble_eq_true rfl) (Nat.le_of_ble_eq_true rfl)) (fun _ h => h.get 6 rfl) (moY r 1) (by rw [← hu2]; rfl) dX3_kick_90 91 rfl ?_
  refine r_eql (y := r 15) (rfl) ?_
  refine r_lload hC 0 dX3_kick_91 rfl 93 rfl ?_
  refine r_lsub hC ((r 15) - (gQ t r false true 0 1)) dX3_kick_93  (rfl) 94 rfl ?_
  refine r_last (J := xSt F V0 [(o 0, .inr (2, [.ref (o 1), .ref (o 2), .ref (o 3), .ref (o 4), .ref (o 5), .ref (o 6), .ref (o 7), .ref (o 8), .ref (o 9), .ref (o 10), .int ((r 0).toInt32)])), (o 1, .inl (0, 6, .inl (seF t r))), (o 2, .inl (0, 3, .inl (maF r))), (o 3, .inl (0, 3, .inl (plX r))), (o 4, .inl (0, 3, .inl (plY r))), (o 5, .inl (1, 3, .inr (.inl u3))), (o 6, .inl (1, 3, .inr (.inl (va_up u2 1 ((r 15) - (gQ t r false true 0 1))))))]) hC 1 (xix_n 1 (Nat.le_of_ble_eq_true rfl) (Nat.le_of_ble_eq_true rfl)) (fun _ h => h.get 6 rfl) dX3_kick_94 (fun _ h => h.set 6 _ rfl) 95 rfl ?_
  generalize hu4 : va_up u2 1 ((r 15) - (gQ t r false true 0 1)) = u4
  refine r_iinc hC 1 3 2 [(3, .int 1), (6, .long (gQ t r false true 0 1)), (4, .long (gQ t r false true 0 0)), (0, .ref (o 0)), (1, .int (-1)), (2, .int 1)] dX3_kick_95 rfl (by decide) (Nat.le_of_ble_eq_true rfl) rfl 98 rfl ?_
  refine r_goto hC 2 dX3_kick_98 (by decide) ?_
  refine r_iload_n hC 0 dX3_kick_2 rfl 3 rfl ?_
  refine r_iconst hC 3 dX3_kick_3 ic_3 4 rfl ?_
  refine r_icge hC 101 dX3_kick_4 (by decide) 7 rfl (fun h => absurd h (by decide)) (fun _ => ?_)
  refine r_iload_n hC 4 dX3_kick_7 rfl 8 rfl ?_
  refine r_i2l hC (-1) dX3_kick_8 (by decide) 9 rfl ?_
  refine r_aload_n hC 3 dX3_kick_9 rfl 10 rfl ?_
  refine r_iload_n hC 0 dX3_kick_10 rfl 11 rfl ?_
  refine r_iconst hC 0 dX3_kick_11 ic_0 12 rfl ?_
  refine xCall.r (r := some (.long (impQ t r 1 0))) (r_cV hC kX3 (o 0) [.int 1, .int 0] mVX3_impulse q331 (fun _ h => ⟨_, h.get 0 rfl⟩) (fun V9 h9 => (metX3_impulse0 _ _ hG o t r 1 (Nat.le_of_ble_eq_true rfl) hpl ht hm) V9 (h9.in.sub [0, 1, 2, 3, 4] rfl rfl)) ⟨rfl, rfl⟩ (Nat.le_of_ble_eq_true rfl) (Nat.le_of_ble_eq_true rfl) rfl (Nat.le_of_ble_eq_true rfl) dX3_kick_12) 0 0 15 rfl rfl rfl ?_
  refine r_iload_n hC 5 dX3_kick_15 rfl 16 rfl ?_
  refine r_i2l hC 1 dX3_kick_16 (by decide) 17 rfl ?_
  refine r_ldiv hC ((impQ t r 1 0) / 1) dX3_kick_17 (by decide) (rfl) 18 rfl ?_
  refine r_lmul hC ((-1) * ((impQ t r 1 0) / 1)) dX3_kick_18  (rfl) 19 rfl ?_
  refine r_eql (y := gQ t r false true 1 0) (g01 _) ?_
  refine r_lstore hC 4 [(4, .long (gQ t r false true 1 0)), (3, .int 1), (6, .long (gQ t r false true 0 1)), (0, .ref (o 0)), (1, .int (-1)), (2, .int 1)] dX3_kick_19 (Nat.le_of_ble_eq_true rfl) rfl 21 rfl ?_
  refine r_iload_n hC 4 dX3_kick_21 rfl 22 rfl ?_
  refine r_i2l hC (-1) dX3_kick_22 (by decide) 23 rfl ?_
  refine r_aload_n hC 3 dX3_kick_23 rfl 24 rfl ?_
  refine r_iload_n hC 1 dX3_kick_24 rfl 25 rfl ?_
  refine r_iconst hC 1 dX3_kick_25 ic_1 26 rfl ?_
  refine xCall.r (r := some (.long (impQ t r 1 1))) (r_cV hC kX3 (o 0) [.int 1, .int 1] mVX3_impulse q331 (fun _ h => ⟨_, h.get 0 rfl⟩) (fun V9 h9 => (metX3_impulse1 _ _ hG o t r 1 (Nat.le_of_ble_eq_true rfl) hpl ht hm) V9 (h9.in.sub [0, 1, 2, 3, 4] rfl rfl)) ⟨rfl, rfl⟩ (Nat.le_of_ble_eq_true rfl) (Nat.le_of_ble_eq_true rfl) rfl (Nat.le_of_ble_eq_true rfl) dX3_kick_26) 0 0 29 rfl rfl rfl ?_
  refine r_iload_n hC 5 dX3_kick_29 rfl 30 rfl ?_
  refine r_i2l hC 1 dX3_kick_30 (by decide) 31 rfl ?_
  refine r_ldiv hC ((impQ t r 1 1) / 1) dX3_kick_31 (by decide) (rfl) 32 rfl ?_
  refine r_lmul hC ((-1) * ((impQ t r 1 1) / 1)) dX3_kick_32  (rfl) 33 rfl ?_
  refine r_eql (y := gQ t r false true 1 1) (g01 _) ?_
  refine r_lstore hC 6 [(6, .long (gQ t r false true 1 1)), (4, .long (gQ t r false true 1 0)), (3, .int 1), (0, .ref (o 0)), (1, .int (-1)), (2, .int 1)] dX3_kick_33 (Nat.le_of_ble_eq_true rfl) rfl 35 rfl ?_
  refine r_aload_n hC 3 dX3_kick_35 rfl 36 rfl ?_
  refine r_get (v := .ref (o 5)) hC kX3 4 rfl q188 (fun _ h => h.get 0 rfl) rfl dX3_kick_36 39 rfl ?_
  refine r_getsN hC hG hzONE q271 dX3_kick_39 42 rfl ?_
  refine r_iload_n hC 2 dX3_kick_42 rfl 43 rfl ?_
  refine r_ialdT hC htONE 1 (xix_n 1 (Nat.le_of_ble_eq_true rfl) (Nat.le_of_ble_eq_true rfl)) 0 rfl dX3_kick_43 44 rfl ?_
  refine r_dup2 hC dX3_kick_44 rfl rfl 45 rfl ?_
  refine r_lald hC 0 (xix_n 0 (Nat.le_of_ble_eq_true rfl) (Nat.le_of_ble_eq_true rfl)) (fun _ h => h.get 5 rfl) ((r 9) + (gQ t r false true 0 0)) (by rw [← hu3, ← hu1]; rfl) dX3_kick_45 46 rfl ?_
  refine r_lload hC 1 dX3_kick_46 rfl 48 rfl ?_
  refine r_ladd hC (((r 9) + (gQ t r false true 0 0)) + (gQ t r false true 1 0)) dX3_kick_48  (rfl) 49 rfl ?_
  refine r_last (J := xSt F V0 [(o 0, .inr (2, [.ref (o 1), .ref (o 2), .ref (o 3), .ref (o 4), .ref (o 5), .ref (o 6), .ref (o 7), .ref (o 8), .ref (o 9), .ref (o 10), .int ((r 0).toInt32)])), (o 1, .inl (0, 6, .inl (seF t r))), (o 2, .inl (0, 3, .inl (maF r))), (o 3, .inl (0, 3, .inl (plX r))), (o 4, .inl (0, 3, .inl (plY r))), (o 5, .inl (1, 3, .inr (.inl (va_up u3 0 (((r 9) + (gQ t r false true 0 0)) + (gQ t r false true 1 0)))))), (o 6, .inl (1, 3, .inr (.inl u4)))]) hC 0 (xix_n 0 (Nat.le_of_ble_eq_true rfl) (Nat.le_of_ble_eq_true rfl)) (fun _ h => h.get 5 rfl) dX3_kick_49 (fun _ h => h.set 5 _ rfl) 50 rfl ?_
  generalize hu5 : va_up u3 0 (((r 9) + (gQ t r false true 0 0)) + (gQ t r false true 1 0)) = u5
  refine r_aload_n hC 3 dX3_kick_50 rfl 51 rfl ?_
  refine r_get (v := .ref (o 6)) hC kX3 5 rfl q191 (fun _ h => h.get 0 rfl) rfl dX3_kick_51 54 rfl ?_
  refine r_getsN hC hG hzONE q271 dX3_kick_54 57 rfl ?_
  refine r_iload_n hC 2 dX3_kick_57 rfl 58 rfl ?_
  refine r_ialdT hC htONE 1 (xix_n 1 (Nat.le_of_ble_eq_true rfl) (Nat.le_of_ble_eq_true rfl)) 0 rfl dX3_kick_58 59 rfl ?_
  refine r_dup2 hC dX3_kick_59 rfl rfl 60 rfl ?_
  refine r_lald hC 0 (xix_n 0 (Nat.le_of_ble_eq_true rfl) (Nat.le_of_ble_eq_true rfl)) (fun _ h => h.get 6 rfl) ((r 10) + (gQ t r false true 0 1)) (by rw [← hu4, ← hu2]; rfl) dX3_kick_60 61 rfl ?_
  refine r_lload hC 0 dX3_kick_61 rfl 63 rfl ?_
  refine r_ladd hC (((r 10) + (gQ t r false true 0 1)) + (gQ t r false true 1 1)) dX3_kick_63  (rfl) 64 rfl ?_
  refine r_last (J := xSt F V0 [(o 0, .inr (2, [.ref (o 1), .ref (o 2), .ref (o 3), .ref (o 4), .ref (o 5), .ref (o 6), .ref (o 7), .ref (o 8), .ref (o 9), .ref (o 10), .int ((r 0).toInt32)])), (o 1, .inl (0, 6, .inl (seF t r))), (o 2, .inl (0, 3, .inl (maF r))), (o 3, .inl (0, 3, .inl (plX r))), (o 4, .inl (0, 3, .inl (plY r))), (o 5, .inl (1, 3, .inr (.inl u5))), (o 6, .inl (1, 3, .inr (.inl (va_up u4 0 (((r 10) + (gQ t r false true 0 1)) + (gQ t r false true 1 1))))))]) hC 0 (xix_n 0 (Nat.le_of_ble_eq_true rfl) (Nat.le_of_ble_eq_true rfl)) (fun _ h => h.get 6 rfl) dX3_kick_64 (fun _ h => h.set 6 _ rfl) 65 rfl ?_
  generalize hu6 : va_up u4 0 (((r 10) + (gQ t r false true 0 1)) + (gQ t r false true 1 1)) = u6
  refine r_aload_n hC 3 dX3_kick_65 rfl 66 rfl ?_
  refine r_get (v := .ref (o 5)) hC kX3 4 rfl q188 (fun _ h => h.get 0 rfl) rfl dX3_kick_66 69 rfl ?_
  refine r_getsN hC hG hzOTH q273 dX3_kick_69 72 rfl ?_
  refine r_iload_n hC 2 dX3_kick_72 rfl 73 rfl ?_
  refine r_ialdT hC htOTH 1 (xix_n 1 (Nat.le_of_ble_eq_true rfl) (Nat.le_of_ble_eq_true rfl)) 2 rfl dX3_kick_73 74 rfl ?_
  refine r_dup2 hC dX3_kick_74 rfl rfl 75 rfl ?_
  refine r_lald hC 2 (xix_n 2 (Nat.le_of_ble_eq_true rfl) (Nat.le_of_ble_eq_true rfl)) (fun _ h => h.get 5 rfl) (moX r 2) (by rw [← hu5, ← hu3, ← hu1]; rfl) dX3_kick_75 76 rfl ?_
  refine r_eql (y := r 19) (rfl) ?_
  refine r_lload hC 1 dX3_kick_76 rfl 78 rfl ?_
  refine r_lsub hC ((r 19) - (gQ t r false true 1 0)) dX3_kick_78  (rfl) 79 rfl ?_
  refine r_last (J := xSt F V0 [(o 0, .inr (2, [.ref (o 1), .ref (o 2), .ref (o 3), .ref (o 4), .ref (o 5), .ref (o 6), .ref (o 7), .ref (o 8), .ref (o 9), .ref (o 10), .int ((r 0).toInt32)])), (o 1, .inl (0, 6, .inl (seF t r))), (o 2, .inl (0, 3, .inl (maF r))), (o 3, .inl (0, 3, .inl (plX r))), (o 4, .inl (0, 3, .inl (plY r))), (o 5, .inl (1, 3, .inr (.inl (va_up u5 2 ((r 19) - (gQ t r false true 1 0)))))), (o 6, .inl (1, 3, .inr (.inl u6)))]) hC 2 (xix_n 2 (Nat.le_of_ble_eq_true rfl) (Nat.le_of_ble_eq_true rfl)) (fun _ h => h.get 5 rfl) dX3_kick_79 (fun _ h => h.set 5 _ rfl) 80 rfl ?_
  generalize hu7 : va_up u5 2 ((r 19) - (gQ t r false true 1 0)) = u7
  refine r_aload_n hC 3 dX3_kick_80 rfl 81 rfl ?_
  refine r_get (v := .ref (o 6)) hC kX3 5 rfl q191 (fun _ h => h.get 0 rfl) rfl dX3_kick_81 84 rfl ?_
  refine r_getsN hC hG hzOTH q273 dX3_kick_84 87 rfl ?_
  refine r_iload_n hC 2 dX3_kick_87 rfl 88 rfl ?_
  refine r_ialdT hC htOTH 1 (xix_n 1 (Nat.le_of_ble_eq_true rfl) (Nat.le_of_ble_eq_true rfl)) 2 rfl dX3_kick_88 89 rfl ?_
  refine r_dup2 hC dX3_kick_89 rfl rfl 90 rfl ?_
  refine r_lald hC 2 (xix_n 2 (Nat.le_of_ble_eq_true rfl) (Nat.le_of_ble_eq_true rfl)) (fun _ h => h.get 6 rfl) (moY r 2) (by rw [← hu6, ← hu4, ← hu2]; rfl) dX3_kick_90 91 rfl ?_
  refine r_eql (y := r 20) (rfl) ?_
  refine r_lload hC 0 dX3_kick_91 rfl 93 rfl ?_
  refine r_lsub hC ((r 20) - (gQ t r false true 1 1)) dX3_kick_93  (rfl) 94 rfl ?_
  refine r_last (J := xSt F V0 [(o 0, .inr (2, [.ref (o 1), .ref (o 2), .ref (o 3), .ref (o 4), .ref (o 5), .ref (o 6), .ref (o 7), .ref (o 8), .ref (o 9), .ref (o 10), .int ((r 0).toInt32)])), (o 1, .inl (0, 6, .inl (seF t r))), (o 2, .inl (0, 3, .inl (maF r))), (o 3, .inl (0, 3, .inl (plX r))), (o 4, .inl (0, 3, .inl (plY r))), (o 5, .inl (1, 3, .inr (.inl u7))), (o 6, .inl (1, 3, .inr (.inl (va_up u6 2 ((r 20) - (gQ t r false true 1 1))))))]) hC 2 (xix_n 2 (Nat.le_of_ble_eq_true rfl) (Nat.le_of_ble_eq_true rfl)) (fun _ h => h.get 6 rfl) dX3_kick_94 (fun _ h => h.set 6 _ rfl) 95 rfl ?_
  generalize hu8 : va_up u6 2 ((r 20) - (gQ t r false true 1 1)) = u8
  refine r_iinc hC 2 3 2 [(3, .int 2), (6, .long (gQ t r false true 1 1)), (4, .long (gQ t r false true 1 0)), (0, .ref (o 0)), (1, .int (-1)), (2, .int 1)] dX3_kick_95 rfl (by decide) (Nat.le_of_ble_eq_true rfl) rfl 98 rfl ?_
  refine r_goto hC 2 dX3_kick_98 (by decide) ?_
  refine r_iload_n hC 0 dX3_kick_2 rfl 3 rfl ?_
  refine r_iconst hC 3 dX3_kick_3 ic_3 4 rfl ?_
  refine r_icge hC 101 dX3_kick_4 (by decide) 7 rfl (fun h => absurd h (by decide)) (fun _ => ?_)
  refine r_iload_n hC 4 dX3_kick_7 rfl 8 rfl ?_
  refine r_i2l hC (-1) dX3_kick_8 (by decide) 9 rfl ?_
  refine r_aload_n hC 3 dX3_kick_9 rfl 10 rfl ?_
  refine r_iload_n hC 0 dX3_kick_10 rfl 11 rfl ?_
  refine r_iconst hC 0 dX3_kick_11 ic_0 12 rfl ?_
  refine xCall.r (r := some (.long (impQ t r 2 0))) (r_cV hC kX3 (o 0) [.int 2, .int 0] mVX3_impulse q331 (fun _ h => ⟨_, h.get 0 rfl⟩) (fun V9 h9 => (metX3_impulse0 _ _ hG o t r 2 (Nat.le_of_ble_eq_true rfl) hpl ht hm) V9 (h9.in.sub [0, 1, 2, 3, 4] rfl rfl)) ⟨rfl, rfl⟩ (Nat.le_of_ble_eq_true rfl) (Nat.le_of_ble_eq_true rfl) rfl (Nat.le_of_ble_eq_true rfl) dX3_kick_12) 0 0 15 rfl rfl rfl ?_
  refine r_iload_n hC 5 dX3_kick_15 rfl 16 rfl ?_
  refine r_i2l hC 1 dX3_kick_16 (by decide) 17 rfl ?_
  refine r_ldiv hC ((impQ t r 2 0) / 1) dX3_kick_17 (by decide) (rfl) 18 rfl ?_
  refine r_lmul hC ((-1) * ((impQ t r 2 0) / 1)) dX3_kick_18  (rfl) 19 rfl ?_
  refine r_eql (y := gQ t r false true 2 0) (g01 _) ?_
  refine r_lstore hC 4 [(4, .long (gQ t r false true 2 0)), (3, .int 2), (6, .long (gQ t r false true 1 1)), (0, .ref (o 0)), (1, .int (-1)), (2, .int 1)] dX3_kick_19 (Nat.le_of_ble_eq_true rfl) rfl 21 rfl ?_
  refine r_iload_n hC 4 dX3_kick_21 rfl 22 rfl ?_
  refine r_i2l hC (-1) dX3_kick_22 (by decide) 23 rfl ?_
  refine r_aload_n hC 3 dX3_kick_23 rfl 24 rfl ?_
  refine r_iload_n hC 1 dX3_kick_24 rfl 25 rfl ?_
  refine r_iconst hC 1 dX3_kick_25 ic_1 26 rfl ?_
  refine xCall.r (r := some (.long (impQ t r 2 1))) (r_cV hC kX3 (o 0) [.int 2, .int 1] mVX3_impulse q331 (fun _ h => ⟨_, h.get 0 rfl⟩) (fun V9 h9 => (metX3_impulse1 _ _ hG o t r 2 (Nat.le_of_ble_eq_true rfl) hpl ht hm) V9 (h9.in.sub [0, 1, 2, 3, 4] rfl rfl)) ⟨rfl, rfl⟩ (Nat.le_of_ble_eq_true rfl) (Nat.le_of_ble_eq_true rfl) rfl (Nat.le_of_ble_eq_true rfl) dX3_kick_26) 0 0 29 rfl rfl rfl ?_
  refine r_iload_n hC 5 dX3_kick_29 rfl 30 rfl ?_
  refine r_i2l hC 1 dX3_kick_30 (by decide) 31 rfl ?_
  refine r_ldiv hC ((impQ t r 2 1) / 1) dX3_kick_31 (by decide) (rfl) 32 rfl ?_
  refine r_lmul hC ((-1) * ((impQ t r 2 1) / 1)) dX3_kick_32  (rfl) 33 rfl ?_
  refine r_eql (y := gQ t r false true 2 1) (g01 _) ?_
  refine r_lstore hC 6 [(6, .long (gQ t r false true 2 1)), (4, .long (gQ t r false true 2 0)), (3, .int 2), (0, .ref (o 0)), (1, .int (-1)), (2, .int 1)] dX3_kick_33 (Nat.le_of_ble_eq_true rfl) rfl 35 rfl ?_
  refine r_aload_n hC 3 dX3_kick_35 rfl 36 rfl ?_
  refine r_get (v := .ref (o 5)) hC kX3 4 rfl q188 (fun _ h => h.get 0 rfl) rfl dX3_kick_36 39 rfl ?_
  refine r_getsN hC hG hzONE q271 dX3_kick_39 42 rfl ?_
  refine r_iload_n hC 2 dX3_kick_42 rfl 43 rfl ?_
  refine r_ialdT hC htONE 2 (xix_n 2 (Nat.le_of_ble_eq_true rfl) (Nat.le_of_ble_eq_true rfl)) 1 rfl dX3_kick_43 44 rfl ?_
  refine r_dup2 hC dX3_kick_44 rfl rfl 45 rfl ?_
  refine r_lald hC 1 (xix_n 1 (Nat.le_of_ble_eq_true rfl) (Nat.le_of_ble_eq_true rfl)) (fun _ h => h.get 5 rfl) ((r 14) - (gQ t r false true 0 0)) (by rw [← hu7, ← hu5, ← hu3]; rfl) dX3_kick_45 46 rfl ?_
  refine r_lload hC 1 dX3_kick_46 rfl 48 rfl ?_
  refine r_ladd hC (((r 14) - (gQ t r false true 0 0)) + (gQ t r false true 2 0)) dX3_kick_48  (rfl) 49 rfl ?_
  refine r_last (J := xSt F V0 [(o 0, .inr (2, [.ref (o 1), .ref (o 2), .ref (o 3), .ref (o 4), .ref (o 5), .ref (o 6), .ref (o 7), .ref (o 8), .ref (o 9), .ref (o 10), .int ((r 0).toInt32)])), (o 1, .inl (0, 6, .inl (seF t r))), (o 2, .inl (0, 3, .inl (maF r))), (o 3, .inl (0, 3, .inl (plX r))), (o 4, .inl (0, 3, .inl (plY r))), (o 5, .inl (1, 3, .inr (.inl (va_up u7 1 (((r 14) - (gQ t r false true 0 0)) + (gQ t r false true 2 0)))))), (o 6, .inl (1, 3, .inr (.inl u8)))]) hC 1 (xix_n 1 (Nat.le_of_ble_eq_true rfl) (Nat.le_of_ble_eq_true rfl)) (fun _ h => h.get 5 rfl) dX3_kick_49 (fun _ h => h.set 5 _ rfl) 50 rfl ?_
  generalize hu9 : va_up u7 1 (((r 14) - (gQ t r false true 0 0)) + (gQ t r false true 2 0)) = u9
  refine r_aload_n hC 3 dX3_kick_50 rfl 51 rfl ?_
  refine r_get (v := .ref (o 6)) hC kX3 5 rfl q191 (fun _ h => h.get 0 rfl) rfl dX3_kick_51 54 rfl ?_
  refine r_getsN hC hG hzONE q271 dX3_kick_54 57 rfl ?_
  refine r_iload_n hC 2 dX3_kick_57 rfl 58 rfl ?_
  refine r_ialdT hC htONE 2 (xix_n 2 (Nat.le_of_ble_eq_true rfl) (Nat.le_of_ble_eq_true rfl)) 1 rfl dX3_kick_58 59 rfl ?_
  refine r_dup2 hC dX3_kick_59 rfl rfl 60 rfl ?_
  refine r_lald hC 1 (xix_n 1 (Nat.le_of_ble_eq_true rfl) (Nat.le_of_ble_eq_true rfl)) (fun _ h => h.get 6 rfl) ((r 15) - (gQ t r false true 0 1)) (by rw [← hu8, ← hu6, ← hu4]; rfl) dX3_kick_60 61 rfl ?_
  refine r_lload hC 0 dX3_kick_61 rfl 63 rfl ?_
  refine r_ladd hC (((r 15) - (gQ t r false true 0 1)) + (gQ t r false true 2 1)) dX3_kick_63  (rfl) 64 rfl ?_
  refine r_last (J := xSt F V0 [(o 0, .inr (2, [.ref (o 1), .ref (o 2), .ref (o 3), .ref (o 4), .ref (o 5), .ref (o 6), .ref (o 7), .ref (o 8), .ref (o 9), .ref (o 10), .int ((r 0).toInt32)])), (o 1, .inl (0, 6, .inl (seF t r))), (o 2, .inl (0, 3, .inl (maF r))), (o 3, .inl (0, 3, .inl (plX r))), (o 4, .inl (0, 3, .inl (plY r))), (o 5, .inl (1, 3, .inr (.inl u9))), (o 6, .inl (1, 3, .inr (.inl (va_up u8 1 (((r 15) - (gQ t r false true 0 1)) + (gQ t r false true 2 1))))))]) hC 1 (xix_n 1 (Nat.le_of_ble_eq_true rfl) (Nat.le_of_ble_eq_true rfl)) (fun _ h => h.get 6 rfl) dX3_kick_64 (fun _ h => h.set 6 _ rfl) 65 rfl ?_
  generalize hu10 : va_up u8 1 (((r 15) - (gQ t r false true 0 1)) + (gQ t r false true 2 1)) = u10
  refine r_aload_n hC 3 dX3_kick_65 rfl 66 rfl ?_
  refine r_get (v := .ref (o 5)) hC kX3 4 rfl q188 (fun _ h => h.get 0 rfl) rfl dX3_kick_66 69 rfl ?_
  refine r_getsN hC hG hzOTH q273 dX3_kick_69 72 rfl ?_
  refine r_iload_n hC 2 dX3_kick_72 rfl 73 rfl ?_
  refine r_ialdT hC htOTH 2 (xix_n 2 (Nat.le_of_ble_eq_true rfl) (Nat.le_of_ble_eq_true rfl)) 2 rfl dX3_kick_73 74 rfl ?_
  refine r_dup2 hC dX3_kick_74 rfl rfl 75 rfl ?_
  refine r_lald hC 2 (xix_n 2 (Nat.le_of_ble_eq_true rfl) (Nat.le_of_ble_eq_true rfl)) (fun _ h => h.get 5 rfl) ((r 19) - (gQ t r false true 1 0)) (by rw [← hu9, ← hu7]; rfl) dX3_kick_75 76 rfl ?_
  refine r_lload hC 1 dX3_kick_76 rfl 78 rfl ?_
  refine r_lsub hC (((r 19) - (gQ t r false true 1 0)) - (gQ t r false true 2 0)) dX3_kick_78  (rfl) 79 rfl ?_
  refine r_last (J := xSt F V0 [(o 0, .inr (2, [.ref (o 1), .ref (o 2), .ref (o 3), .ref (o 4), .ref (o 5), .ref (o 6), .ref (o 7), .ref (o 8), .ref (o 9), .ref (o 10), .int ((r 0).toInt32)])), (o 1, .inl (0, 6, .inl (seF t r))), (o 2, .inl (0, 3, .inl (maF r))), (o 3, .inl (0, 3, .inl (plX r))), (o 4, .inl (0, 3, .inl (plY r))), (o 5, .inl (1, 3, .inr (.inl (va_up u9 2 (((r 19) - (gQ t r false true 1 0)) - (gQ t r false true 2 0)))))), (o 6, .inl (1, 3, .inr (.inl u10)))]) hC 2 (xix_n 2 (Nat.le_of_ble_eq_true rfl) (Nat.le_of_ble_eq_true rfl)) (fun _ h => h.get 5 rfl) dX3_kick_79 (fun _ h => h.set 5 _ rfl) 80 rfl ?_
  generalize hu11 : va_up u9 2 (((r 19) - (gQ t r false true 1 0)) - (gQ t r false true 2 0)) = u11
  refine r_aload_n hC 3 dX3_kick_80 rfl 81 rfl ?_
  refine r_get (v := .ref (o 6)) hC kX3 5 rfl q191 (fun _ h => h.get 0 rfl) rfl dX3_kick_81 84 rfl ?_
  refine r_getsN hC hG hzOTH q273 dX3_kick_84 87 rfl ?_
  refine r_iload_n hC 2 dX3_kick_87 rfl 88 rfl ?_
  refine r_ialdT hC htOTH 2 (xix_n 2 (Nat.le_of_ble_eq_true rfl) (Nat.le_of_ble_eq_true rfl)) 2 rfl dX3_kick_88 89 rfl ?_
  refine r_dup2 hC dX3_kick_89 rfl rfl 90 rfl ?_
  refine r_lald hC 2 (xix_n 2 (Nat.le_of_ble_eq_true rfl) (Nat.le_of_ble_eq_true rfl)) (fun _ h => h.get 6 rfl) ((r 20) - (gQ t r false true 1 1)) (by rw [← hu10, ← hu8]; rfl) dX3_kick_90 91 rfl ?_
  refine r_lload hC 0 dX3_kick_91 rfl 93 rfl ?_
  refine r_lsub hC (((r 20) - (gQ t r false true 1 1)) - (gQ t r false true 2 1)) dX3_kick_93  (rfl) 94 rfl ?_
  refine r_last (J := xSt F V0 [(o 0, .inr (2, [.ref (o 1), .ref (o 2), .ref (o 3), .ref (o 4), .ref (o 5), .ref (o 6), .ref (o 7), .ref (o 8), .ref (o 9), .ref (o 10), .int ((r 0).toInt32)])), (o 1, .inl (0, 6, .inl (seF t r))), (o 2, .inl (0, 3, .inl (maF r))), (o 3, .inl (0, 3, .inl (plX r))), (o 4, .inl (0, 3, .inl (plY r))), (o 5, .inl (1, 3, .inr (.inl u11))), (o 6, .inl (1, 3, .inr (.inl (va_up u10 2 (((r 20) - (gQ t r false true 1 1)) - (gQ t r false true 2 1))))))]) hC 2 (xix_n 2 (Nat.le_of_ble_eq_true rfl) (Nat.le_of_ble_eq_true rfl)) (fun _ h => h.get 6 rfl) dX3_kick_94 (fun _ h => h.set 6 _ rfl) 95 rfl ?_
  generalize hu12 : va_up u10 2 (((r 20) - (gQ t r false true 1 1)) - (gQ t r false true 2 1)) = u12
  refine r_iinc hC 3 3 2 [(3, .int 3), (6, .long (gQ t r false true 2 1)), (4, .long (gQ t r false true 2 0)), (0, .ref (o 0)), (1, .int (-1)), (2, .int 1)] dX3_kick_95 rfl (by decide) (Nat.le_of_ble_eq_true rfl) rfl 98 rfl ?_
  refine r_goto hC 2 dX3_kick_98 (by decide) ?_
  refine r_iload_n hC 0 dX3_kick_2 rfl 3 rfl ?_
  refine r_iconst hC 3 dX3_kick_3 ic_3 4 rfl ?_
  refine r_icge hC 101 dX3_kick_4 (by decide) 7 rfl (fun _ => ?_) (fun h => absurd h (by decide))
  refine r_iconst hC 0 dX3_kick_101 ic_0 102 rfl ?_
  refine r_istore_n hC 3 [(3, .int 0), (6, .long (gQ t r false true 2 1)), (4, .long (gQ t r false true 2 0)), (0, .ref (o 0)), (1, .int (-1)), (2, .int 1)] dX3_kick_102 rfl (Nat.le_of_ble_eq_true rfl) rfl 103 rfl ?_
  refine r_iload_n hC 0 dX3_kick_103 rfl 104 rfl ?_
  refine r_iconst hC 3 dX3_kick_104 ic_3 105 rfl ?_
  refine r_icge hC 138 dX3_kick_105 (by decide) 108 rfl (fun h => absurd h (by decide)) (fun _ => ?_)
  refine r_aload_n hC 3 dX3_kick_108 rfl 109 rfl ?_
  refine r_get (v := .ref (o 5)) hC kX3 4 rfl q188 (fun _ h => h.get 0 rfl) rfl dX3_kick_109 112 rfl ?_
  refine r_iload_n hC 0 dX3_kick_112 rfl 113 rfl ?_
  refine r_lald hC 0 (xix_n 0 (Nat.le_of_ble_eq_true rfl) (Nat.le_of_ble_eq_true rfl)) (fun _ h => h.get 5 rfl) (((r 9) + (gQ t r false true 0 0)) + (gQ t r false true 1 0)) (by rw [← hu11, ← hu9, ← hu7, ← hu5]; rfl) dX3_kick_113 114 rfl ?_
  refine r_ldc2 hC q335 dX3_kick_114 117 rfl ?_
  rcases Bool.eq_false_or_eq_true (m_in (((r 9) + (gQ t r false true 0 0)) + (gQ t r false true 1 0)) (-1000000000) 1000000000) with hk13 | hk13
  · skip
    refine xCall.r (r := none) (r_cS hC [.long (((r 9) + (gQ t r false true 0 0)) + (gQ t r false true 1 0)), .long 1000000000] mSX3_check q336 (fun V9 h9 => (metX3_checkG _ _ hG (((r 9) + (gQ t r false true 0 0)) + (gQ t r false true 1 0)) 1000000000 hk13) V9 xIn.nil) ⟨rfl, rfl⟩ (Nat.le_of_ble_eq_true rfl) (Nat.le_of_ble_eq_true rfl) rfl (Nat.le_of_ble_eq_true rfl) dX3_kick_117) 0 0 120 rfl rfl rfl ?_
    refine r_aload_n hC 3 dX3_kick_120 rfl 121 rfl ?_
    refine r_get (v := .ref (o 6)) hC kX3 5 rfl q191 (fun _ h => h.get 0 rfl) rfl dX3_kick_121 124 rfl ?_
    refine r_iload_n hC 0 dX3_kick_124 rfl 125 rfl ?_
    refine r_lald hC 0 (xix_n 0 (Nat.le_of_ble_eq_true rfl) (Nat.le_of_ble_eq_true rfl)) (fun _ h => h.get 6 rfl) (((r 10) + (gQ t r false true 0 1)) + (gQ t r false true 1 1)) (by rw [← hu12, ← hu10, ← hu8, ← hu6]; rfl) dX3_kick_125 126 rfl ?_
    refine r_ldc2 hC q335 dX3_kick_126 129 rfl ?_
    rcases Bool.eq_false_or_eq_true (m_in (((r 10) + (gQ t r false true 0 1)) + (gQ t r false true 1 1)) (-1000000000) 1000000000) with hk14 | hk14
    · skip
      refine xCall.r (r := none) (r_cS hC [.long (((r 10) + (gQ t r false true 0 1)) + (gQ t r false true 1 1)), .long 1000000000] mSX3_check q336 (fun V9 h9 => (metX3_checkG _ _ hG (((r 10) + (gQ t r false true 0 1)) + (gQ t r false true 1 1)) 1000000000 hk14) V9 xIn.nil) ⟨rfl, rfl⟩ (Nat.le_of_ble_eq_true rfl) (Nat.le_of_ble_eq_true rfl) rfl (Nat.le_of_ble_eq_true rfl) dX3_kick_129) 0 0 132 rfl rfl rfl ?_
      refine r_iinc hC 1 3 0 [(3, .int 1), (6, .long (gQ t r false true 2 1)), (4, .long (gQ t r false true 2 0)), (0, .ref (o 0)), (1, .int (-1)), (2, .int 1)] dX3_kick_132 rfl (by decide) (Nat.le_of_ble_eq_true rfl) rfl 135 rfl ?_
      refine r_goto hC 103 dX3_kick_135 (by decide) ?_
      refine r_iload_n hC 0 dX3_kick_103 rfl 104 rfl ?_
      refine r_iconst hC 3 dX3_kick_104 ic_3 105 rfl ?_
      refine r_icge hC 138 dX3_kick_105 (by decide) 108 rfl (fun h => absurd h (by decide)) (fun _ => ?_)
      refine r_aload_n hC 3 dX3_kick_108 rfl 109 rfl ?_
      refine r_get (v := .ref (o 5)) hC kX3 4 rfl q188 (fun _ h => h.get 0 rfl) rfl dX3_kick_109 112 rfl ?_
      refine r_iload_n hC 0 dX3_kick_112 rfl 113 rfl ?_
      refine r_lald hC 1 (xix_n 1 (Nat.le_of_ble_eq_true rfl) (Nat.le_of_ble_eq_true rfl)) (fun _ h => h.get 5 rfl) (((r 14) - (gQ t r false true 0 0)) + (gQ t r false true 2 0)) (by rw [← hu11, ← hu9]; rfl) dX3_kick_113 114 rfl ?_
      refine r_ldc2 hC q335 dX3_kick_114 117 rfl ?_
      rcases Bool.eq_false_or_eq_true (m_in (((r 14) - (gQ t r false true 0 0)) + (gQ t r false true 2 0)) (-1000000000) 1000000000) with hk15 | hk15
      · skip
        refine xCall.r (r := none) (r_cS hC [.long (((r 14) - (gQ t r false true 0 0)) + (gQ t r false true 2 0)), .long 1000000000] mSX3_check q336 (fun V9 h9 => (metX3_checkG _ _ hG (((r 14) - (gQ t r false true 0 0)) + (gQ t r false true 2 0)) 1000000000 hk15) V9 xIn.nil) ⟨rfl, rfl⟩ (Nat.le_of_ble_eq_true rfl) (Nat.le_of_ble_eq_true rfl) rfl (Nat.le_of_ble_eq_true rfl) dX3_kick_117) 0 0 120 rfl rfl rfl ?_
        refine r_aload_n hC 3 dX3_kick_120 rfl 121 rfl ?_
        refine r_get (v := .ref (o 6)) hC kX3 5 rfl q191 (fun _ h => h.get 0 rfl) rfl dX3_kick_121 124 rfl ?_
        refine r_iload_n hC 0 dX3_kick_124 rfl 125 rfl ?_
        refine r_lald hC 1 (xix_n 1 (Nat.le_of_ble_eq_true rfl) (Nat.le_of_ble_eq_true rfl)) (fun _ h => h.get 6 rfl) (((r 15) - (gQ t r false true 0 1)) + (gQ t r false true 2 1)) (by rw [← hu12, ← hu10]; rfl) dX3_kick_125 126 rfl ?_
        refine r_ldc2 hC q335 dX3_kick_126 129 rfl ?_
        rcases Bool.eq_false_or_eq_true (m_in (((r 15) - (gQ t r false true 0 1)) + (gQ t r false true 2 1)) (-1000000000) 1000000000) with hk16 | hk16
        · skip
          refine xCall.r (r := none) (r_cS hC [.long (((r 15) - (gQ t r false true 0 1)) + (gQ t r false true 2 1)), .long 1000000000] mSX3_check q336 (fun V9 h9 => (metX3_checkG _ _ hG (((r 15) - (gQ t r false true 0 1)) + (gQ t r false true 2 1)) 1000000000 hk16) V9 xIn.nil) ⟨rfl, rfl⟩ (Nat.le_of_ble_eq_true rfl) (Nat.le_of_ble_eq_true rfl) rfl (Nat.le_of_ble_eq_true rfl) dX3_kick_129) 0 0 132 rfl rfl rfl ?_
          refine r_iinc hC 2 3 0 [(3, .int 2), (6, .long (gQ t r false true 2 1)), (4, .long (gQ t r false true 2 0)), (0, .ref (o 0)), (1, .int (-1)), (2, .int 1)] dX3_kick_132 rfl (by decide) (Nat.le_of_ble_eq_true rfl) rfl 135 rfl ?_
          refine r_goto hC 103 dX3_kick_135 (by decide) ?_
          refine r_iload_n hC 0 dX3_kick_103 rfl 104 rfl ?_
          refine r_iconst hC 3 dX3_kick_104 ic_3 105 rfl ?_
          refine r_icge hC 138 dX3_kick_105 (by decide) 108 rfl (fun h => absurd h (by decide)) (fun _ => ?_)
          refine r_aload_n hC 3 dX3_kick_108 rfl 109 rfl ?_
          refine r_get (v := .ref (o 5)) hC kX3 4 rfl q188 (fun _ h => h.get 0 rfl) rfl dX3_kick_109 112 rfl ?_
          refine r_iload_n hC 0 dX3_kick_112 rfl 113 rfl ?_
          refine r_lald hC 2 (xix_n 2 (Nat.le_of_ble_eq_true rfl) (Nat.le_of_ble_eq_true rfl)) (fun _ h => h.get 5 rfl) (((r 19) - (gQ t r false true 1 0)) - (gQ t r false true 2 0)) (by rw [← hu11]; rfl) dX3_kick_113 114 rfl ?_
          refine r_ldc2 hC q335 dX3_kick_114 117 rfl ?_
          rcases Bool.eq_false_or_eq_true (m_in (((r 19) - (gQ t r false true 1 0)) - (gQ t r false true 2 0)) (-1000000000) 1000000000) with hk17 | hk17
          · skip
            refine xCall.r (r := none) (r_cS hC [.long (((r 19) - (gQ t r false true 1 0)) - (gQ t r false true 2 0)), .long 1000000000] mSX3_check q336 (fun V9 h9 => (metX3_checkG _ _ hG (((r 19) - (gQ t r false true 1 0)) - (gQ t r false true 2 0)) 1000000000 hk17) V9 xIn.nil) ⟨rfl, rfl⟩ (Nat.le_of_ble_eq_true rfl) (Nat.le_of_ble_eq_true rfl) rfl (Nat.le_of_ble_eq_true rfl) dX3_kick_117) 0 0 120 rfl rfl rfl ?_
            refine r_aload_n hC 3 dX3_kick_120 rfl 121 rfl ?_
            refine r_get (v := .ref (o 6)) hC kX3 5 rfl q191 (fun _ h => h.get 0 rfl) rfl dX3_kick_121 124 rfl ?_
            refine r_iload_n hC 0 dX3_kick_124 rfl 125 rfl ?_
            refine r_lald hC 2 (xix_n 2 (Nat.le_of_ble_eq_true rfl) (Nat.le_of_ble_eq_true rfl)) (fun _ h => h.get 6 rfl) (((r 20) - (gQ t r false true 1 1)) - (gQ t r false true 2 1)) (by rw [← hu12]; rfl) dX3_kick_125 126 rfl ?_
            refine r_ldc2 hC q335 dX3_kick_126 129 rfl ?_
            rcases Bool.eq_false_or_eq_true (m_in (((r 20) - (gQ t r false true 1 1)) - (gQ t r false true 2 1)) (-1000000000) 1000000000) with hk18 | hk18
            · skip
              refine xCall.r (r := none) (r_cS hC [.long (((r 20) - (gQ t r false true 1 1)) - (gQ t r false true 2 1)), .long 1000000000] mSX3_check q336 (fun V9 h9 => (metX3_checkG _ _ hG (((r 20) - (gQ t r false true 1 1)) - (gQ t r false true 2 1)) 1000000000 hk18) V9 xIn.nil) ⟨rfl, rfl⟩ (Nat.le_of_ble_eq_true rfl) (Nat.le_of_ble_eq_true rfl) rfl (Nat.le_of_ble_eq_true rfl) dX3_kick_129) 0 0 132 rfl rfl rfl ?_
              refine r_iinc hC 3 3 0 [(3, .int 3), (6, .long (gQ t r false true 2 1)), (4, .long (gQ t r false true 2 0)), (0, .ref (o 0)), (1, .int (-1)), (2, .int 1)] dX3_kick_132 rfl (by decide) (Nat.le_of_ble_eq_true rfl) rfl 135 rfl ?_
              refine r_goto hC 103 dX3_kick_135 (by decide) ?_
              refine r_iload_n hC 0 dX3_kick_103 rfl 104 rfl ?_
              refine r_iconst hC 3 dX3_kick_104 ic_3 105 rfl ?_
              refine r_icge hC 138 dX3_kick_105 (by decide) 108 rfl (fun _ => ?_) (fun h => absurd h (by decide))
              subst hu12
              subst hu11
              subst hu10
              subst hu9
              subst hu8
              subst hu7
              subst hu6
              subst hu5
              subst hu4
              subst hu3
              subst hu2
              subst hu1
              refine rn_cellI (J := xSt F V0 [(o 0, .inr (2, [.ref (o 1), .ref (o 2), .ref (o 3), .ref (o 4), .ref (o 5), .ref (o 6), .ref (o 7), .ref (o 8), .ref (o 9), .ref (o 10), .int ((r 0).toInt32)])), (o 1, .inl (0, 6, .inl (seF t r))), (o 2, .inl (0, 3, .inl (maF (kickQ t r false true)))), (o 3, .inl (0, 3, .inl (plX r))), (o 4, .inl (0, 3, .inl (plY r))), (o 5, .inl (1, 3, .inr (.inl (va_up (va_up (va_up (va_up (va_up (va_up (moX r) 0 ((r 9) + (gQ t r false true 0 0))) 1 ((r 14) - (gQ t r false true 0 0))) 0 (((r 9) + (gQ t r false true 0 0)) + (gQ t r false true 1 0))) 2 ((r 19) - (gQ t r false true 1 0))) 1 (((r 14) - (gQ t r false true 0 0)) + (gQ t r false true 2 0))) 2 (((r 19) - (gQ t r false true 1 0)) - (gQ t r false true 2 0)))))), (o 6, .inl (1, 3, .inr (.inl (va_up (va_up (va_up (va_up (va_up (va_up (moY r) 0 ((r 10) + (gQ t r false true 0 1))) 1 ((r 15) - (gQ t r false true 0 1))) 0 (((r 10) + (gQ t r false true 0 1)) + (gQ t r false true 1 1))) 2 ((r 20) - (gQ t r false true 1 1))) 1 (((r 15) - (gQ t r false true 0 1)) + (gQ t r false true 2 1))) 2 (((r 20) - (gQ t r false true 1 1)) - (gQ t r false true 2 1))))))]) (fun _ h => h.get 2 rfl) (fun j9 hj9 => by
                  rcases (show j9 = 0 ∨ j9 = 1 ∨ j9 = 2 by omega) with rfl | rfl | rfl
                  · exact congrArg Int64.toInt32 (kkq_6).symm
                  · exact congrArg Int64.toInt32 (kkq_11).symm
                  · exact congrArg Int64.toInt32 (kkq_16).symm) (fun _ h => h.set 2 _ rfl) ?_
              refine rn_cellI (J := xSt F V0 [(o 0, .inr (2, [.ref (o 1), .ref (o 2), .ref (o 3), .ref (o 4), .ref (o 5), .ref (o 6), .ref (o 7), .ref (o 8), .ref (o 9), .ref (o 10), .int ((r 0).toInt32)])), (o 1, .inl (0, 6, .inl (seF t r))), (o 2, .inl (0, 3, .inl (maF (kickQ t r false true)))), (o 3, .inl (0, 3, .inl (plX (kickQ t r false true)))), (o 4, .inl (0, 3, .inl (plY r))), (o 5, .inl (1, 3, .inr (.inl (va_up (va_up (va_up (va_up (va_up (va_up (moX r) 0 ((r 9) + (gQ t r false true 0 0))) 1 ((r 14) - (gQ t r false true 0 0))) 0 (((r 9) + (gQ t r false true 0 0)) + (gQ t r false true 1 0))) 2 ((r 19) - (gQ t r false true 1 0))) 1 (((r 14) - (gQ t r false true 0 0)) + (gQ t r false true 2 0))) 2 (((r 19) - (gQ t r false true 1 0)) - (gQ t r false true 2 0)))))), (o 6, .inl (1, 3, .inr (.inl (va_up (va_up (va_up (va_up (va_up (va_up (moY r) 0 ((r 10) + (gQ t r false true 0 1))) 1 ((r 15) - (gQ t r false true 0 1))) 0 (((r 10) + (gQ t r false true 0 1)) + (gQ t r false true 1 1))) 2 ((r 20) - (gQ t r false true 1 1))) 1 (((r 15) - (gQ t r false true 0 1)) + (gQ t r false true 2 1))) 2 (((r 20) - (gQ t r false true 1 1)) - (gQ t r false true 2 1))))))]) (fun _ h => h.get 3 rfl) (fun j9 hj9 => by
                  rcases (show j9 = 0 ∨ j9 = 1 ∨ j9 = 2 by omega) with rfl | rfl | rfl
                  · exact congrArg Int64.toInt32 (kkq_7).symm
                  · exact congrArg Int64.toInt32 (kkq_12).symm
                  · exact congrArg Int64.toInt32 (kkq_17).symm) (fun _ h => h.set 3 _ rfl) ?_
              refine rn_cellI (J := xSt F V0 [(o 0, .inr (2, [.ref (o 1), .ref (o 2), .ref (o 3), .ref (o 4), .ref (o 5), .ref (o 6), .ref (o 7), .ref (o 8), .ref (o 9), .ref (o 10), .int ((r 0).toInt32)])), (o 1, .inl (0, 6, .inl (seF t r))), (o 2, .inl (0, 3, .inl (maF (kickQ t r false true)))), (o 3, .inl (0, 3, .inl (plX (kickQ t r false true)))), (o 4, .inl (0, 3, .inl (plY (kickQ t r false true)))), (o 5, .inl (1, 3, .inr (.inl (va_up (va_up (va_up (va_up (va_up (va_up (moX r) 0 ((r 9) + (gQ t r false true 0 0))) 1 ((r 14) - (gQ t r false true 0 0))) 0 (((r 9) + (gQ t r false true 0 0)) + (gQ t r false true 1 0))) 2 ((r 19) - (gQ t r false true 1 0))) 1 (((r 14) - (gQ t r false true 0 0)) + (gQ t r false true 2 0))) 2 (((r 19) - (gQ t r false true 1 0)) - (gQ t r false true 2 0)))))), (o 6, .inl (1, 3, .inr (.inl (va_up (va_up (va_up (va_up (va_up (va_up (moY r) 0 ((r 10) + (gQ t r false true 0 1))) 1 ((r 15) - (gQ t r false true 0 1))) 0 (((r 10) + (gQ t r false true 0 1)) + (gQ t r false true 1 1))) 2 ((r 20) - (gQ t r false true 1 1))) 1 (((r 15) - (gQ t r false true 0 1)) + (gQ t r false true 2 1))) 2 (((r 20) - (gQ t r false true 1 1)) - (gQ t r false true 2 1))))))]) (fun _ h => h.get 4 rfl) (fun j9 hj9 => by
                  rcases (show j9 = 0 ∨ j9 = 1 ∨ j9 = 2 by omega) with rfl | rfl | rfl
                  · exact congrArg Int64.toInt32 (kkq_8).symm
                  · exact congrArg Int64.toInt32 (kkq_13).symm
                  · exact congrArg Int64.toInt32 (kkq_18).symm) (fun _ h => h.set 4 _ rfl) ?_
              refine rn_cellJ (J := xSt F V0 [(o 0, .inr (2, [.ref (o 1), .ref (o 2), .ref (o 3), .ref (o 4), .ref (o 5), .ref (o 6), .ref (o 7), .ref (o 8), .ref (o 9), .ref (o 10), .int ((r 0).toInt32)])), (o 1, .inl (0, 6, .inl (seF t r))), (o 2, .inl (0, 3, .inl (maF (kickQ t r false true)))), (o 3, .inl (0, 3, .inl (plX (kickQ t r false true)))), (o 4, .inl (0, 3, .inl (plY (kickQ t r false true)))), (o 5, .inl (1, 3, .inr (.inl (moX (kickQ t r false true))))), (o 6, .inl (1, 3, .inr (.inl (va_up (va_up (va_up (va_up (va_up (va_up (moY r) 0 ((r 10) + (gQ t r false true 0 1))) 1 ((r 15) - (gQ t r false true 0 1))) 0 (((r 10) + (gQ t r false true 0 1)) + (gQ t r false true 1 1))) 2 ((r 20) - (gQ t r false true 1 1))) 1 (((r 15) - (gQ t r false true 0 1)) + (gQ t r false true 2 1))) 2 (((r 20) - (gQ t r false true 1 1)) - (gQ t r false true 2 1))))))]) (fun _ h => h.get 5 rfl) (fun j9 hj9 => by
                  rcases (show j9 = 0 ∨ j9 = 1 ∨ j9 = 2 by omega) with rfl | rfl | rfl
                  · exact ((up_ne (by decide)).trans ((up_ne (by decide)).trans ((up_ne (by decide)).trans (up_same _ _ _)))).trans (kkq_9).symm
                  · exact ((up_ne (by decide)).trans (up_same _ _ _)).trans (kkq_14).symm
                  · exact (up_same _ _ _).trans (kkq_19).symm) (fun _ h => h.set 5 _ rfl) ?_
              refine rn_cellJ (J := xSt F V0 [(o 0, .inr (2, [.ref (o 1), .ref (o 2), .ref (o 3), .ref (o 4), .ref (o 5), .ref (o 6), .ref (o 7), .ref (o 8), .ref (o 9), .ref (o 10), .int ((r 0).toInt32)])), (o 1, .inl (0, 6, .inl (seF t r))), (o 2, .inl (0, 3, .inl (maF (kickQ t r false true)))), (o 3, .inl (0, 3, .inl (plX (kickQ t r false true)))), (o 4, .inl (0, 3, .inl (plY (kickQ t r false true)))), (o 5, .inl (1, 3, .inr (.inl (moX (kickQ t r false true))))), (o 6, .inl (1, 3, .inr (.inl (moY (kickQ t r false true)))))]) (fun _ h => h.get 6 rfl) (fun j9 hj9 => by
                  rcases (show j9 = 0 ∨ j9 = 1 ∨ j9 = 2 by omega) with rfl | rfl | rfl
                  · exact ((up_ne (by decide)).trans ((up_ne (by decide)).trans ((up_ne (by decide)).trans (up_same _ _ _)))).trans (kkq_10).symm
                  · exact ((up_ne (by decide)).trans (up_same _ _ _)).trans (kkq_15).symm
                  · exact (up_same _ _ _).trans (kkq_20).symm) (fun _ h => h.set 6 _ rfl) ?_
              exact r_vret hC (Nat.le_of_ble_eq_true rfl) (Nat.le_of_ble_eq_true rfl) (fun V9 h => hQ _ _ ⟨[(o 0, .inr (2, [.ref (o 1), .ref (o 2), .ref (o 3), .ref (o 4), .ref (o 5), .ref (o 6), .ref (o 7), .ref (o 8), .ref (o 9), .ref (o 10), .int (((kickQ t r false true) 0).toInt32)])), (o 1, .inl (0, 6, .inl (seF t (kickQ t r false true)))), (o 2, .inl (0, 3, .inl (maF (kickQ t r false true)))), (o 3, .inl (0, 3, .inl (plX (kickQ t r false true)))), (o 4, .inl (0, 3, .inl (plY (kickQ t r false true)))), (o 5, .inl (1, 3, .inr (.inl (moX (kickQ t r false true))))), (o 6, .inl (1, 3, .inr (.inl (moY (kickQ t r false true)))))], ⟨rfl, in_t (plR_kick hpl) (by rw [kkq_9]; exact hk13) (by rw [kkq_10]; exact hk14) (by rw [kkq_14]; exact hk15) (by rw [kkq_15]; exact hk16) (by rw [kkq_19]; exact hk17) (by rw [kkq_20]; exact hk18), rfl⟩, by rw [← hV0, ← hF]; exact h⟩) dX3_kick_138
            · skip
              refine xCall.w (wr := [(o 0, .inr (2, [.ref (o 1), .ref (o 2), .ref (o 3), .ref (o 4), .ref (o 5), .ref (o 6), .ref (o 7), .ref (o 8), .ref (o 9), .ref (o 10), .int ((r 0).toInt32)])), (o 1, .inl (0, 6, .inl (seF t r))), (o 2, .inl (0, 3, .inl (maF r))), (o 3, .inl (0, 3, .inl (plX r))), (o 4, .inl (0, 3, .inl (plY r))), (o 5, .inl (1, 3, .inr (.inl u11))), (o 6, .inl (1, 3, .inr (.inl u12)))]) (r_cS hC [.long (((r 20) - (gQ t r false true 1 1)) - (gQ t r false true 2 1)), .long 1000000000] mSX3_check q336 (fun V9 h9 => (metX3_checkB _ _ hG (((r 20) - (gQ t r false true 1 1)) - (gQ t r false true 2 1)) 1000000000 hk18) V9 xIn.nil) ⟨rfl, rfl⟩ (Nat.le_of_ble_eq_true rfl) (Nat.le_of_ble_eq_true rfl) rfl (Nat.le_of_ble_eq_true rfl) dX3_kick_129) [] [0, 1, 2, 3, 4, 5, 6] rfl rfl rfl (by decide) 1 6 132 rfl rfl rfl (fun _ _ h => h.elim) (fun q23 w24 h25 => ?_)
              obtain rfl := h25
              show rx C (xSt F V0 [(o 0, .inr (2, [.ref (o 1), .ref (o 2), .ref (o 3), .ref (o 4), .ref (o 5), .ref (o 6), .ref (o 7), .ref (o 8), .ref (o 9), .ref (o 10), .int ((r 0).toInt32)])), (o 1, .inl (0, 6, .inl (seF t r))), (o 2, .inl (0, 3, .inl (maF r))), (o 3, .inl (0, 3, .inl (plX r))), (o 4, .inl (0, 3, .inl (plY r))), (o 5, .inl (1, 3, .inr (.inl u11))), (o 6, .inl (1, 3, .inr (.inl u12))), (q23, .inr (3, [.null, .null, .null, .null, .null, .int 0]))]) 1 6 129 [(3, .int 2), (6, .long (gQ t r false true 2 1)), (4, .long (gQ t r false true 2 0)), (0, .ref (o 0)), (1, .int (-1)), (2, .int 1)] [] q23
              subst hu12
              subst hu11
              subst hu10
              subst hu9
              subst hu8
              subst hu7
              subst hu6
              subst hu5
              subst hu4
              subst hu3
              subst hu2
              subst hu1
              exact rx_out hC hTab (fun _ h => by cases h) (Nat.le_of_ble_eq_true rfl) (Nat.le_of_ble_eq_true rfl) (fun V9 h => hX _ _ ⟨[(o 0, .inr (2, [.ref (o 1), .ref (o 2), .ref (o 3), .ref (o 4), .ref (o 5), .ref (o 6), .ref (o 7), .ref (o 8), .ref (o 9), .ref (o 10), .int ((r 0).toInt32)])), (o 1, .inl (0, 6, .inl (seF t r))), (o 2, .inl (0, 3, .inl (maF r))), (o 3, .inl (0, 3, .inl (plX r))), (o 4, .inl (0, 3, .inl (plY r))), (o 5, .inl (1, 3, .inr (.inl (va_up (va_up (va_up (va_up (va_up (va_up (moX r) 0 ((r 9) + (gQ t r false true 0 0))) 1 ((r 14) - (gQ t r false true 0 0))) 0 (((r 9) + (gQ t r false true 0 0)) + (gQ t r false true 1 0))) 2 ((r 19) - (gQ t r false true 1 0))) 1 (((r 14) - (gQ t r false true 0 0)) + (gQ t r false true 2 0))) 2 (((r 19) - (gQ t r false true 1 0)) - (gQ t r false true 2 0)))))), (o 6, .inl (1, 3, .inr (.inl (va_up (va_up (va_up (va_up (va_up (va_up (moY r) 0 ((r 10) + (gQ t r false true 0 1))) 1 ((r 15) - (gQ t r false true 0 1))) 0 (((r 10) + (gQ t r false true 0 1)) + (gQ t r false true 1 1))) 2 ((r 20) - (gQ t r false true 1 1))) 1 (((r 15) - (gQ t r false true 0 1)) + (gQ t r false true 2 1))) 2 (((r 20) - (gQ t r false true 1 1)) - (gQ t r false true 2 1)))))), (q23, .inr (3, [.null, .null, .null, .null, .null, .int 0]))], ⟨in_f20 (by rw [kkq_20]; exact hk18), _, _, rfl⟩, by rw [← hV0, ← hF]; exact h⟩)
          · skip
            refine xCall.w (wr := [(o 0, .inr (2, [.ref (o 1), .ref (o 2), .ref (o 3), .ref (o 4), .ref (o 5), .ref (o 6), .ref (o 7), .ref (o 8), .ref (o 9), .ref (o 10), .int ((r 0).toInt32)])), (o 1, .inl (0, 6, .inl (seF t r))), (o 2, .inl (0, 3, .inl (maF r))), (o 3, .inl (0, 3, .inl (plX r))), (o 4, .inl (0, 3, .inl (plY r))), (o 5, .inl (1, 3, .inr (.inl u11))), (o 6, .inl (1, 3, .inr (.inl u12)))]) (r_cS hC [.long (((r 19) - (gQ t r false true 1 0)) - (gQ t r false true 2 0)), .long 1000000000] mSX3_check q336 (fun V9 h9 => (metX3_checkB _ _ hG (((r 19) - (gQ t r false true 1 0)) - (gQ t r false true 2 0)) 1000000000 hk17) V9 xIn.nil) ⟨rfl, rfl⟩ (Nat.le_of_ble_eq_true rfl) (Nat.le_of_ble_eq_true rfl) rfl (Nat.le_of_ble_eq_true rfl) dX3_kick_117) [] [0, 1, 2, 3, 4, 5, 6] rfl rfl rfl (by decide) 1 6 120 rfl rfl rfl (fun _ _ h => h.elim) (fun q30 w31 h32 => ?_)
            obtain rfl := h32
            show rx C (xSt F V0 [(o 0, .inr (2, [.ref (o 1), .ref (o 2), .ref (o 3), .ref (o 4), .ref (o 5), .ref (o 6), .ref (o 7), .ref (o 8), .ref (o 9), .ref (o 10), .int ((r 0).toInt32)])), (o 1, .inl (0, 6, .inl (seF t r))), (o 2, .inl (0, 3, .inl (maF r))), (o 3, .inl (0, 3, .inl (plX r))), (o 4, .inl (0, 3, .inl (plY r))), (o 5, .inl (1, 3, .inr (.inl u11))), (o 6, .inl (1, 3, .inr (.inl u12))), (q30, .inr (3, [.null, .null, .null, .null, .null, .int 0]))]) 1 6 117 [(3, .int 2), (6, .long (gQ t r false true 2 1)), (4, .long (gQ t r false true 2 0)), (0, .ref (o 0)), (1, .int (-1)), (2, .int 1)] [] q30
            subst hu12
            subst hu11
            subst hu10
            subst hu9
            subst hu8
            subst hu7
            subst hu6
            subst hu5
            subst hu4
            subst hu3
            subst hu2
            subst hu1
            exact rx_out hC hTab (fun _ h => by cases h) (Nat.le_of_ble_eq_true rfl) (Nat.le_of_ble_eq_true rfl) (fun V9 h => hX _ _ ⟨[(o 0, .inr (2, [.ref (o 1), .ref (o 2), .ref (o 3), .ref (o 4), .ref (o 5), .ref (o 6), .ref (o 7), .ref (o 8), .ref (o 9), .ref (o 10), .int ((r 0).toInt32)])), (o 1, .inl (0, 6, .inl (seF t r))), (o 2, .inl (0, 3, .inl (maF r))), (o 3, .inl (0, 3, .inl (plX r))), (o 4, .inl (0, 3, .inl (plY r))), (o 5, .inl (1, 3, .inr (.inl (va_up (va_up (va_up (va_up (va_up (va_up (moX r) 0 ((r 9) + (gQ t r false true 0 0))) 1 ((r 14) - (gQ t r false true 0 0))) 0 (((r 9) + (gQ t r false true 0 0)) + (gQ t r false true 1 0))) 2 ((r 19) - (gQ t r false true 1 0))) 1 (((r 14) - (gQ t r false true 0 0)) + (gQ t r false true 2 0))) 2 (((r 19) - (gQ t r false true 1 0)) - (gQ t r false true 2 0)))))), (o 6, .inl (1, 3, .inr (.inl (va_up (va_up (va_up (va_up (va_up (va_up (moY r) 0 ((r 10) + (gQ t r false true 0 1))) 1 ((r 15) - (gQ t r false true 0 1))) 0 (((r 10) + (gQ t r false true 0 1)) + (gQ t r false true 1 1))) 2 ((r 20) - (gQ t r false true 1 1))) 1 (((r 15) - (gQ t r false true 0 1)) + (gQ t r false true 2 1))) 2 (((r 20) - (gQ t r false true 1 1)) - (gQ t r false true 2 1)))))), (q30, .inr (3, [.null, .null, .null, .null, .null, .int 0]))], ⟨in_f19 (by rw [kkq_19]; exact hk17), _, _, rfl⟩, by rw [← hV0, ← hF]; exact h⟩)
        · skip
          refine xCall.w (wr := [(o 0, .inr (2, [.ref (o 1), .ref (o 2), .ref (o 3), .ref (o 4), .ref (o 5), .ref (o 6), .ref (o 7), .ref (o 8), .ref (o 9), .ref (o 10), .int ((r 0).toInt32)])), (o 1, .inl (0, 6, .inl (seF t r))), (o 2, .inl (0, 3, .inl (maF r))), (o 3, .inl (0, 3, .inl (plX r))), (o 4, .inl (0, 3, .inl (plY r))), (o 5, .inl (1, 3, .inr (.inl u11))), (o 6, .inl (1, 3, .inr (.inl u12)))]) (r_cS hC [.long (((r 15) - (gQ t r false true 0 1)) + (gQ t r false true 2 1)), .long 1000000000] mSX3_check q336 (fun V9 h9 => (metX3_checkB _ _ hG (((r 15) - (gQ t r false true 0 1)) + (gQ t r false true 2 1)) 1000000000 hk16) V9 xIn.nil) ⟨rfl, rfl⟩ (Nat.le_of_ble_eq_true rfl) (Nat.le_of_ble_eq_true rfl) rfl (Nat.le_of_ble_eq_true rfl) dX3_kick_129) [] [0, 1, 2, 3, 4, 5, 6] rfl rfl rfl (by decide) 1 6 132 rfl rfl rfl (fun _ _ h => h.elim) (fun q37 w38 h39 => ?_)
          obtain rfl := h39
          show rx C (xSt F V0 [(o 0, .inr (2, [.ref (o 1), .ref (o 2), .ref (o 3), .ref (o 4), .ref (o 5), .ref (o 6), .ref (o 7), .ref (o 8), .ref (o 9), .ref (o 10), .int ((r 0).toInt32)])), (o 1, .inl (0, 6, .inl (seF t r))), (o 2, .inl (0, 3, .inl (maF r))), (o 3, .inl (0, 3, .inl (plX r))), (o 4, .inl (0, 3, .inl (plY r))), (o 5, .inl (1, 3, .inr (.inl u11))), (o 6, .inl (1, 3, .inr (.inl u12))), (q37, .inr (3, [.null, .null, .null, .null, .null, .int 0]))]) 1 6 129 [(3, .int 1), (6, .long (gQ t r false true 2 1)), (4, .long (gQ t r false true 2 0)), (0, .ref (o 0)), (1, .int (-1)), (2, .int 1)] [] q37
          subst hu12
          subst hu11
          subst hu10
          subst hu9
          subst hu8
          subst hu7
          subst hu6
          subst hu5
          subst hu4
          subst hu3
          subst hu2
          subst hu1
          exact rx_out hC hTab (fun _ h => by cases h) (Nat.le_of_ble_eq_true rfl) (Nat.le_of_ble_eq_true rfl) (fun V9 h => hX _ _ ⟨[(o 0, .inr (2, [.ref (o 1), .ref (o 2), .ref (o 3), .ref (o 4), .ref (o 5), .ref (o 6), .ref (o 7), .ref (o 8), .ref (o 9), .ref (o 10), .int ((r 0).toInt32)])), (o 1, .inl (0, 6, .inl (seF t r))), (o 2, .inl (0, 3, .inl (maF r))), (o 3, .inl (0, 3, .inl (plX r))), (o 4, .inl (0, 3, .inl (plY r))), (o 5, .inl (1, 3, .inr (.inl (va_up (va_up (va_up (va_up (va_up (va_up (moX r) 0 ((r 9) + (gQ t r false true 0 0))) 1 ((r 14) - (gQ t r false true 0 0))) 0 (((r 9) + (gQ t r false true 0 0)) + (gQ t r false true 1 0))) 2 ((r 19) - (gQ t r false true 1 0))) 1 (((r 14) - (gQ t r false true 0 0)) + (gQ t r false true 2 0))) 2 (((r 19) - (gQ t r false true 1 0)) - (gQ t r false true 2 0)))))), (o 6, .inl (1, 3, .inr (.inl (va_up (va_up (va_up (va_up (va_up (va_up (moY r) 0 ((r 10) + (gQ t r false true 0 1))) 1 ((r 15) - (gQ t r false true 0 1))) 0 (((r 10) + (gQ t r false true 0 1)) + (gQ t r false true 1 1))) 2 ((r 20) - (gQ t r false true 1 1))) 1 (((r 15) - (gQ t r false true 0 1)) + (gQ t r false true 2 1))) 2 (((r 20) - (gQ t r false true 1 1)) - (gQ t r false true 2 1)))))), (q37, .inr (3, [.null, .null, .null, .null, .null, .int 0]))], ⟨in_f15 (by rw [kkq_15]; exact hk16), _, _, rfl⟩, by rw [← hV0, ← hF]; exact h⟩)
      · skip
        refine xCall.w (wr := [(o 0, .inr (2, [.ref (o 1), .ref (o 2), .ref (o 3), .ref (o 4), .ref (o 5), .ref (o 6), .ref (o 7), .ref (o 8), .ref (o 9), .ref (o 10), .int ((r 0).toInt32)])), (o 1, .inl (0, 6, .inl (seF t r))), (o 2, .inl (0, 3, .inl (maF r))), (o 3, .inl (0, 3, .inl (plX r))), (o 4, .inl (0, 3, .inl (plY r))), (o 5, .inl (1, 3, .inr (.inl u11))), (o 6, .inl (1, 3, .inr (.inl u12)))]) (r_cS hC [.long (((r 14) - (gQ t r false true 0 0)) + (gQ t r false true 2 0)), .long 1000000000] mSX3_check q336 (fun V9 h9 => (metX3_checkB _ _ hG (((r 14) - (gQ t r false true 0 0)) + (gQ t r false true 2 0)) 1000000000 hk15) V9 xIn.nil) ⟨rfl, rfl⟩ (Nat.le_of_ble_eq_true rfl) (Nat.le_of_ble_eq_true rfl) rfl (Nat.le_of_ble_eq_true rfl) dX3_kick_117) [] [0, 1, 2, 3, 4, 5, 6] rfl rfl rfl (by decide) 1 6 120 rfl rfl rfl (fun _ _ h => h.elim) (fun q44 w45 h46 => ?_)
        obtain rfl := h46
        show rx C (xSt F V0 [(o 0, .inr (2, [.ref (o 1), .ref (o 2), .ref (o 3), .ref (o 4), .ref (o 5), .ref (o 6), .ref (o 7), .ref (o 8), .ref (o 9), .ref (o 10), .int ((r 0).toInt32)])), (o 1, .inl (0, 6, .inl (seF t r))), (o 2, .inl (0, 3, .inl (maF r))), (o 3, .inl (0, 3, .inl (plX r))), (o 4, .inl (0, 3, .inl (plY r))), (o 5, .inl (1, 3, .inr (.inl u11))), (o 6, .inl (1, 3, .inr (.inl u12))), (q44, .inr (3, [.null, .null, .null, .null, .null, .int 0]))]) 1 6 117 [(3, .int 1), (6, .long (gQ t r false true 2 1)), (4, .long (gQ t r false true 2 0)), (0, .ref (o 0)), (1, .int (-1)), (2, .int 1)] [] q44
        subst hu12
        subst hu11
        subst hu10
        subst hu9
        subst hu8
        subst hu7
        subst hu6
        subst hu5
        subst hu4
        subst hu3
        subst hu2
        subst hu1
        exact rx_out hC hTab (fun _ h => by cases h) (Nat.le_of_ble_eq_true rfl) (Nat.le_of_ble_eq_true rfl) (fun V9 h => hX _ _ ⟨[(o 0, .inr (2, [.ref (o 1), .ref (o 2), .ref (o 3), .ref (o 4), .ref (o 5), .ref (o 6), .ref (o 7), .ref (o 8), .ref (o 9), .ref (o 10), .int ((r 0).toInt32)])), (o 1, .inl (0, 6, .inl (seF t r))), (o 2, .inl (0, 3, .inl (maF r))), (o 3, .inl (0, 3, .inl (plX r))), (o 4, .inl (0, 3, .inl (plY r))), (o 5, .inl (1, 3, .inr (.inl (va_up (va_up (va_up (va_up (va_up (va_up (moX r) 0 ((r 9) + (gQ t r false true 0 0))) 1 ((r 14) - (gQ t r false true 0 0))) 0 (((r 9) + (gQ t r false true 0 0)) + (gQ t r false true 1 0))) 2 ((r 19) - (gQ t r false true 1 0))) 1 (((r 14) - (gQ t r false true 0 0)) + (gQ t r false true 2 0))) 2 (((r 19) - (gQ t r false true 1 0)) - (gQ t r false true 2 0)))))), (o 6, .inl (1, 3, .inr (.inl (va_up (va_up (va_up (va_up (va_up (va_up (moY r) 0 ((r 10) + (gQ t r false true 0 1))) 1 ((r 15) - (gQ t r false true 0 1))) 0 (((r 10) + (gQ t r false true 0 1)) + (gQ t r false true 1 1))) 2 ((r 20) - (gQ t r false true 1 1))) 1 (((r 15) - (gQ t r false true 0 1)) + (gQ t r false true 2 1))) 2 (((r 20) - (gQ t r false true 1 1)) - (gQ t r false true 2 1)))))), (q44, .inr (3, [.null, .null, .null, .null, .null, .int 0]))], ⟨in_f14 (by rw [kkq_14]; exact hk15), _, _, rfl⟩, by rw [← hV0, ← hF]; exact h⟩)
    · skip
      refine xCall.w (wr := [(o 0, .inr (2, [.ref (o 1), .ref (o 2), .ref (o 3), .ref (o 4), .ref (o 5), .ref (o 6), .ref (o 7), .ref (o 8), .ref (o 9), .ref (o 10), .int ((r 0).toInt32)])), (o 1, .inl (0, 6, .inl (seF t r))), (o 2, .inl (0, 3, .inl (maF r))), (o 3, .inl (0, 3, .inl (plX r))), (o 4, .inl (0, 3, .inl (plY r))), (o 5, .inl (1, 3, .inr (.inl u11))), (o 6, .inl (1, 3, .inr (.inl u12)))]) (r_cS hC [.long (((r 10) + (gQ t r false true 0 1)) + (gQ t r false true 1 1)), .long 1000000000] mSX3_check q336 (fun V9 h9 => (metX3_checkB _ _ hG (((r 10) + (gQ t r false true 0 1)) + (gQ t r false true 1 1)) 1000000000 hk14) V9 xIn.nil) ⟨rfl, rfl⟩ (Nat.le_of_ble_eq_true rfl) (Nat.le_of_ble_eq_true rfl) rfl (Nat.le_of_ble_eq_true rfl) dX3_kick_129) [] [0, 1, 2, 3, 4, 5, 6] rfl rfl rfl (by decide) 1 6 132 rfl rfl rfl (fun _ _ h => h.elim) (fun q51 w52 h53 => ?_)
      obtain rfl := h53
      show rx C (xSt F V0 [(o 0, .inr (2, [.ref (o 1), .ref (o 2), .ref (o 3), .ref (o 4), .ref (o 5), .ref (o 6), .ref (o 7), .ref (o 8), .ref (o 9), .ref (o 10), .int ((r 0).toInt32)])), (o 1, .inl (0, 6, .inl (seF t r))), (o 2, .inl (0, 3, .inl (maF r))), (o 3, .inl (0, 3, .inl (plX r))), (o 4, .inl (0, 3, .inl (plY r))), (o 5, .inl (1, 3, .inr (.inl u11))), (o 6, .inl (1, 3, .inr (.inl u12))), (q51, .inr (3, [.null, .null, .null, .null, .null, .int 0]))]) 1 6 129 [(3, .int 0), (6, .long (gQ t r false true 2 1)), (4, .long (gQ t r false true 2 0)), (0, .ref (o 0)), (1, .int (-1)), (2, .int 1)] [] q51
      subst hu12
      subst hu11
      subst hu10
      subst hu9
      subst hu8
      subst hu7
      subst hu6
      subst hu5
      subst hu4
      subst hu3
      subst hu2
      subst hu1
      exact rx_out hC hTab (fun _ h => by cases h) (Nat.le_of_ble_eq_true rfl) (Nat.le_of_ble_eq_true rfl) (fun V9 h => hX _ _ ⟨[(o 0, .inr (2, [.ref (o 1), .ref (o 2), .ref (o 3), .ref (o 4), .ref (o 5), .ref (o 6), .ref (o 7), .ref (o 8), .ref (o 9), .ref (o 10), .int ((r 0).toInt32)])), (o 1, .inl (0, 6, .inl (seF t r))), (o 2, .inl (0, 3, .inl (maF r))), (o 3, .inl (0, 3, .inl (plX r))), (o 4, .inl (0, 3, .inl (plY r))), (o 5, .inl (1, 3, .inr (.inl (va_up (va_up (va_up (va_up (va_up (va_up (moX r) 0 ((r 9) + (gQ t r false true 0 0))) 1 ((r 14) - (gQ t r false true 0 0))) 0 (((r 9) + (gQ t r false true 0 0)) + (gQ t r false true 1 0))) 2 ((r 19) - (gQ t r false true 1 0))) 1 (((r 14) - (gQ t r false true 0 0)) + (gQ t r false true 2 0))) 2 (((r 19) - (gQ t r false true 1 0)) - (gQ t r false true 2 0)))))), (o 6, .inl (1, 3, .inr (.inl (va_up (va_up (va_up (va_up (va_up (va_up (moY r) 0 ((r 10) + (gQ t r false true 0 1))) 1 ((r 15) - (gQ t r false true 0 1))) 0 (((r 10) + (gQ t r false true 0 1)) + (gQ t r false true 1 1))) 2 ((r 20) - (gQ t r false true 1 1))) 1 (((r 15) - (gQ t r false true 0 1)) + (gQ t r false true 2 1))) 2 (((r 20) - (gQ t r false true 1 1)) - (gQ t r false true 2 1)))))), (q51, .inr (3, [.null, .null, .null, .null, .null, .int 0]))], ⟨in_f10 (by rw [kkq_10]; exact hk14), _, _, rfl⟩, by rw [← hV0, ← hF]; exact h⟩)
  · skip
    refine xCall.w (wr := [(o 0, .inr (2, [.ref (o 1), .ref (o 2), .ref (o 3), .ref (o 4), .ref (o 5), .ref (o 6), .ref (o 7), .ref (o 8), .ref (o 9), .ref (o 10), .int ((r 0).toInt32)])), (o 1, .inl (0, 6, .inl (seF t r))), (o 2, .inl (0, 3, .inl (maF r))), (o 3, .inl (0, 3, .inl (plX r))), (o 4, .inl (0, 3, .inl (plY r))), (o 5, .inl (1, 3, .inr (.inl u11))), (o 6, .inl (1, 3, .inr (.inl u12)))]) (r_cS hC [.long (((r 9) + (gQ t r false true 0 0)) + (gQ t r false true 1 0)), .long 1000000000] mSX3_check q336 (fun V9 h9 => (metX3_checkB _ _ hG (((r 9) + (gQ t r false true 0 0)) + (gQ t r false true 1 0)) 1000000000 hk13) V9 xIn.nil) ⟨rfl, rfl⟩ (Nat.le_of_ble_eq_true rfl) (Nat.le_of_ble_eq_true rfl) rfl (Nat.le_of_ble_eq_true rfl) dX3_kick_117) [] [0, 1, 2, 3, 4, 5, 6] rfl rfl rfl (by decide) 1 6 120 rfl rfl rfl (fun _ _ h => h.elim) (fun q58 w59 h60 => ?_)
    obtain rfl := h60
    show rx C (xSt F V0 [(o 0, .inr (2, [.ref (o 1), .ref (o 2), .ref (o 3), .ref (o 4), .ref (o 5), .ref (o 6), .ref (o 7), .ref (o 8), .ref (o 9), .ref (o 10), .int ((r 0).toInt32)])), (o 1, .inl (0, 6, .inl (seF t r))), (o 2, .inl (0, 3, .inl (maF r))), (o 3, .inl (0, 3, .inl (plX r))), (o 4, .inl (0, 3, .inl (plY r))), (o 5, .inl (1, 3, .inr (.inl u11))), (o 6, .inl (1, 3, .inr (.inl u12))), (q58, .inr (3, [.null, .null, .null, .null, .null, .int 0]))]) 1 6 117 [(3, .int 0), (6, .long (gQ t r false true 2 1)), (4, .long (gQ t r false true 2 0)), (0, .ref (o 0)), (1, .int (-1)), (2, .int 1)] [] q58
    subst hu12
    subst hu11
    subst hu10
    subst hu9
    subst hu8
    subst hu7
    subst hu6
    subst hu5
    subst hu4
    subst hu3
    subst hu2
    subst hu1
    exact rx_out hC hTab (fun _ h => by cases h) (Nat.le_of_ble_eq_true rfl) (Nat.le_of_ble_eq_true rfl) (fun V9 h => hX _ _ ⟨[(o 0, .inr (2, [.ref (o 1), .ref (o 2), .ref (o 3), .ref (o 4), .ref (o 5), .ref (o 6), .ref (o 7), .ref (o 8), .ref (o 9), .ref (o 10), .int ((r 0).toInt32)])), (o 1, .inl (0, 6, .inl (seF t r))), (o 2, .inl (0, 3, .inl (maF r))), (o 3, .inl (0, 3, .inl (plX r))), (o 4, .inl (0, 3, .inl (plY r))), (o 5, .inl (1, 3, .inr (.inl (va_up (va_up (va_up (va_up (va_up (va_up (moX r) 0 ((r 9) + (gQ t r false true 0 0))) 1 ((r 14) - (gQ t r false true 0 0))) 0 (((r 9) + (gQ t r false true 0 0)) + (gQ t r false true 1 0))) 2 ((r 19) - (gQ t r false true 1 0))) 1 (((r 14) - (gQ t r false true 0 0)) + (gQ t r false true 2 0))) 2 (((r 19) - (gQ t r false true 1 0)) - (gQ t r false true 2 0)))))), (o 6, .inl (1, 3, .inr (.inl (va_up (va_up (va_up (va_up (va_up (va_up (moY r) 0 ((r 10) + (gQ t r false true 0 1))) 1 ((r 15) - (gQ t r false true 0 1))) 0 (((r 10) + (gQ t r false true 0 1)) + (gQ t r false true 1 1))) 2 ((r 20) - (gQ t r false true 1 1))) 1 (((r 15) - (gQ t r false true 0 1)) + (gQ t r false true 2 1))) 2 (((r 20) - (gQ t r false true 1 1)) - (gQ t r false true 2 1)))))), (q58, .inr (3, [.null, .null, .null, .null, .null, .int 0]))], ⟨in_f9 (by rw [kkq_9]; exact hk13), _, _, rfl⟩, by rw [← hV0, ← hF]; exact h⟩)
set_option maxHeartbeats 4000000 in
set_option maxRecDepth 100000 in
theorem metX3_kick01S (l : Launch) (G : xG) (hG : xGood G) (o : Nat → Nat) (t r : Nat → Int64) (hpl : plR r) (ht : tOK t) (hm : mOK r) (hin : isInQ (kickQ t r false true) = true) : xWm l G yX3_kick (Cond.code yX3_kick cX3_kick 8 none) { frames := 4, locals := 98, cells := 0, slots := 0 } [.ref (o 0), .int (-1), .int 1] [(o 0, .inr (2, [.ref (o 1), .ref (o 2), .ref (o 3), .ref (o 4), .ref (o 5), .ref (o 6), .ref (o 7), .ref (o 8), .ref (o 9), .ref (o 10), .int ((r 0).toInt32)])), (o 1, .inl (0, 6, .inl (seF t r))), (o 2, .inl (0, 3, .inl (maF r))), (o 3, .inl (0, 3, .inl (plX r))), (o 4, .inl (0, 3, .inl (plY r))), (o 5, .inl (1, 3, .inr (.inl (moX r)))), (o 6, .inl (1, 3, .inr (.inl (moY r))))] (fun v w' => v = none ∧ isInQ (kickQ t r false true) = true ∧ w' = [(o 0, .inr (2, [.ref (o 1), .ref (o 2), .ref (o 3), .ref (o 4), .ref (o 5), .ref (o 6), .ref (o 7), .ref (o 8), .ref (o 9), .ref (o 10), .int (((kickQ t r false true) 0).toInt32)])), (o 1, .inl (0, 6, .inl (seF t (kickQ t r false true)))), (o 2, .inl (0, 3, .inl (maF (kickQ t r false true)))), (o 3, .inl (0, 3, .inl (plX (kickQ t r false true)))), (o 4, .inl (0, 3, .inl (plY (kickQ t r false true)))), (o 5, .inl (1, 3, .inr (.inl (moX (kickQ t r false true))))), (o 6, .inl (1, 3, .inr (.inl (moY (kickQ t r false true)))))]) (fun _ _ => False) := by
  intro V hV
  refine xMet_ofT RX3 hG rfl (by decide) (Nat.le_of_ble_eq_true rfl) fun C hC hQ hX hl hg _ hTab => ?_
  subst hl hg
  obtain ⟨tONE, hzONE, htONE⟩ := za_ONE hG
  obtain ⟨tOTH, hzOTH, htOTH⟩ := za_OTH hG
  obtain ⟨V0, hV0⟩ : ∃ V0, V0 = V := ⟨_, rfl⟩
  obtain ⟨F, hF⟩ : ∃ F, F = xF [(o 0, .inr (2, [.ref (o 1), .ref (o 2), .ref (o 3), .ref (o 4), .ref (o 5), .ref (o 6), .ref (o 7), .ref (o 8), .ref (o 9), .ref (o 10), .int ((r 0).toInt32)])), (o 1, .inl (0, 6, .inl (seF t r))), (o 2, .inl (0, 3, .inl (maF r))), (o 3, .inl (0, 3, .inl (plX r))), (o 4, .inl (0, 3, .inl (plY r))), (o 5, .inl (1, 3, .inr (.inl (moX r)))), (o 6, .inl (1, 3, .inr (.inl (moY r))))] := ⟨_, rfl⟩
  refine rn.mono (J := xSt F V0 [(o 0, .inr (2, [.ref (o 1), .ref (o 2), .ref (o 3), .ref (o 4), .ref (o 5), .ref (o 6), .ref (o 7), .ref (o 8), .ref (o 9), .ref (o 10), .int ((r 0).toInt32)])), (o 1, .inl (0, 6, .inl (seF t r))), (o 2, .inl (0, 3, .inl (maF r))), (o 3, .inl (0, 3, .inl (plX r))), (o 4, .inl (0, 3, .inl (plY r))), (o 5, .inl (1, 3, .inr (.inl (moX r)))), (o 6, .inl (1, 3, .inr (.inl (moY r))))]) (fun V9 h => by rw [h, hV0, hF]; exact hV.st) ?_
  show rn C (xSt F V0 [(o 0, .inr (2, [.ref (o 1), .ref (o 2), .ref (o 3), .ref (o 4), .ref (o 5), .ref (o 6), .ref (o 7), .ref (o 8), .ref (o 9), .ref (o 10), .int ((r 0).toInt32)])), (o 1, .inl (0, 6, .inl (seF t r))), (o 2, .inl (0, 3, .inl (maF r))), (o 3, .inl (0, 3, .inl (plX r))), (o 4, .inl (0, 3, .inl (plY r))), (o 5, .inl (1, 3, .inr (.inl (moX r)))), (o 6, .inl (1, 3, .inr (.inl (moY r))))]) 0 0 0 [(0, .ref (o 0)), (1, .int (-1)), (2, .int 1)] []
  refine r_iconst hC 0 dX3_kick_0 ic_0 1 rfl ?_
  refine r_istore_n hC 3 [(3, .int 0), (0, .ref (o 0)), (1, .int (-1)), (2, .int 1)] dX3_kick_1 rfl (Nat.le_of_ble_eq_true rfl) rfl 2 rfl ?_
  refine r_iload_n hC 0 dX3_kick_2 rfl 3 rfl ?_
  refine r_iconst hC 3 dX3_kick_3 ic_3 4 rfl ?_
  refine r_icge hC 101 dX3_kick_4 (by decide) 7 rfl (fun h => absurd h (by decide)) (fun _ => ?_)
  refine r_iload_n hC 2 dX3_kick_7 rfl 8 rfl ?_
  refine r_i2l hC (-1) dX3_kick_8 (by decide) 9 rfl ?_
  refine r_aload_n hC 1 dX3_kick_9 rfl 10 rfl ?_
  refine r_iload_n hC 0 dX3_kick_10 rfl 11 rfl ?_
  refine r_iconst hC 0 dX3_kick_11 ic_0 12 rfl ?_
  refine xCall.r (r := some (.long (impQ t r 0 0))) (r_cV hC kX3 (o 0) [.int 0, .int 0] mVX3_impulse q331 (fun _ h => ⟨_, h.get 0 rfl⟩) (fun V9 h9 => (metX3_impulse0 _ _ hG o t r 0 (Nat.le_of_ble_eq_true rfl) hpl ht hm) V9 (h9.in.sub [0, 1, 2, 3, 4] rfl rfl)) ⟨rfl, rfl⟩ (Nat.le_of_ble_eq_true rfl) (Nat.le_of_ble_eq_true rfl) rfl (Nat.le_of_ble_eq_true rfl) dX3_kick_12) 0 0 15 rfl rfl rfl ?_
  refine r_iload_n hC 3 dX3_kick_15 rfl 16 rfl ?_
  refine r_i2l hC 1 dX3_kick_16 (by decide) 17 rfl ?_
  refine r_ldiv hC ((impQ t r 0 0) / 1) dX3_kick_17 (by decide) (rfl) 18 rfl ?_
  refine r_lmul hC ((-1) * ((impQ t r 0 0) / 1)) dX3_kick_18  (rfl) 19 rfl ?_
  refine r_eql (y := gQ t r false true 0 0) (g01 _) ?_
  refine r_lstore hC 4 [(4, .long (gQ t r false true 0 0)), (3, .int 0), (0, .ref (o 0)), (1, .int (-1)), (2, .int 1)] dX3_kick_19 (Nat.le_of_ble_eq_true rfl) rfl 21 rfl ?_
  refine r_iload_n hC 3 dX3_kick_21 rfl 22 rfl ?_
  refine r_i2l hC (-1) dX3_kick_22 (by decide) 23 rfl ?_
  refine r_aload_n hC 2 dX3_kick_23 rfl 24 rfl ?_
  refine r_iload_n hC 1 dX3_kick_24 rfl 25 rfl ?_
  refine r_iconst hC 1 dX3_kick_25 ic_1 26 rfl ?_
  refine xCall.r (r := some (.long (impQ t r 0 1))) (r_cV hC kX3 (o 0) [.int 0, .int 1] mVX3_impulse q331 (fun _ h => ⟨_, h.get 0 rfl⟩) (fun V9 h9 => (metX3_impulse1 _ _ hG o t r 0 (Nat.le_of_ble_eq_true rfl) hpl ht hm) V9 (h9.in.sub [0, 1, 2, 3, 4] rfl rfl)) ⟨rfl, rfl⟩ (Nat.le_of_ble_eq_true rfl) (Nat.le_of_ble_eq_true rfl) rfl (Nat.le_of_ble_eq_true rfl) dX3_kick_26) 0 0 29 rfl rfl rfl ?_
  refine r_iload_n hC 4 dX3_kick_29 rfl 30 rfl ?_
  refine r_i2l hC 1 dX3_kick_30 (by decide) 31 rfl ?_
  refine r_ldiv hC ((impQ t r 0 1) / 1) dX3_kick_31 (by decide) (rfl) 32 rfl ?_
  refine r_lmul hC ((-1) * ((impQ t r 0 1) / 1)) dX3_kick_32  (rfl) 33 rfl ?_
  refine r_eql (y := gQ t r false true 0 1) (g01 _) ?_
  refine r_lstore hC 6 [(6, .long (gQ t r false true 0 1)), (4, .long (gQ t r false true 0 0)), (3, .int 0), (0, .ref (o 0)), (1, .int (-1)), (2, .int 1)] dX3_kick_33 (Nat.le_of_ble_eq_true rfl) rfl 35 rfl ?_
  refine r_aload_n hC 3 dX3_kick_35 rfl 36 rfl ?_
  refine r_get (v := .ref (o 5)) hC kX3 4 rfl q188 (fun _ h => h.get 0 rfl) rfl dX3_kick_36 39 rfl ?_
  refine r_getsN hC hG hzONE q271 dX3_kick_39 42 rfl ?_
  refine r_iload_n hC 2 dX3_kick_42 rfl 43 rfl ?_
  refine r_ialdT hC htONE 0 (xix_n 0 (Nat.le_of_ble_eq_true rfl) (Nat.le_of_ble_eq_true rfl)) 0 rfl dX3_kick_43 44 rfl ?_
  refine r_dup2 hC dX3_kick_44 rfl rfl 45 rfl ?_
  refine r_lald hC 0 (xix_n 0 (Nat.le_of_ble_eq_true rfl) (Nat.le_of_ble_eq_true rfl)) (fun _ h => h.get 5 rfl) (moX r 0) (rfl) dX3_kick_45 46 rfl ?_
  refine r_eql (y := r 9) (rfl) ?_
  refine r_lload hC 1 dX3_kick_46 rfl 48 rfl ?_
  refine r_ladd hC ((r 9) + (gQ t r false true 0 0)) dX3_kick_48  (rfl) 49 rfl ?_
  refine r_last (J := xSt F V0 [(o 0, .inr (2, [.ref (o 1), .ref (o 2), .ref (o 3), .ref (o 4), .ref (o 5), .ref (o 6), .ref (o 7), .ref (o 8), .ref (o 9), .ref (o 10), .int ((r 0).toInt32)])), (o 1, .inl (0, 6, .inl (seF t r))), (o 2, .inl (0, 3, .inl (maF r))), (o 3, .inl (0, 3, .inl (plX r))), (o 4, .inl (0, 3, .inl (plY r))), (o 5, .inl (1, 3, .inr (.inl (va_up (moX r) 0 ((r 9) + (gQ t r false true 0 0)))))), (o 6, .inl (1, 3, .inr (.inl (moY r))))]) hC 0 (xix_n 0 (Nat.le_of_ble_eq_true rfl) (Nat.le_of_ble_eq_true rfl)) (fun _ h => h.get 5 rfl) dX3_kick_49 (fun _ h => h.set 5 _ rfl) 50 rfl ?_
  generalize hu1 : va_up (moX r) 0 ((r 9) + (gQ t r false true 0 0)) = u1
  refine r_aload_n hC 3 dX3_kick_50 rfl 51 rfl ?_
  refine r_get (v := .ref (o 6)) hC kX3 5 rfl q191 (fun _ h => h.get 0 rfl) rfl dX3_kick_51 54 rfl ?_
  refine r_getsN hC hG hzONE q271 dX3_kick_54 57 rfl ?_
  refine r_iload_n hC 2 dX3_kick_57 rfl 58 rfl ?_
  refine r_ialdT hC htONE 0 (xix_n 0 (Nat.le_of_ble_eq_true rfl) (Nat.le_of_ble_eq_true rfl)) 0 rfl dX3_kick_58 59 rfl ?_
  refine r_dup2 hC dX3_kick_59 rfl rfl 60 rfl ?_
  refine r_lald hC 0 (xix_n 0 (Nat.le_of_ble_eq_true rfl) (Nat.le_of_ble_eq_true rfl)) (fun _ h => h.get 6 rfl) (moY r 0) (rfl) dX3_kick_60 61 rfl ?_
  refine r_eql (y := r 10) (rfl) ?_
  refine r_lload hC 0 dX3_kick_61 rfl 63 rfl ?_
  refine r_ladd hC ((r 10) + (gQ t r false true 0 1)) dX3_kick_63  (rfl) 64 rfl ?_
  refine r_last (J := xSt F V0 [(o 0, .inr (2, [.ref (o 1), .ref (o 2), .ref (o 3), .ref (o 4), .ref (o 5), .ref (o 6), .ref (o 7), .ref (o 8), .ref (o 9), .ref (o 10), .int ((r 0).toInt32)])), (o 1, .inl (0, 6, .inl (seF t r))), (o 2, .inl (0, 3, .inl (maF r))), (o 3, .inl (0, 3, .inl (plX r))), (o 4, .inl (0, 3, .inl (plY r))), (o 5, .inl (1, 3, .inr (.inl u1))), (o 6, .inl (1, 3, .inr (.inl (va_up (moY r) 0 ((r 10) + (gQ t r false true 0 1))))))]) hC 0 (xix_n 0 (Nat.le_of_ble_eq_true rfl) (Nat.le_of_ble_eq_true rfl)) (fun _ h => h.get 6 rfl) dX3_kick_64 (fun _ h => h.set 6 _ rfl) 65 rfl ?_
  generalize hu2 : va_up (moY r) 0 ((r 10) + (gQ t r false true 0 1)) = u2
  refine r_aload_n hC 3 dX3_kick_65 rfl 66 rfl ?_
  refine r_get (v := .ref (o 5)) hC kX3 4 rfl q188 (fun _ h => h.get 0 rfl) rfl dX3_kick_66 69 rfl ?_
  refine r_getsN hC hG hzOTH q273 dX3_kick_69 72 rfl ?_
  refine r_iload_n hC 2 dX3_kick_72 rfl 73 rfl ?_
  refine r_ialdT hC htOTH 0 (xix_n 0 (Nat.le_of_ble_eq_true rfl) (Nat.le_of_ble_eq_true rfl)) 1 rfl dX3_kick_73 74 rfl ?_
  refine r_dup2 hC dX3_kick_74 rfl rfl 75 rfl ?_
  refine r_lald hC 1 (xix_n 1 (Nat.le_of_ble_eq_true rfl) (Nat.le_of_ble_eq_true rfl)) (fun _ h => h.get 5 rfl) (moX r 1) (by rw [← hu1]; rfl) dX3_kick_75 76 rfl ?_
  refine r_eql (y := r 14) (rfl) ?_
  refine r_lload hC 1 dX3_kick_76 rfl 78 rfl ?_
  refine r_lsub hC ((r 14) - (gQ t r false true 0 0)) dX3_kick_78  (rfl) 79 rfl ?_
  refine r_last (J := xSt F V0 [(o 0, .inr (2, [.ref (o 1), .ref (o 2), .ref (o 3), .ref (o 4), .ref (o 5), .ref (o 6), .ref (o 7), .ref (o 8), .ref (o 9), .ref (o 10), .int ((r 0).toInt32)])), (o 1, .inl (0, 6, .inl (seF t r))), (o 2, .inl (0, 3, .inl (maF r))), (o 3, .inl (0, 3, .inl (plX r))), (o 4, .inl (0, 3, .inl (plY r))), (o 5, .inl (1, 3, .inr (.inl (va_up u1 1 ((r 14) - (gQ t r false true 0 0)))))), (o 6, .inl (1, 3, .inr (.inl u2)))]) hC 1 (xix_n 1 (Nat.le_of_ble_eq_true rfl) (Nat.le_of_ble_eq_true rfl)) (fun _ h => h.get 5 rfl) dX3_kick_79 (fun _ h => h.set 5 _ rfl) 80 rfl ?_
  generalize hu3 : va_up u1 1 ((r 14) - (gQ t r false true 0 0)) = u3
  refine r_aload_n hC 3 dX3_kick_80 rfl 81 rfl ?_
  refine r_get (v := .ref (o 6)) hC kX3 5 rfl q191 (fun _ h => h.get 0 rfl) rfl dX3_kick_81 84 rfl ?_
  refine r_getsN hC hG hzOTH q273 dX3_kick_84 87 rfl ?_
  refine r_iload_n hC 2 dX3_kick_87 rfl 88 rfl ?_
  refine r_ialdT hC htOTH 0 (xix_n 0 (Nat.le_of_ble_eq_true rfl) (Nat.le_of_ble_eq_true rfl)) 1 rfl dX3_kick_88 89 rfl ?_
  refine r_dup2 hC dX3_kick_89 rfl rfl 90 rfl ?_
  refine r_lald hC 1 (xix_n 1 (Nat.le_of_ble_eq_true rfl) (Nat.le_of_ble_eq_true rfl)) (fun _ h => h.get 6 rfl) (moY r 1) (by rw [← hu2]; rfl) dX3_kick_90 91 rfl ?_
  refine r_eql (y := r 15) (rfl) ?_
  refine r_lload hC 0 dX3_kick_91 rfl 93 rfl ?_
  refine r_lsub hC ((r 15) - (gQ t r false true 0 1)) dX3_kick_93  (rfl) 94 rfl ?_
  refine r_last (J := xSt F V0 [(o 0, .inr (2, [.ref (o 1), .ref (o 2), .ref (o 3), .ref (o 4), .ref (o 5), .ref (o 6), .ref (o 7), .ref (o 8), .ref (o 9), .ref (o 10), .int ((r 0).toInt32)])), (o 1, .inl (0, 6, .inl (seF t r))), (o 2, .inl (0, 3, .inl (maF r))), (o 3, .inl (0, 3, .inl (plX r))), (o 4, .inl (0, 3, .inl (plY r))), (o 5, .inl (1, 3, .inr (.inl u3))), (o 6, .inl (1, 3, .inr (.inl (va_up u2 1 ((r 15) - (gQ t r false true 0 1))))))]) hC 1 (xix_n 1 (Nat.le_of_ble_eq_true rfl) (Nat.le_of_ble_eq_true rfl)) (fun _ h => h.get 6 rfl) dX3_kick_94 (fun _ h => h.set 6 _ rfl) 95 rfl ?_
  generalize hu4 : va_up u2 1 ((r 15) - (gQ t r false true 0 1)) = u4
  refine r_iinc hC 1 3 2 [(3, .int 1), (6, .long (gQ t r false true 0 1)), (4, .long (gQ t r false true 0 0)), (0, .ref (o 0)), (1, .int (-1)), (2, .int 1)] dX3_kick_95 rfl (by decide) (Nat.le_of_ble_eq_true rfl) rfl 98 rfl ?_
  refine r_goto hC 2 dX3_kick_98 (by decide) ?_
  refine r_iload_n hC 0 dX3_kick_2 rfl 3 rfl ?_
  refine r_iconst hC 3 dX3_kick_3 ic_3 4 rfl ?_
  refine r_icge hC 101 dX3_kick_4 (by decide) 7 rfl (fun h => absurd h (by decide)) (fun _ => ?_)
  refine r_iload_n hC 4 dX3_kick_7 rfl 8 rfl ?_
  refine r_i2l hC (-1) dX3_kick_8 (by decide) 9 rfl ?_
  refine r_aload_n hC 3 dX3_kick_9 rfl 10 rfl ?_
  refine r_iload_n hC 0 dX3_kick_10 rfl 11 rfl ?_
  refine r_iconst hC 0 dX3_kick_11 ic_0 12 rfl ?_
  refine xCall.r (r := some (.long (impQ t r 1 0))) (r_cV hC kX3 (o 0) [.int 1, .int 0] mVX3_impulse q331 (fun _ h => ⟨_, h.get 0 rfl⟩) (fun V9 h9 => (metX3_impulse0 _ _ hG o t r 1 (Nat.le_of_ble_eq_true rfl) hpl ht hm) V9 (h9.in.sub [0, 1, 2, 3, 4] rfl rfl)) ⟨rfl, rfl⟩ (Nat.le_of_ble_eq_true rfl) (Nat.le_of_ble_eq_true rfl) rfl (Nat.le_of_ble_eq_true rfl) dX3_kick_12) 0 0 15 rfl rfl rfl ?_
  refine r_iload_n hC 5 dX3_kick_15 rfl 16 rfl ?_
  refine r_i2l hC 1 dX3_kick_16 (by decide) 17 rfl ?_
  refine r_ldiv hC ((impQ t r 1 0) / 1) dX3_kick_17 (by decide) (rfl) 18 rfl ?_
  refine r_lmul hC ((-1) * ((impQ t r 1 0) / 1)) dX3_kick_18  (rfl) 19 rfl ?_
  refine r_eql (y := gQ t r false true 1 0) (g01 _) ?_
  refine r_lstore hC 4 [(4, .long (gQ t r false true 1 0)), (3, .int 1), (6, .long (gQ t r false true 0 1)), (0, .ref (o 0)), (1, .int (-1)), (2, .int 1)] dX3_kick_19 (Nat.le_of_ble_eq_true rfl) rfl 21 rfl ?_
  refine r_iload_n hC 4 dX3_kick_21 rfl 22 rfl ?_
  refine r_i2l hC (-1) dX3_kick_22 (by decide) 23 rfl ?_
  refine r_aload_n hC 3 dX3_kick_23 rfl 24 rfl ?_
  refine r_iload_n hC 1 dX3_kick_24 rfl 25 rfl ?_
  refine r_iconst hC 1 dX3_kick_25 ic_1 26 rfl ?_
  refine xCall.r (r := some (.long (impQ t r 1 1))) (r_cV hC kX3 (o 0) [.int 1, .int 1] mVX3_impulse q331 (fun _ h => ⟨_, h.get 0 rfl⟩) (fun V9 h9 => (metX3_impulse1 _ _ hG o t r 1 (Nat.le_of_ble_eq_true rfl) hpl ht hm) V9 (h9.in.sub [0, 1, 2, 3, 4] rfl rfl)) ⟨rfl, rfl⟩ (Nat.le_of_ble_eq_true rfl) (Nat.le_of_ble_eq_true rfl) rfl (Nat.le_of_ble_eq_true rfl) dX3_kick_26) 0 0 29 rfl rfl rfl ?_
  refine r_iload_n hC 5 dX3_kick_29 rfl 30 rfl ?_
  refine r_i2l hC 1 dX3_kick_30 (by decide) 31 rfl ?_
  refine r_ldiv hC ((impQ t r 1 1) / 1) dX3_kick_31 (by decide) (rfl) 32 rfl ?_
  refine r_lmul hC ((-1) * ((impQ t r 1 1) / 1)) dX3_kick_32  (rfl) 33 rfl ?_
  refine r_eql (y := gQ t r false true 1 1) (g01 _) ?_
  refine r_lstore hC 6 [(6, .long (gQ t r false true 1 1)), (4, .long (gQ t r false true 1 0)), (3, .int 1), (0, .ref (o 0)), (1, .int (-1)), (2, .int 1)] dX3_kick_33 (Nat.le_of_ble_eq_true rfl) rfl 35 rfl ?_
  refine r_aload_n hC 3 dX3_kick_35 rfl 36 rfl ?_
  refine r_get (v := .ref (o 5)) hC kX3 4 rfl q188 (fun _ h => h.get 0 rfl) rfl dX3_kick_36 39 rfl ?_
  refine r_getsN hC hG hzONE q271 dX3_kick_39 42 rfl ?_
  refine r_iload_n hC 2 dX3_kick_42 rfl 43 rfl ?_
  refine r_ialdT hC htONE 1 (xix_n 1 (Nat.le_of_ble_eq_true rfl) (Nat.le_of_ble_eq_true rfl)) 0 rfl dX3_kick_43 44 rfl ?_
  refine r_dup2 hC dX3_kick_44 rfl rfl 45 rfl ?_
  refine r_lald hC 0 (xix_n 0 (Nat.le_of_ble_eq_true rfl) (Nat.le_of_ble_eq_true rfl)) (fun _ h => h.get 5 rfl) ((r 9) + (gQ t r false true 0 0)) (by rw [← hu3, ← hu1]; rfl) dX3_kick_45 46 rfl ?_
  refine r_lload hC 1 dX3_kick_46 rfl 48 rfl ?_
  refine r_ladd hC (((r 9) + (gQ t r false true 0 0)) + (gQ t r false true 1 0)) dX3_kick_48  (rfl) 49 rfl ?_
  refine r_last (J := xSt F V0 [(o 0, .inr (2, [.ref (o 1), .ref (o 2), .ref (o 3), .ref (o 4), .ref (o 5), .ref (o 6), .ref (o 7), .ref (o 8), .ref (o 9), .ref (o 10), .int ((r 0).toInt32)])), (o 1, .inl (0, 6, .inl (seF t r))), (o 2, .inl (0, 3, .inl (maF r))), (o 3, .inl (0, 3, .inl (plX r))), (o 4, .inl (0, 3, .inl (plY r))), (o 5, .inl (1, 3, .inr (.inl (va_up u3 0 (((r 9) + (gQ t r false true 0 0)) + (gQ t r false true 1 0)))))), (o 6, .inl (1, 3, .inr (.inl u4)))]) hC 0 (xix_n 0 (Nat.le_of_ble_eq_true rfl) (Nat.le_of_ble_eq_true rfl)) (fun _ h => h.get 5 rfl) dX3_kick_49 (fun _ h => h.set 5 _ rfl) 50 rfl ?_
  generalize hu5 : va_up u3 0 (((r 9) + (gQ t r false true 0 0)) + (gQ t r false true 1 0)) = u5
  refine r_aload_n hC 3 dX3_kick_50 rfl 51 rfl ?_
  refine r_get (v := .ref (o 6)) hC kX3 5 rfl q191 (fun _ h => h.get 0 rfl) rfl dX3_kick_51 54 rfl ?_
  refine r_getsN hC hG hzONE q271 dX3_kick_54 57 rfl ?_
  refine r_iload_n hC 2 dX3_kick_57 rfl 58 rfl ?_
  refine r_ialdT hC htONE 1 (xix_n 1 (Nat.le_of_ble_eq_true rfl) (Nat.le_of_ble_eq_true rfl)) 0 rfl dX3_kick_58 59 rfl ?_
  refine r_dup2 hC dX3_kick_59 rfl rfl 60 rfl ?_
  refine r_lald hC 0 (xix_n 0 (Nat.le_of_ble_eq_true rfl) (Nat.le_of_ble_eq_true rfl)) (fun _ h => h.get 6 rfl) ((r 10) + (gQ t r false true 0 1)) (by rw [← hu4, ← hu2]; rfl) dX3_kick_60 61 rfl ?_
  refine r_lload hC 0 dX3_kick_61 rfl 63 rfl ?_
  refine r_ladd hC (((r 10) + (gQ t r false true 0 1)) + (gQ t r false true 1 1)) dX3_kick_63  (rfl) 64 rfl ?_
  refine r_last (J := xSt F V0 [(o 0, .inr (2, [.ref (o 1), .ref (o 2), .ref (o 3), .ref (o 4), .ref (o 5), .ref (o 6), .ref (o 7), .ref (o 8), .ref (o 9), .ref (o 10), .int ((r 0).toInt32)])), (o 1, .inl (0, 6, .inl (seF t r))), (o 2, .inl (0, 3, .inl (maF r))), (o 3, .inl (0, 3, .inl (plX r))), (o 4, .inl (0, 3, .inl (plY r))), (o 5, .inl (1, 3, .inr (.inl u5))), (o 6, .inl (1, 3, .inr (.inl (va_up u4 0 (((r 10) + (gQ t r false true 0 1)) + (gQ t r false true 1 1))))))]) hC 0 (xix_n 0 (Nat.le_of_ble_eq_true rfl) (Nat.le_of_ble_eq_true rfl)) (fun _ h => h.get 6 rfl) dX3_kick_64 (fun _ h => h.set 6 _ rfl) 65 rfl ?_
  generalize hu6 : va_up u4 0 (((r 10) + (gQ t r false true 0 1)) + (gQ t r false true 1 1)) = u6
  refine r_aload_n hC 3 dX3_kick_65 rfl 66 rfl ?_
  refine r_get (v := .ref (o 5)) hC kX3 4 rfl q188 (fun _ h => h.get 0 rfl) rfl dX3_kick_66 69 rfl ?_
  refine r_getsN hC hG hzOTH q273 dX3_kick_69 72 rfl ?_
  refine r_iload_n hC 2 dX3_kick_72 rfl 73 rfl ?_
  refine r_ialdT hC htOTH 1 (xix_n 1 (Nat.le_of_ble_eq_true rfl) (Nat.le_of_ble_eq_true rfl)) 2 rfl dX3_kick_73 74 rfl ?_
  refine r_dup2 hC dX3_kick_74 rfl rfl 75 rfl ?_
  refine r_lald hC 2 (xix_n 2 (Nat.le_of_ble_eq_true rfl) (Nat.le_of_ble_eq_true rfl)) (fun _ h => h.get 5 rfl) (moX r 2) (by rw [← hu5, ← hu3, ← hu1]; rfl) dX3_kick_75 76 rfl ?_
  refine r_eql (y := r 19) (rfl) ?_
  refine r_lload hC 1 dX3_kick_76 rfl 78 rfl ?_
  refine r_lsub hC ((r 19) - (gQ t r false true 1 0)) dX3_kick_78  (rfl) 79 rfl ?_
  refine r_last (J := xSt F V0 [(o 0, .inr (2, [.ref (o 1), .ref (o 2), .ref (o 3), .ref (o 4), .ref (o 5), .ref (o 6), .ref (o 7), .ref (o 8), .ref (o 9), .ref (o 10), .int ((r 0).toInt32)])), (o 1, .inl (0, 6, .inl (seF t r))), (o 2, .inl (0, 3, .inl (maF r))), (o 3, .inl (0, 3, .inl (plX r))), (o 4, .inl (0, 3, .inl (plY r))), (o 5, .inl (1, 3, .inr (.inl (va_up u5 2 ((r 19) - (gQ t r false true 1 0)))))), (o 6, .inl (1, 3, .inr (.inl u6)))]) hC 2 (xix_n 2 (Nat.le_of_ble_eq_true rfl) (Nat.le_of_ble_eq_true rfl)) (fun _ h => h.get 5 rfl) dX3_kick_79 (fun _ h => h.set 5 _ rfl) 80 rfl ?_
  generalize hu7 : va_up u5 2 ((r 19) - (gQ t r false true 1 0)) = u7
  refine r_aload_n hC 3 dX3_kick_80 rfl 81 rfl ?_
  refine r_get (v := .ref (o 6)) hC kX3 5 rfl q191 (fun _ h => h.get 0 rfl) rfl dX3_kick_81 84 rfl ?_
  refine r_getsN hC hG hzOTH q273 dX3_kick_84 87 rfl ?_
  refine r_iload_n hC 2 dX3_kick_87 rfl 88 rfl ?_
  refine r_ialdT hC htOTH 1 (xix_n 1 (Nat.le_of_ble_eq_true rfl) (Nat.le_of_ble_eq_true rfl)) 2 rfl dX3_kick_88 89 rfl ?_
  refine r_dup2 hC dX3_kick_89 rfl rfl 90 rfl ?_
  refine r_lald hC 2 (xix_n 2 (Nat.le_of_ble_eq_true rfl) (Nat.le_of_ble_eq_true rfl)) (fun _ h => h.get 6 rfl) (moY r 2) (by rw [← hu6, ← hu4, ← hu2]; rfl) dX3_kick_90 91 rfl ?_
  refine r_eql (y := r 20) (rfl) ?_
  refine r_lload hC 0 dX3_kick_91 rfl 93 rfl ?_
  refine r_lsub hC ((r 20) - (gQ t r false true 1 1)) dX3_kick_93  (rfl) 94 rfl ?_
  refine r_last (J := xSt F V0 [(o 0, .inr (2, [.ref (o 1), .ref (o 2), .ref (o 3), .ref (o 4), .ref (o 5), .ref (o 6), .ref (o 7), .ref (o 8), .ref (o 9), .ref (o 10), .int ((r 0).toInt32)])), (o 1, .inl (0, 6, .inl (seF t r))), (o 2, .inl (0, 3, .inl (maF r))), (o 3, .inl (0, 3, .inl (plX r))), (o 4, .inl (0, 3, .inl (plY r))), (o 5, .inl (1, 3, .inr (.inl u7))), (o 6, .inl (1, 3, .inr (.inl (va_up u6 2 ((r 20) - (gQ t r false true 1 1))))))]) hC 2 (xix_n 2 (Nat.le_of_ble_eq_true rfl) (Nat.le_of_ble_eq_true rfl)) (fun _ h => h.get 6 rfl) dX3_kick_94 (fun _ h => h.set 6 _ rfl) 95 rfl ?_
  generalize hu8 : va_up u6 2 ((r 20) - (gQ t r false true 1 1)) = u8
  refine r_iinc hC 2 3 2 [(3, .int 2), (6, .long (gQ t r false true 1 1)), (4, .long (gQ t r false true 1 0)), (0, .ref (o 0)), (1, .int (-1)), (2, .int 1)] dX3_kick_95 rfl (by decide) (Nat.le_of_ble_eq_true rfl) rfl 98 rfl ?_
  refine r_goto hC 2 dX3_kick_98 (by decide) ?_
  refine r_iload_n hC 0 dX3_kick_2 rfl 3 rfl ?_
  refine r_iconst hC 3 dX3_kick_3 ic_3 4 rfl ?_
  refine r_icge hC 101 dX3_kick_4 (by decide) 7 rfl (fun h => absurd h (by decide)) (fun _ => ?_)
  refine r_iload_n hC 4 dX3_kick_7 rfl 8 rfl ?_
  refine r_i2l hC (-1) dX3_kick_8 (by decide) 9 rfl ?_
  refine r_aload_n hC 3 dX3_kick_9 rfl 10 rfl ?_
  refine r_iload_n hC 0 dX3_kick_10 rfl 11 rfl ?_
  refine r_iconst hC 0 dX3_kick_11 ic_0 12 rfl ?_
  refine xCall.r (r := some (.long (impQ t r 2 0))) (r_cV hC kX3 (o 0) [.int 2, .int 0] mVX3_impulse q331 (fun _ h => ⟨_, h.get 0 rfl⟩) (fun V9 h9 => (metX3_impulse0 _ _ hG o t r 2 (Nat.le_of_ble_eq_true rfl) hpl ht hm) V9 (h9.in.sub [0, 1, 2, 3, 4] rfl rfl)) ⟨rfl, rfl⟩ (Nat.le_of_ble_eq_true rfl) (Nat.le_of_ble_eq_true rfl) rfl (Nat.le_of_ble_eq_true rfl) dX3_kick_12) 0 0 15 rfl rfl rfl ?_
  refine r_iload_n hC 5 dX3_kick_15 rfl 16 rfl ?_
  refine r_i2l hC 1 dX3_kick_16 (by decide) 17 rfl ?_
  refine r_ldiv hC ((impQ t r 2 0) / 1) dX3_kick_17 (by decide) (rfl) 18 rfl ?_
  refine r_lmul hC ((-1) * ((impQ t r 2 0) / 1)) dX3_kick_18  (rfl) 19 rfl ?_
  refine r_eql (y := gQ t r false true 2 0) (g01 _) ?_
  refine r_lstore hC 4 [(4, .long (gQ t r false true 2 0)), (3, .int 2), (6, .long (gQ t r false true 1 1)), (0, .ref (o 0)), (1, .int (-1)), (2, .int 1)] dX3_kick_19 (Nat.le_of_ble_eq_true rfl) rfl 21 rfl ?_
  refine r_iload_n hC 4 dX3_kick_21 rfl 22 rfl ?_
  refine r_i2l hC (-1) dX3_kick_22 (by decide) 23 rfl ?_
  refine r_aload_n hC 3 dX3_kick_23 rfl 24 rfl ?_
  refine r_iload_n hC 1 dX3_kick_24 rfl 25 rfl ?_
  refine r_iconst hC 1 dX3_kick_25 ic_1 26 rfl ?_
  refine xCall.r (r := some (.long (impQ t r 2 1))) (r_cV hC kX3 (o 0) [.int 2, .int 1] mVX3_impulse q331 (fun _ h => ⟨_, h.get 0 rfl⟩) (fun V9 h9 => (metX3_impulse1 _ _ hG o t r 2 (Nat.le_of_ble_eq_true rfl) hpl ht hm) V9 (h9.in.sub [0, 1, 2, 3, 4] rfl rfl)) ⟨rfl, rfl⟩ (Nat.le_of_ble_eq_true rfl) (Nat.le_of_ble_eq_true rfl) rfl (Nat.le_of_ble_eq_true rfl) dX3_kick_26) 0 0 29 rfl rfl rfl ?_
  refine r_iload_n hC 5 dX3_kick_29 rfl 30 rfl ?_
  refine r_i2l hC 1 dX3_kick_30 (by decide) 31 rfl ?_
  refine r_ldiv hC ((impQ t r 2 1) / 1) dX3_kick_31 (by decide) (rfl) 32 rfl ?_
  refine r_lmul hC ((-1) * ((impQ t r 2 1) / 1)) dX3_kick_32  (rfl) 33 rfl ?_
  refine r_eql (y := gQ t r false true 2 1) (g01 _) ?_
  refine r_lstore hC 6 [(6, .long (gQ t r false true 2 1)), (4, .long (gQ t r false true 2 0)), (3, .int 2), (0, .ref (o 0)), (1, .int (-1)), (2, .int 1)] dX3_kick_33 (Nat.le_of_ble_eq_true rfl) rfl 35 rfl ?_
  refine r_aload_n hC 3 dX3_kick_35 rfl 36 rfl ?_
  refine r_get (v := .ref (o 5)) hC kX3 4 rfl q188 (fun _ h => h.get 0 rfl) rfl dX3_kick_36 39 rfl ?_
  refine r_getsN hC hG hzONE q271 dX3_kick_39 42 rfl ?_
  refine r_iload_n hC 2 dX3_kick_42 rfl 43 rfl ?_
  refine r_ialdT hC htONE 2 (xix_n 2 (Nat.le_of_ble_eq_true rfl) (Nat.le_of_ble_eq_true rfl)) 1 rfl dX3_kick_43 44 rfl ?_
  refine r_dup2 hC dX3_kick_44 rfl rfl 45 rfl ?_
  refine r_lald hC 1 (xix_n 1 (Nat.le_of_ble_eq_true rfl) (Nat.le_of_ble_eq_true rfl)) (fun _ h => h.get 5 rfl) ((r 14) - (gQ t r false true 0 0)) (by rw [← hu7, ← hu5, ← hu3]; rfl) dX3_kick_45 46 rfl ?_
  refine r_lload hC 1 dX3_kick_46 rfl 48 rfl ?_
  refine r_ladd hC (((r 14) - (gQ t r false true 0 0)) + (gQ t r false true 2 0)) dX3_kick_48  (rfl) 49 rfl ?_
  refine r_last (J := xSt F V0 [(o 0, .inr (2, [.ref (o 1), .ref (o 2), .ref (o 3), .ref (o 4), .ref (o 5), .ref (o 6), .ref (o 7), .ref (o 8), .ref (o 9), .ref (o 10), .int ((r 0).toInt32)])), (o 1, .inl (0, 6, .inl (seF t r))), (o 2, .inl (0, 3, .inl (maF r))), (o 3, .inl (0, 3, .inl (plX r))), (o 4, .inl (0, 3, .inl (plY r))), (o 5, .inl (1, 3, .inr (.inl (va_up u7 1 (((r 14) - (gQ t r false true 0 0)) + (gQ t r false true 2 0)))))), (o 6, .inl (1, 3, .inr (.inl u8)))]) hC 1 (xix_n 1 (Nat.le_of_ble_eq_true rfl) (Nat.le_of_ble_eq_true rfl)) (fun _ h => h.get 5 rfl) dX3_kick_49 (fun _ h => h.set 5 _ rfl) 50 rfl ?_
  generalize hu9 : va_up u7 1 (((r 14) - (gQ t r false true 0 0)) + (gQ t r false true 2 0)) = u9
  refine r_aload_n hC 3 dX3_kick_50 rfl 51 rfl ?_
  refine r_get (v := .ref (o 6)) hC kX3 5 rfl q191 (fun _ h => h.get 0 rfl) rfl dX3_kick_51 54 rfl ?_
  refine r_getsN hC hG hzONE q271 dX3_kick_54 57 rfl ?_
  refine r_iload_n hC 2 dX3_kick_57 rfl 58 rfl ?_
  refine r_ialdT hC htONE 2 (xix_n 2 (Nat.le_of_ble_eq_true rfl) (Nat.le_of_ble_eq_true rfl)) 1 rfl dX3_kick_58 59 rfl ?_
  refine r_dup2 hC dX3_kick_59 rfl rfl 60 rfl ?_
  refine r_lald hC 1 (xix_n 1 (Nat.le_of_ble_eq_true rfl) (Nat.le_of_ble_eq_true rfl)) (fun _ h => h.get 6 rfl) ((r 15) - (gQ t r false true 0 1)) (by rw [← hu8, ← hu6, ← hu4]; rfl) dX3_kick_60 61 rfl ?_
  refine r_lload hC 0 dX3_kick_61 rfl 63 rfl ?_
  refine r_ladd hC (((r 15) - (gQ t r false true 0 1)) + (gQ t r false true 2 1)) dX3_kick_63  (rfl) 64 rfl ?_
  refine r_last (J := xSt F V0 [(o 0, .inr (2, [.ref (o 1), .ref (o 2), .ref (o 3), .ref (o 4), .ref (o 5), .ref (o 6), .ref (o 7), .ref (o 8), .ref (o 9), .ref (o 10), .int ((r 0).toInt32)])), (o 1, .inl (0, 6, .inl (seF t r))), (o 2, .inl (0, 3, .inl (maF r))), (o 3, .inl (0, 3, .inl (plX r))), (o 4, .inl (0, 3, .inl (plY r))), (o 5, .inl (1, 3, .inr (.inl u9))), (o 6, .inl (1, 3, .inr (.inl (va_up u8 1 (((r 15) - (gQ t r false true 0 1)) + (gQ t r false true 2 1))))))]) hC 1 (xix_n 1 (Nat.le_of_ble_eq_true rfl) (Nat.le_of_ble_eq_true rfl)) (fun _ h => h.get 6 rfl) dX3_kick_64 (fun _ h => h.set 6 _ rfl) 65 rfl ?_
  generalize hu10 : va_up u8 1 (((r 15) - (gQ t r false true 0 1)) + (gQ t r false true 2 1)) = u10
  refine r_aload_n hC 3 dX3_kick_65 rfl 66 rfl ?_
  refine r_get (v := .ref (o 5)) hC kX3 4 rfl q188 (fun _ h => h.get 0 rfl) rfl dX3_kick_66 69 rfl ?_
  refine r_getsN hC hG hzOTH q273 dX3_kick_69 72 rfl ?_
  refine r_iload_n hC 2 dX3_kick_72 rfl 73 rfl ?_
  refine r_ialdT hC htOTH 2 (xix_n 2 (Nat.le_of_ble_eq_true rfl) (Nat.le_of_ble_eq_true rfl)) 2 rfl dX3_kick_73 74 rfl ?_
  refine r_dup2 hC dX3_kick_74 rfl rfl 75 rfl ?_
  refine r_lald hC 2 (xix_n 2 (Nat.le_of_ble_eq_true rfl) (Nat.le_of_ble_eq_true rfl)) (fun _ h => h.get 5 rfl) ((r 19) - (gQ t r false true 1 0)) (by rw [← hu9, ← hu7]; rfl) dX3_kick_75 76 rfl ?_
  refine r_lload hC 1 dX3_kick_76 rfl 78 rfl ?_
  refine r_lsub hC (((r 19) - (gQ t r false true 1 0)) - (gQ t r false true 2 0)) dX3_kick_78  (rfl) 79 rfl ?_
  refine r_last (J := xSt F V0 [(o 0, .inr (2, [.ref (o 1), .ref (o 2), .ref (o 3), .ref (o 4), .ref (o 5), .ref (o 6), .ref (o 7), .ref (o 8), .ref (o 9), .ref (o 10), .int ((r 0).toInt32)])), (o 1, .inl (0, 6, .inl (seF t r))), (o 2, .inl (0, 3, .inl (maF r))), (o 3, .inl (0, 3, .inl (plX r))), (o 4, .inl (0, 3, .inl (plY r))), (o 5, .inl (1, 3, .inr (.inl (va_up u9 2 (((r 19) - (gQ t r false true 1 0)) - (gQ t r false true 2 0)))))), (o 6, .inl (1, 3, .inr (.inl u10)))]) hC 2 (xix_n 2 (Nat.le_of_ble_eq_true rfl) (Nat.le_of_ble_eq_true rfl)) (fun _ h => h.get 5 rfl) dX3_kick_79 (fun _ h => h.set 5 _ rfl) 80 rfl ?_
  generalize hu11 : va_up u9 2 (((r 19) - (gQ t r false true 1 0)) - (gQ t r false true 2 0)) = u11
  refine r_aload_n hC 3 dX3_kick_80 rfl 81 rfl ?_
  refine r_get (v := .ref (o 6)) hC kX3 5 rfl q191 (fun _ h => h.get 0 rfl) rfl dX3_kick_81 84 rfl ?_
  refine r_getsN hC hG hzOTH q273 dX3_kick_84 87 rfl ?_
  refine r_iload_n hC 2 dX3_kick_87 rfl 88 rfl ?_
  refine r_ialdT hC htOTH 2 (xix_n 2 (Nat.le_of_ble_eq_true rfl) (Nat.le_of_ble_eq_true rfl)) 2 rfl dX3_kick_88 89 rfl ?_
  refine r_dup2 hC dX3_kick_89 rfl rfl 90 rfl ?_
  refine r_lald hC 2 (xix_n 2 (Nat.le_of_ble_eq_true rfl) (Nat.le_of_ble_eq_true rfl)) (fun _ h => h.get 6 rfl) ((r 20) - (gQ t r false true 1 1)) (by rw [← hu10, ← hu8]; rfl) dX3_kick_90 91 rfl ?_
  refine r_lload hC 0 dX3_kick_91 rfl 93 rfl ?_
  refine r_lsub hC (((r 20) - (gQ t r false true 1 1)) - (gQ t r false true 2 1)) dX3_kick_93  (rfl) 94 rfl ?_
  refine r_last (J := xSt F V0 [(o 0, .inr (2, [.ref (o 1), .ref (o 2), .ref (o 3), .ref (o 4), .ref (o 5), .ref (o 6), .ref (o 7), .ref (o 8), .ref (o 9), .ref (o 10), .int ((r 0).toInt32)])), (o 1, .inl (0, 6, .inl (seF t r))), (o 2, .inl (0, 3, .inl (maF r))), (o 3, .inl (0, 3, .inl (plX r))), (o 4, .inl (0, 3, .inl (plY r))), (o 5, .inl (1, 3, .inr (.inl u11))), (o 6, .inl (1, 3, .inr (.inl (va_up u10 2 (((r 20) - (gQ t r false true 1 1)) - (gQ t r false true 2 1))))))]) hC 2 (xix_n 2 (Nat.le_of_ble_eq_true rfl) (Nat.le_of_ble_eq_true rfl)) (fun _ h => h.get 6 rfl) dX3_kick_94 (fun _ h => h.set 6 _ rfl) 95 rfl ?_
  generalize hu12 : va_up u10 2 (((r 20) - (gQ t r false true 1 1)) - (gQ t r false true 2 1)) = u12
  refine r_iinc hC 3 3 2 [(3, .int 3), (6, .long (gQ t r false true 2 1)), (4, .long (gQ t r false true 2 0)), (0, .ref (o 0)), (1, .int (-1)), (2, .int 1)] dX3_kick_95 rfl (by decide) (Nat.le_of_ble_eq_true rfl) rfl 98 rfl ?_
  refine r_goto hC 2 dX3_kick_98 (by decide) ?_
  refine r_iload_n hC 0 dX3_kick_2 rfl 3 rfl ?_
  refine r_iconst hC 3 dX3_kick_3 ic_3 4 rfl ?_
  refine r_icge hC 101 dX3_kick_4 (by decide) 7 rfl (fun _ => ?_) (fun h => absurd h (by decide))
  refine r_iconst hC 0 dX3_kick_101 ic_0 102 rfl ?_
  refine r_istore_n hC 3 [(3, .int 0), (6, .long (gQ t r false true 2 1)), (4, .long (gQ t r false true 2 0)), (0, .ref (o 0)), (1, .int (-1)), (2, .int 1)] dX3_kick_102 rfl (Nat.le_of_ble_eq_true rfl) rfl 103 rfl ?_
  refine r_iload_n hC 0 dX3_kick_103 rfl 104 rfl ?_
  refine r_iconst hC 3 dX3_kick_104 ic_3 105 rfl ?_
  refine r_icge hC 138 dX3_kick_105 (by decide) 108 rfl (fun h => absurd h (by decide)) (fun _ => ?_)
  refine r_aload_n hC 3 dX3_kick_108 rfl 109 rfl ?_
  refine r_get (v := .ref (o 5)) hC kX3 4 rfl q188 (fun _ h => h.get 0 rfl) rfl dX3_kick_109 112 rfl ?_
  refine r_iload_n hC 0 dX3_kick_112 rfl 113 rfl ?_
  refine r_lald hC 0 (xix_n 0 (Nat.le_of_ble_eq_true rfl) (Nat.le_of_ble_eq_true rfl)) (fun _ h => h.get 5 rfl) (((r 9) + (gQ t r false true 0 0)) + (gQ t r false true 1 0)) (by rw [← hu11, ← hu9, ← hu7, ← hu5]; rfl) dX3_kick_113 114 rfl ?_
  refine r_ldc2 hC q335 dX3_kick_114 117 rfl ?_
  have hk13 : m_in (((r 9) + (gQ t r false true 0 0)) + (gQ t r false true 1 0)) (-1000000000) 1000000000 = true := by have h9 := in_y9 hin; rw [kkq_9] at h9; exact h9
  refine xCall.r (r := none) (r_cS hC [.long (((r 9) + (gQ t r false true 0 0)) + (gQ t r false true 1 0)), .long 1000000000] mSX3_check q336 (fun V9 h9 => (metX3_checkG _ _ hG (((r 9) + (gQ t r false true 0 0)) + (gQ t r false true 1 0)) 1000000000 hk13) V9 xIn.nil) ⟨rfl, rfl⟩ (Nat.le_of_ble_eq_true rfl) (Nat.le_of_ble_eq_true rfl) rfl (Nat.le_of_ble_eq_true rfl) dX3_kick_117) 0 0 120 rfl rfl rfl ?_
  refine r_aload_n hC 3 dX3_kick_120 rfl 121 rfl ?_
  refine r_get (v := .ref (o 6)) hC kX3 5 rfl q191 (fun _ h => h.get 0 rfl) rfl dX3_kick_121 124 rfl ?_
  refine r_iload_n hC 0 dX3_kick_124 rfl 125 rfl ?_
  refine r_lald hC 0 (xix_n 0 (Nat.le_of_ble_eq_true rfl) (Nat.le_of_ble_eq_true rfl)) (fun _ h => h.get 6 rfl) (((r 10) + (gQ t r false true 0 1)) + (gQ t r false true 1 1)) (by rw [← hu12, ← hu10, ← hu8, ← hu6]; rfl) dX3_kick_125 126 rfl ?_
  refine r_ldc2 hC q335 dX3_kick_126 129 rfl ?_
  have hk14 : m_in (((r 10) + (gQ t r false true 0 1)) + (gQ t r false true 1 1)) (-1000000000) 1000000000 = true := by have h9 := in_y10 hin; rw [kkq_10] at h9; exact h9
  refine xCall.r (r := none) (r_cS hC [.long (((r 10) + (gQ t r false true 0 1)) + (gQ t r false true 1 1)), .long 1000000000] mSX3_check q336 (fun V9 h9 => (metX3_checkG _ _ hG (((r 10) + (gQ t r false true 0 1)) + (gQ t r false true 1 1)) 1000000000 hk14) V9 xIn.nil) ⟨rfl, rfl⟩ (Nat.le_of_ble_eq_true rfl) (Nat.le_of_ble_eq_true rfl) rfl (Nat.le_of_ble_eq_true rfl) dX3_kick_129) 0 0 132 rfl rfl rfl ?_
  refine r_iinc hC 1 3 0 [(3, .int 1), (6, .long (gQ t r false true 2 1)), (4, .long (gQ t r false true 2 0)), (0, .ref (o 0)), (1, .int (-1)), (2, .int 1)] dX3_kick_132 rfl (by decide) (Nat.le_of_ble_eq_true rfl) rfl 135 rfl ?_
  refine r_goto hC 103 dX3_kick_135 (by decide) ?_
  refine r_iload_n hC 0 dX3_kick_103 rfl 104 rfl ?_
  refine r_iconst hC 3 dX3_kick_104 ic_3 105 rfl ?_
  refine r_icge hC 138 dX3_kick_105 (by decide) 108 rfl (fun h => absurd h (by decide)) (fun _ => ?_)
  refine r_aload_n hC 3 dX3_kick_108 rfl 109 rfl ?_
  refine r_get (v := .ref (o 5)) hC kX3 4 rfl q188 (fun _ h => h.get 0 rfl) rfl dX3_kick_109 112 rfl ?_
  refine r_iload_n hC 0 dX3_kick_112 rfl 113 rfl ?_
  refine r_lald hC 1 (xix_n 1 (Nat.le_of_ble_eq_true rfl) (Nat.le_of_ble_eq_true rfl)) (fun _ h => h.get 5 rfl) (((r 14) - (gQ t r false true 0 0)) + (gQ t r false true 2 0)) (by rw [← hu11, ← hu9]; rfl) dX3_kick_113 114 rfl ?_
  refine r_ldc2 hC q335 dX3_kick_114 117 rfl ?_
  have hk15 : m_in (((r 14) - (gQ t r false true 0 0)) + (gQ t r false true 2 0)) (-1000000000) 1000000000 = true := by have h9 := in_y14 hin; rw [kkq_14] at h9; exact h9
  refine xCall.r (r := none) (r_cS hC [.long (((r 14) - (gQ t r false true 0 0)) + (gQ t r false true 2 0)), .long 1000000000] mSX3_check q336 (fun V9 h9 => (metX3_checkG _ _ hG (((r 14) - (gQ t r false true 0 0)) + (gQ t r false true 2 0)) 1000000000 hk15) V9 xIn.nil) ⟨rfl, rfl⟩ (Nat.le_of_ble_eq_true rfl) (Nat.le_of_ble_eq_true rfl) rfl (Nat.le_of_ble_eq_true rfl) dX3_kick_117) 0 0 120 rfl rfl rfl ?_
  refine r_aload_n hC 3 dX3_kick_120 rfl 121 rfl ?_
  refine r_get (v := .ref (o 6)) hC kX3 5 rfl q191 (fun _ h => h.get 0 rfl) rfl dX3_kick_121 124 rfl ?_
  refine r_iload_n hC 0 dX3_kick_124 rfl 125 rfl ?_
  refine r_lald hC 1 (xix_n 1 (Nat.le_of_ble_eq_true rfl) (Nat.le_of_ble_eq_true rfl)) (fun _ h => h.get 6 rfl) (((r 15) - (gQ t r false true 0 1)) + (gQ t r false true 2 1)) (by rw [← hu12, ← hu10]; rfl) dX3_kick_125 126 rfl ?_
  refine r_ldc2 hC q335 dX3_kick_126 129 rfl ?_
  have hk16 : m_in (((r 15) - (gQ t r false true 0 1)) + (gQ t r false true 2 1)) (-1000000000) 1000000000 = true := by have h9 := in_y15 hin; rw [kkq_15] at h9; exact h9
  refine xCall.r (r := none) (r_cS hC [.long (((r 15) - (gQ t r false true 0 1)) + (gQ t r false true 2 1)), .long 1000000000] mSX3_check q336 (fun V9 h9 => (metX3_checkG _ _ hG (((r 15) - (gQ t r false true 0 1)) + (gQ t r false true 2 1)) 1000000000 hk16) V9 xIn.nil) ⟨rfl, rfl⟩ (Nat.le_of_ble_eq_true rfl) (Nat.le_of_ble_eq_true rfl) rfl (Nat.le_of_ble_eq_true rfl) dX3_kick_129) 0 0 132 rfl rfl rfl ?_
  refine r_iinc hC 2 3 0 [(3, .int 2), (6, .long (gQ t r false true 2 1)), (4, .long (gQ t r false true 2 0)), (0, .ref (o 0)), (1, .int (-1)), (2, .int 1)] dX3_kick_132 rfl (by decide) (Nat.le_of_ble_eq_true rfl) rfl 135 rfl ?_
  refine r_goto hC 103 dX3_kick_135 (by decide) ?_
  refine r_iload_n hC 0 dX3_kick_103 rfl 104 rfl ?_
  refine r_iconst hC 3 dX3_kick_104 ic_3 105 rfl ?_
  refine r_icge hC 138 dX3_kick_105 (by decide) 108 rfl (fun h => absurd h (by decide)) (fun _ => ?_)
  refine r_aload_n hC 3 dX3_kick_108 rfl 109 rfl ?_
  refine r_get (v := .ref (o 5)) hC kX3 4 rfl q188 (fun _ h => h.get 0 rfl) rfl dX3_kick_109 112 rfl ?_
  refine r_iload_n hC 0 dX3_kick_112 rfl 113 rfl ?_
  refine r_lald hC 2 (xix_n 2 (Nat.le_of_ble_eq_true rfl) (Nat.le_of_ble_eq_true rfl)) (fun _ h => h.get 5 rfl) (((r 19) - (gQ t r false true 1 0)) - (gQ t r false true 2 0)) (by rw [← hu11]; rfl) dX3_kick_113 114 rfl ?_
  refine r_ldc2 hC q335 dX3_kick_114 117 rfl ?_
  have hk17 : m_in (((r 19) - (gQ t r false true 1 0)) - (gQ t r false true 2 0)) (-1000000000) 1000000000 = true := by have h9 := in_y19 hin; rw [kkq_19] at h9; exact h9
  refine xCall.r (r := none) (r_cS hC [.long (((r 19) - (gQ t r false true 1 0)) - (gQ t r false true 2 0)), .long 1000000000] mSX3_check q336 (fun V9 h9 => (metX3_checkG _ _ hG (((r 19) - (gQ t r false true 1 0)) - (gQ t r false true 2 0)) 1000000000 hk17) V9 xIn.nil) ⟨rfl, rfl⟩ (Nat.le_of_ble_eq_true rfl) (Nat.le_of_ble_eq_true rfl) rfl (Nat.le_of_ble_eq_true rfl) dX3_kick_117) 0 0 120 rfl rfl rfl ?_
  refine r_aload_n hC 3 dX3_kick_120 rfl 121 rfl ?_
  refine r_get (v := .ref (o 6)) hC kX3 5 rfl q191 (fun _ h => h.get 0 rfl) rfl dX3_kick_121 124 rfl ?_
  refine r_iload_n hC 0 dX3_kick_124 rfl 125 rfl ?_
  refine r_lald hC 2 (xix_n 2 (Nat.le_of_ble_eq_true rfl) (Nat.le_of_ble_eq_true rfl)) (fun _ h => h.get 6 rfl) (((r 20) - (gQ t r false true 1 1)) - (gQ t r false true 2 1)) (by rw [← hu12]; rfl) dX3_kick_125 126 rfl ?_
  refine r_ldc2 hC q335 dX3_kick_126 129 rfl ?_
  have hk18 : m_in (((r 20) - (gQ t r false true 1 1)) - (gQ t r false true 2 1)) (-1000000000) 1000000000 = true := by have h9 := in_y20 hin; rw [kkq_20] at h9; exact h9
  refine xCall.r (r := none) (r_cS hC [.long (((r 20) - (gQ t r false true 1 1)) - (gQ t r false true 2 1)), .long 1000000000] mSX3_check q336 (fun V9 h9 => (metX3_checkG _ _ hG (((r 20) - (gQ t r false true 1 1)) - (gQ t r false true 2 1)) 1000000000 hk18) V9 xIn.nil) ⟨rfl, rfl⟩ (Nat.le_of_ble_eq_true rfl) (Nat.le_of_ble_eq_true rfl) rfl (Nat.le_of_ble_eq_true rfl) dX3_kick_129) 0 0 132 rfl rfl rfl ?_
  refine r_iinc hC 3 3 0 [(3, .int 3), (6, .long (gQ t r false true 2 1)), (4, .long (gQ t r false true 2 0)), (0, .ref (o 0)), (1, .int (-1)), (2, .int 1)] dX3_kick_132 rfl (by decide) (Nat.le_of_ble_eq_true rfl) rfl 135 rfl ?_
  refine r_goto hC 103 dX3_kick_135 (by decide) ?_
  refine r_iload_n hC 0 dX3_kick_103 rfl 104 rfl ?_
  refine r_iconst hC 3 dX3_kick_104 ic_3 105 rfl ?_
  refine r_icge hC 138 dX3_kick_105 (by decide) 108 rfl (fun _ => ?_) (fun h => absurd h (by decide))
  subst hu12
  subst hu11
  subst hu10
  subst hu9
  subst hu8
  subst hu7
  subst hu6
  subst hu5
  subst hu4
  subst hu3
  subst hu2
  subst hu1
  refine rn_cellI (J := xSt F V0 [(o 0, .inr (2, [.ref (o 1), .ref (o 2), .ref (o 3), .ref (o 4), .ref (o 5), .ref (o 6), .ref (o 7), .ref (o 8), .ref (o 9), .ref (o 10), .int ((r 0).toInt32)])), (o 1, .inl (0, 6, .inl (seF t r))), (o 2, .inl (0, 3, .inl (maF (kickQ t r false true)))), (o 3, .inl (0, 3, .inl (plX r))), (o 4, .inl (0, 3, .inl (plY r))), (o 5, .inl (1, 3, .inr (.inl (va_up (va_up (va_up (va_up (va_up (va_up (moX r) 0 ((r 9) + (gQ t r false true 0 0))) 1 ((r 14) - (gQ t r false true 0 0))) 0 (((r 9) + (gQ t r false true 0 0)) + (gQ t r false true 1 0))) 2 ((r 19) - (gQ t r false true 1 0))) 1 (((r 14) - (gQ t r false true 0 0)) + (gQ t r false true 2 0))) 2 (((r 19) - (gQ t r false true 1 0)) - (gQ t r false true 2 0)))))), (o 6, .inl (1, 3, .inr (.inl (va_up (va_up (va_up (va_up (va_up (va_up (moY r) 0 ((r 10) + (gQ t r false true 0 1))) 1 ((r 15) - (gQ t r false true 0 1))) 0 (((r 10) + (gQ t r false true 0 1)) + (gQ t r false true 1 1))) 2 ((r 20) - (gQ t r false true 1 1))) 1 (((r 15) - (gQ t r false true 0 1)) + (gQ t r false true 2 1))) 2 (((r 20) - (gQ t r false true 1 1)) - (gQ t r false true 2 1))))))]) (fun _ h => h.get 2 rfl) (fun j9 hj9 => by
      rcases (show j9 = 0 ∨ j9 = 1 ∨ j9 = 2 by omega) with rfl | rfl | rfl
      · exact congrArg Int64.toInt32 (kkq_6).symm
      · exact congrArg Int64.toInt32 (kkq_11).symm
      · exact congrArg Int64.toInt32 (kkq_16).symm) (fun _ h => h.set 2 _ rfl) ?_
  refine rn_cellI (J := xSt F V0 [(o 0, .inr (2, [.ref (o 1), .ref (o 2), .ref (o 3), .ref (o 4), .ref (o 5), .ref (o 6), .ref (o 7), .ref (o 8), .ref (o 9), .ref (o 10), .int ((r 0).toInt32)])), (o 1, .inl (0, 6, .inl (seF t r))), (o 2, .inl (0, 3, .inl (maF (kickQ t r false true)))), (o 3, .inl (0, 3, .inl (plX (kickQ t r false true)))), (o 4, .inl (0, 3, .inl (plY r))), (o 5, .inl (1, 3, .inr (.inl (va_up (va_up (va_up (va_up (va_up (va_up (moX r) 0 ((r 9) + (gQ t r false true 0 0))) 1 ((r 14) - (gQ t r false true 0 0))) 0 (((r 9) + (gQ t r false true 0 0)) + (gQ t r false true 1 0))) 2 ((r 19) - (gQ t r false true 1 0))) 1 (((r 14) - (gQ t r false true 0 0)) + (gQ t r false true 2 0))) 2 (((r 19) - (gQ t r false true 1 0)) - (gQ t r false true 2 0)))))), (o 6, .inl (1, 3, .inr (.inl (va_up (va_up (va_up (va_up (va_up (va_up (moY r) 0 ((r 10) + (gQ t r false true 0 1))) 1 ((r 15) - (gQ t r false true 0 1))) 0 (((r 10) + (gQ t r false true 0 1)) + (gQ t r false true 1 1))) 2 ((r 20) - (gQ t r false true 1 1))) 1 (((r 15) - (gQ t r false true 0 1)) + (gQ t r false true 2 1))) 2 (((r 20) - (gQ t r false true 1 1)) - (gQ t r false true 2 1))))))]) (fun _ h => h.get 3 rfl) (fun j9 hj9 => by
      rcases (show j9 = 0 ∨ j9 = 1 ∨ j9 = 2 by omega) with rfl | rfl | rfl
      · exact congrArg Int64.toInt32 (kkq_7).symm
      · exact congrArg Int64.toInt32 (kkq_12).symm
      · exact congrArg Int64.toInt32 (kkq_17).symm) (fun _ h => h.set 3 _ rfl) ?_
  refine rn_cellI (J := xSt F V0 [(o 0, .inr (2, [.ref (o 1), .ref (o 2), .ref (o 3), .ref (o 4), .ref (o 5), .ref (o 6), .ref (o 7), .ref (o 8), .ref (o 9), .ref (o 10), .int ((r 0).toInt32)])), (o 1, .inl (0, 6, .inl (seF t r))), (o 2, .inl (0, 3, .inl (maF (kickQ t r false true)))), (o 3, .inl (0, 3, .inl (plX (kickQ t r false true)))), (o 4, .inl (0, 3, .inl (plY (kickQ t r false true)))), (o 5, .inl (1, 3, .inr (.inl (va_up (va_up (va_up (va_up (va_up (va_up (moX r) 0 ((r 9) + (gQ t r false true 0 0))) 1 ((r 14) - (gQ t r false true 0 0))) 0 (((r 9) + (gQ t r false true 0 0)) + (gQ t r false true 1 0))) 2 ((r 19) - (gQ t r false true 1 0))) 1 (((r 14) - (gQ t r false true 0 0)) + (gQ t r false true 2 0))) 2 (((r 19) - (gQ t r false true 1 0)) - (gQ t r false true 2 0)))))), (o 6, .inl (1, 3, .inr (.inl (va_up (va_up (va_up (va_up (va_up (va_up (moY r) 0 ((r 10) + (gQ t r false true 0 1))) 1 ((r 15) - (gQ t r false true 0 1))) 0 (((r 10) + (gQ t r false true 0 1)) + (gQ t r false true 1 1))) 2 ((r 20) - (gQ t r false true 1 1))) 1 (((r 15) - (gQ t r false true 0 1)) + (gQ t r false true 2 1))) 2 (((r 20) - (gQ t r false true 1 1)) - (gQ t r false true 2 1))))))]) (fun _ h => h.get 4 rfl) (fun j9 hj9 => by
      rcases (show j9 = 0 ∨ j9 = 1 ∨ j9 = 2 by omega) with rfl | rfl | rfl
      · exact congrArg Int64.toInt32 (kkq_8).symm
      · exact congrArg Int64.toInt32 (kkq_13).symm
      · exact congrArg Int64.toInt32 (kkq_18).symm) (fun _ h => h.set 4 _ rfl) ?_
  refine rn_cellJ (J := xSt F V0 [(o 0, .inr (2, [.ref (o 1), .ref (o 2), .ref (o 3), .ref (o 4), .ref (o 5), .ref (o 6), .ref (o 7), .ref (o 8), .ref (o 9), .ref (o 10), .int ((r 0).toInt32)])), (o 1, .inl (0, 6, .inl (seF t r))), (o 2, .inl (0, 3, .inl (maF (kickQ t r false true)))), (o 3, .inl (0, 3, .inl (plX (kickQ t r false true)))), (o 4, .inl (0, 3, .inl (plY (kickQ t r false true)))), (o 5, .inl (1, 3, .inr (.inl (moX (kickQ t r false true))))), (o 6, .inl (1, 3, .inr (.inl (va_up (va_up (va_up (va_up (va_up (va_up (moY r) 0 ((r 10) + (gQ t r false true 0 1))) 1 ((r 15) - (gQ t r false true 0 1))) 0 (((r 10) + (gQ t r false true 0 1)) + (gQ t r false true 1 1))) 2 ((r 20) - (gQ t r false true 1 1))) 1 (((r 15) - (gQ t r false true 0 1)) + (gQ t r false true 2 1))) 2 (((r 20) - (gQ t r false true 1 1)) - (gQ t r false true 2 1))))))]) (fun _ h => h.get 5 rfl) (fun j9 hj9 => by
      rcases (show j9 = 0 ∨ j9 = 1 ∨ j9 = 2 by omega) with rfl | rfl | rfl
      · exact ((up_ne (by decide)).trans ((up_ne (by decide)).trans ((up_ne (by decide)).trans (up_same _ _ _)))).trans (kkq_9).symm
      · exact ((up_ne (by decide)).trans (up_same _ _ _)).trans (kkq_14).symm
      · exact (up_same _ _ _).trans (kkq_19).symm) (fun _ h => h.set 5 _ rfl) ?_
  refine rn_cellJ (J := xSt F V0 [(o 0, .inr (2, [.ref (o 1), .ref (o 2), .ref (o 3), .ref (o 4), .ref (o 5), .ref (o 6), .ref (o 7), .ref (o 8), .ref (o 9), .ref (o 10), .int ((r 0).toInt32)])), (o 1, .inl (0, 6, .inl (seF t r))), (o 2, .inl (0, 3, .inl (maF (kickQ t r false true)))), (o 3, .inl (0, 3, .inl (plX (kickQ t r false true)))), (o 4, .inl (0, 3, .inl (plY (kickQ t r false true)))), (o 5, .inl (1, 3, .inr (.inl (moX (kickQ t r false true))))), (o 6, .inl (1, 3, .inr (.inl (moY (kickQ t r false true)))))]) (fun _ h => h.get 6 rfl) (fun j9 hj9 => by
      rcases (show j9 = 0 ∨ j9 = 1 ∨ j9 = 2 by omega) with rfl | rfl | rfl
      · exact ((up_ne (by decide)).trans ((up_ne (by decide)).trans ((up_ne (by decide)).trans (up_same _ _ _)))).trans (kkq_10).symm
      · exact ((up_ne (by decide)).trans (up_same _ _ _)).trans (kkq_15).symm
      · exact (up_same _ _ _).trans (kkq_20).symm) (fun _ h => h.set 6 _ rfl) ?_
  exact r_vret hC (Nat.le_of_ble_eq_true rfl) (Nat.le_of_ble_eq_true rfl) (fun V9 h => hQ _ _ ⟨[(o 0, .inr (2, [.ref (o 1), .ref (o 2), .ref (o 3), .ref (o 4), .ref (o 5), .ref (o 6), .ref (o 7), .ref (o 8), .ref (o 9), .ref (o 10), .int (((kickQ t r false true) 0).toInt32)])), (o 1, .inl (0, 6, .inl (seF t (kickQ t r false true)))), (o 2, .inl (0, 3, .inl (maF (kickQ t r false true)))), (o 3, .inl (0, 3, .inl (plX (kickQ t r false true)))), (o 4, .inl (0, 3, .inl (plY (kickQ t r false true)))), (o 5, .inl (1, 3, .inr (.inl (moX (kickQ t r false true))))), (o 6, .inl (1, 3, .inr (.inl (moY (kickQ t r false true)))))], ⟨rfl, in_t (plR_kick hpl) (by rw [kkq_9]; exact hk13) (by rw [kkq_10]; exact hk14) (by rw [kkq_14]; exact hk15) (by rw [kkq_15]; exact hk16) (by rw [kkq_19]; exact hk17) (by rw [kkq_20]; exact hk18), rfl⟩, by rw [← hV0, ← hF]; exact h⟩) dX3_kick_138
set_option maxHeartbeats 4000000 in
set_option maxRecDepth 100000 in
theorem metX3_kick10 (l : Launch) (G : xG) (hG : xGood G) (o : Nat → Nat) (t r : Nat → Int64) (hpl : plR r) (ht : tOK t) (hm : mOK r) : xWm l G yX3_kick (Cond.code yX3_kick cX3_kick 8 none) { frames := 5, locals := 111, cells := 1, slots := 6 } [.ref (o 0), .int 1, .int 2] [(o 0, .inr (2, [.ref (o 1), .ref (o 2), .ref (o 3), .ref (o 4), .ref (o 5), .ref (o 6), .ref (o 7), .ref (o 8), .ref (o 9), .ref (o 10), .int ((r 0).toInt32)])), (o 1, .inl (0, 6, .inl (seF t r))), (o 2, .inl (0, 3, .inl (maF r))), (o 3, .inl (0, 3, .inl (plX r))), (o 4, .inl (0, 3, .inl (plY r))), (o 5, .inl (1, 3, .inr (.inl (moX r)))), (o 6, .inl (1, 3, .inr (.inl (moY r))))] (fun v w' => v = none ∧ isInQ (kickQ t r true false) = true ∧ w' = [(o 0, .inr (2, [.ref (o 1), .ref (o 2), .ref (o 3), .ref (o 4), .ref (o 5), .ref (o 6), .ref (o 7), .ref (o 8), .ref (o 9), .ref (o 10), .int (((kickQ t r true false) 0).toInt32)])), (o 1, .inl (0, 6, .inl (seF t (kickQ t r true false)))), (o 2, .inl (0, 3, .inl (maF (kickQ t r true false)))), (o 3, .inl (0, 3, .inl (plX (kickQ t r true false)))), (o 4, .inl (0, 3, .inl (plY (kickQ t r true false)))), (o 5, .inl (1, 3, .inr (.inl (moX (kickQ t r true false))))), (o 6, .inl (1, 3, .inr (.inl (moY (kickQ t r true false)))))]) (fun q w' => isInQ (kickQ t r true false) = false ∧ ∃ px' py' : Nat → Int64, w' = [(o 0, .inr (2, [.ref (o 1), .ref (o 2), .ref (o 3), .ref (o 4), .ref (o 5), .ref (o 6), .ref (o 7), .ref (o 8), .ref (o 9), .ref (o 10), .int ((r 0).toInt32)])), (o 1, .inl (0, 6, .inl (seF t r))), (o 2, .inl (0, 3, .inl (maF r))), (o 3, .inl (0, 3, .inl (plX r))), (o 4, .inl (0, 3, .inl (plY r))), (o 5, .inl (1, 3, .inr (.inl px'))), (o 6, .inl (1, 3, .inr (.inl py'))), (q, .inr (3, [.null, .null, .null, .null, .null, .int 0]))]) := by
  intro V hV
  refine xMet_ofT RX3 hG rfl (by decide) (Nat.le_of_ble_eq_true rfl) fun C hC hQ hX hl hg _ hTab => ?_
  subst hl hg
  obtain ⟨tONE, hzONE, htONE⟩ := za_ONE hG
  obtain ⟨tOTH, hzOTH, htOTH⟩ := za_OTH hG
  obtain ⟨V0, hV0⟩ : ∃ V0, V0 = V := ⟨_, rfl⟩
  obtain ⟨F, hF⟩ : ∃ F, F = xF [(o 0, .inr (2, [.ref (o 1), .ref (o 2), .ref (o 3), .ref (o 4), .ref (o 5), .ref (o 6), .ref (o 7), .ref (o 8), .ref (o 9), .ref (o 10), .int ((r 0).toInt32)])), (o 1, .inl (0, 6, .inl (seF t r))), (o 2, .inl (0, 3, .inl (maF r))), (o 3, .inl (0, 3, .inl (plX r))), (o 4, .inl (0, 3, .inl (plY r))), (o 5, .inl (1, 3, .inr (.inl (moX r)))), (o 6, .inl (1, 3, .inr (.inl (moY r))))] := ⟨_, rfl⟩
  refine rn.mono (J := xSt F V0 [(o 0, .inr (2, [.ref (o 1), .ref (o 2), .ref (o 3), .ref (o 4), .ref (o 5), .ref (o 6), .ref (o 7), .ref (o 8), .ref (o 9), .ref (o 10), .int ((r 0).toInt32)])), (o 1, .inl (0, 6, .inl (seF t r))), (o 2, .inl (0, 3, .inl (maF r))), (o 3, .inl (0, 3, .inl (plX r))), (o 4, .inl (0, 3, .inl (plY r))), (o 5, .inl (1, 3, .inr (.inl (moX r)))), (o 6, .inl (1, 3, .inr (.inl (moY r))))]) (fun V9 h => by rw [h, hV0, hF]; exact hV.st) ?_
  show rn C (xSt F V0 [(o 0, .inr (2, [.ref (o 1), .ref (o 2), .ref (o 3), .ref (o 4), .ref (o 5), .ref (o 6), .ref (o 7), .ref (o 8), .ref (o 9), .ref (o 10), .int ((r 0).toInt32)])), (o 1, .inl (0, 6, .inl (seF t r))), (o 2, .inl (0, 3, .inl (maF r))), (o 3, .inl (0, 3, .inl (plX r))), (o 4, .inl (0, 3, .inl (plY r))), (o 5, .inl (1, 3, .inr (.inl (moX r)))), (o 6, .inl (1, 3, .inr (.inl (moY r))))]) 0 0 0 [(0, .ref (o 0)), (1, .int 1), (2, .int 2)] []
  refine r_iconst hC 0 dX3_kick_0 ic_0 1 rfl ?_
  refine r_istore_n hC 3 [(3, .int 0), (0, .ref (o 0)), (1, .int 1), (2, .int 2)] dX3_kick_1 rfl (Nat.le_of_ble_eq_true rfl) rfl 2 rfl ?_
  refine r_iload_n hC 0 dX3_kick_2 rfl 3 rfl ?_
  refine r_iconst hC 3 dX3_kick_3 ic_3 4 rfl ?_
  refine r_icge hC 101 dX3_kick_4 (by decide) 7 rfl (fun h => absurd h (by decide)) (fun _ => ?_)
  refine r_iload_n hC 2 dX3_kick_7 rfl 8 rfl ?_
  refine r_i2l hC 1 dX3_kick_8 (by decide) 9 rfl ?_
  refine r_aload_n hC 1 dX3_kick_9 rfl 10 rfl ?_
  refine r_iload_n hC 0 dX3_kick_10 rfl 11 rfl ?_
  refine r_iconst hC 0 dX3_kick_11 ic_0 12 rfl ?_
  refine xCall.r (r := some (.long (impQ t r 0 0))) (r_cV hC kX3 (o 0) [.int 0, .int 0] mVX3_impulse q331 (fun _ h => ⟨_, h.get 0 rfl⟩) (fun V9 h9 => (metX3_impulse0 _ _ hG o t r 0 (Nat.le_of_ble_eq_true rfl) hpl ht hm) V9 (h9.in.sub [0, 1, 2, 3, 4] rfl rfl)) ⟨rfl, rfl⟩ (Nat.le_of_ble_eq_true rfl) (Nat.le_of_ble_eq_true rfl) rfl (Nat.le_of_ble_eq_true rfl) dX3_kick_12) 0 0 15 rfl rfl rfl ?_
  refine r_iload_n hC 3 dX3_kick_15 rfl 16 rfl ?_
  refine r_i2l hC 2 dX3_kick_16 (by decide) 17 rfl ?_
  refine r_ldiv hC ((impQ t r 0 0) / 2) dX3_kick_17 (by decide) (rfl) 18 rfl ?_
  refine r_lmul hC (1 * ((impQ t r 0 0) / 2)) dX3_kick_18  (rfl) 19 rfl ?_
  refine r_eql (y := gQ t r true false 0 0) (g10 _) ?_
  refine r_lstore hC 4 [(4, .long (gQ t r true false 0 0)), (3, .int 0), (0, .ref (o 0)), (1, .int 1), (2, .int 2)] dX3_kick_19 (Nat.le_of_ble_eq_true rfl) rfl 21 rfl ?_
  refine r_iload_n hC 3 dX3_kick_21 rfl 22 rfl ?_
  refine r_i2l hC 1 dX3_kick_22 (by decide) 23 rfl ?_
  refine r_aload_n hC 2 dX3_kick_23 rfl 24 rfl ?_
  refine r_iload_n hC 1 dX3_kick_24 rfl 25 rfl ?_
  refine r_iconst hC 1 dX3_kick_25 ic_1 26 rfl ?_
  refine xCall.r (r := some (.long (impQ t r 0 1))) (r_cV hC kX3 (o 0) [.int 0, .int 1] mVX3_impulse q331 (fun _ h => ⟨_, h.get 0 rfl⟩) (fun V9 h9 => (metX3_impulse1 _ _ hG o t r 0 (Nat.le_of_ble_eq_true rfl) hpl ht hm) V9 (h9.in.sub [0, 1, 2, 3, 4] rfl rfl)) ⟨rfl, rfl⟩ (Nat.le_of_ble_eq_true rfl) (Nat.le_of_ble_eq_true rfl) rfl (Nat.le_of_ble_eq_true rfl) dX3_kick_26) 0 0 29 rfl rfl rfl ?_
  refine r_iload_n hC 4 dX3_kick_29 rfl 30 rfl ?_
  refine r_i2l hC 2 dX3_kick_30 (by decide) 31 rfl ?_
  refine r_ldiv hC ((impQ t r 0 1) / 2) dX3_kick_31 (by decide) (rfl) 32 rfl ?_
  refine r_lmul hC (1 * ((impQ t r 0 1) / 2)) dX3_kick_32  (rfl) 33 rfl ?_
  refine r_eql (y := gQ t r true false 0 1) (g10 _) ?_
  refine r_lstore hC 6 [(6, .long (gQ t r true false 0 1)), (4, .long (gQ t r true false 0 0)), (3, .int 0), (0, .ref (o 0)), (1, .int 1), (2, .int 2)] dX3_kick_33 (Nat.le_of_ble_eq_true rfl) rfl 35 rfl ?_
  refine r_aload_n hC 3 dX3_kick_35 rfl 36 rfl ?_
  refine r_get (v := .ref (o 5)) hC kX3 4 rfl q188 (fun _ h => h.get 0 rfl) rfl dX3_kick_36 39 rfl ?_
  refine r_getsN hC hG hzONE q271 dX3_kick_39 42 rfl ?_
  refine r_iload_n hC 2 dX3_kick_42 rfl 43 rfl ?_
  refine r_ialdT hC htONE 0 (xix_n 0 (Nat.le_of_ble_eq_true rfl) (Nat.le_of_ble_eq_true rfl)) 0 rfl dX3_kick_43 44 rfl ?_
  refine r_dup2 hC dX3_kick_44 rfl rfl 45 rfl ?_
  refine r_lald hC 0 (xix_n 0 (Nat.le_of_ble_eq_true rfl) (Nat.le_of_ble_eq_true rfl)) (fun _ h => h.get 5 rfl) (moX r 0) (rfl) dX3_kick_45 46 rfl ?_
  refine r_eql (y := r 9) (rfl) ?_
  refine r_lload hC 1 dX3_kick_46 rfl 48 rfl ?_
  refine r_ladd hC ((r 9) + (gQ t r true false 0 0)) dX3_kick_48  (rfl) 49 rfl ?_
  refine r_last (J := xSt F V0 [(o 0, .inr (2, [.ref (o 1), .ref (o 2), .ref (o 3), .ref (o 4), .ref (o 5), .ref (o 6), .ref (o 7), .ref (o 8), .ref (o 9), .ref (o 10), .int ((r 0).toInt32)])), (o 1, .inl (0, 6, .inl (seF t r))), (o 2, .inl (0, 3, .inl (maF r))), (o 3, .inl (0, 3, .inl (plX r))), (o 4, .inl (0, 3, .inl (plY r))), (o 5, .inl (1, 3, .inr (.inl (va_up (moX r) 0 ((r 9) + (gQ t r true false 0 0)))))), (o 6, .inl (1, 3, .inr (.inl (moY r))))]) hC 0 (xix_n 0 (Nat.le_of_ble_eq_true rfl) (Nat.le_of_ble_eq_true rfl)) (fun _ h => h.get 5 rfl) dX3_kick_49 (fun _ h => h.set 5 _ rfl) 50 rfl ?_
  generalize hu1 : va_up (moX r) 0 ((r 9) + (gQ t r true false 0 0)) = u1
  refine r_aload_n hC 3 dX3_kick_50 rfl 51 rfl ?_
  refine r_get (v := .ref (o 6)) hC kX3 5 rfl q191 (fun _ h => h.get 0 rfl) rfl dX3_kick_51 54 rfl ?_
  refine r_getsN hC hG hzONE q271 dX3_kick_54 57 rfl ?_
  refine r_iload_n hC 2 dX3_kick_57 rfl 58 rfl ?_
  refine r_ialdT hC htONE 0 (xix_n 0 (Nat.le_of_ble_eq_true rfl) (Nat.le_of_ble_eq_true rfl)) 0 rfl dX3_kick_58 59 rfl ?_
  refine r_dup2 hC dX3_kick_59 rfl rfl 60 rfl ?_
  refine r_lald hC 0 (xix_n 0 (Nat.le_of_ble_eq_true rfl) (Nat.le_of_ble_eq_true rfl)) (fun _ h => h.get 6 rfl) (moY r 0) (rfl) dX3_kick_60 61 rfl ?_
  refine r_eql (y := r 10) (rfl) ?_
  refine r_lload hC 0 dX3_kick_61 rfl 63 rfl ?_
  refine r_ladd hC ((r 10) + (gQ t r true false 0 1)) dX3_kick_63  (rfl) 64 rfl ?_
  refine r_last (J := xSt F V0 [(o 0, .inr (2, [.ref (o 1), .ref (o 2), .ref (o 3), .ref (o 4), .ref (o 5), .ref (o 6), .ref (o 7), .ref (o 8), .ref (o 9), .ref (o 10), .int ((r 0).toInt32)])), (o 1, .inl (0, 6, .inl (seF t r))), (o 2, .inl (0, 3, .inl (maF r))), (o 3, .inl (0, 3, .inl (plX r))), (o 4, .inl (0, 3, .inl (plY r))), (o 5, .inl (1, 3, .inr (.inl u1))), (o 6, .inl (1, 3, .inr (.inl (va_up (moY r) 0 ((r 10) + (gQ t r true false 0 1))))))]) hC 0 (xix_n 0 (Nat.le_of_ble_eq_true rfl) (Nat.le_of_ble_eq_true rfl)) (fun _ h => h.get 6 rfl) dX3_kick_64 (fun _ h => h.set 6 _ rfl) 65 rfl ?_
  generalize hu2 : va_up (moY r) 0 ((r 10) + (gQ t r true false 0 1)) = u2
  refine r_aload_n hC 3 dX3_kick_65 rfl 66 rfl ?_
  refine r_get (v := .ref (o 5)) hC kX3 4 rfl q188 (fun _ h => h.get 0 rfl) rfl dX3_kick_66 69 rfl ?_
  refine r_getsN hC hG hzOTH q273 dX3_kick_69 72 rfl ?_
  refine r_iload_n hC 2 dX3_kick_72 rfl 73 rfl ?_
  refine r_ialdT hC htOTH 0 (xix_n 0 (Nat.le_of_ble_eq_true rfl) (Nat.le_of_ble_eq_true rfl)) 1 rfl dX3_kick_73 74 rfl ?_
  refine r_dup2 hC dX3_kick_74 rfl rfl 75 rfl ?_
  refine r_lald hC 1 (xix_n 1 (Nat.le_of_ble_eq_true rfl) (Nat.le_of_ble_eq_true rfl)) (fun _ h => h.get 5 rfl) (moX r 1) (by rw [← hu1]; rfl) dX3_kick_75 76 rfl ?_
  refine r_eql (y := r 14) (rfl) ?_
  refine r_lload hC 1 dX3_kick_76 rfl 78 rfl ?_
  refine r_lsub hC ((r 14) - (gQ t r true false 0 0)) dX3_kick_78  (rfl) 79 rfl ?_
  refine r_last (J := xSt F V0 [(o 0, .inr (2, [.ref (o 1), .ref (o 2), .ref (o 3), .ref (o 4), .ref (o 5), .ref (o 6), .ref (o 7), .ref (o 8), .ref (o 9), .ref (o 10), .int ((r 0).toInt32)])), (o 1, .inl (0, 6, .inl (seF t r))), (o 2, .inl (0, 3, .inl (maF r))), (o 3, .inl (0, 3, .inl (plX r))), (o 4, .inl (0, 3, .inl (plY r))), (o 5, .inl (1, 3, .inr (.inl (va_up u1 1 ((r 14) - (gQ t r true false 0 0)))))), (o 6, .inl (1, 3, .inr (.inl u2)))]) hC 1 (xix_n 1 (Nat.le_of_ble_eq_true rfl) (Nat.le_of_ble_eq_true rfl)) (fun _ h => h.get 5 rfl) dX3_kick_79 (fun _ h => h.set 5 _ rfl) 80 rfl ?_
  generalize hu3 : va_up u1 1 ((r 14) - (gQ t r true false 0 0)) = u3
  refine r_aload_n hC 3 dX3_kick_80 rfl 81 rfl ?_
  refine r_get (v := .ref (o 6)) hC kX3 5 rfl q191 (fun _ h => h.get 0 rfl) rfl dX3_kick_81 84 rfl ?_
  refine r_getsN hC hG hzOTH q273 dX3_kick_84 87 rfl ?_
  refine r_iload_n hC 2 dX3_kick_87 rfl 88 rfl ?_
  refine r_ialdT hC htOTH 0 (xix_n 0 (Nat.le_of_ble_eq_true rfl) (Nat.le_of_ble_eq_true rfl)) 1 rfl dX3_kick_88 89 rfl ?_
  refine r_dup2 hC dX3_kick_89 rfl rfl 90 rfl ?_
  refine r_lald hC 1 (xix_n 1 (Nat.le_of_ble_eq_true rfl) (Nat.le_of_ble_eq_true rfl)) (fun _ h => h.get 6 rfl) (moY r 1) (by rw [← hu2]; rfl) dX3_kick_90 91 rfl ?_
  refine r_eql (y := r 15) (rfl) ?_
  refine r_lload hC 0 dX3_kick_91 rfl 93 rfl ?_
  refine r_lsub hC ((r 15) - (gQ t r true false 0 1)) dX3_kick_93  (rfl) 94 rfl ?_
  refine r_last (J := xSt F V0 [(o 0, .inr (2, [.ref (o 1), .ref (o 2), .ref (o 3), .ref (o 4), .ref (o 5), .ref (o 6), .ref (o 7), .ref (o 8), .ref (o 9), .ref (o 10), .int ((r 0).toInt32)])), (o 1, .inl (0, 6, .inl (seF t r))), (o 2, .inl (0, 3, .inl (maF r))), (o 3, .inl (0, 3, .inl (plX r))), (o 4, .inl (0, 3, .inl (plY r))), (o 5, .inl (1, 3, .inr (.inl u3))), (o 6, .inl (1, 3, .inr (.inl (va_up u2 1 ((r 15) - (gQ t r true false 0 1))))))]) hC 1 (xix_n 1 (Nat.le_of_ble_eq_true rfl) (Nat.le_of_ble_eq_true rfl)) (fun _ h => h.get 6 rfl) dX3_kick_94 (fun _ h => h.set 6 _ rfl) 95 rfl ?_
  generalize hu4 : va_up u2 1 ((r 15) - (gQ t r true false 0 1)) = u4
  refine r_iinc hC 1 3 2 [(3, .int 1), (6, .long (gQ t r true false 0 1)), (4, .long (gQ t r true false 0 0)), (0, .ref (o 0)), (1, .int 1), (2, .int 2)] dX3_kick_95 rfl (by decide) (Nat.le_of_ble_eq_true rfl) rfl 98 rfl ?_
  refine r_goto hC 2 dX3_kick_98 (by decide) ?_
  refine r_iload_n hC 0 dX3_kick_2 rfl 3 rfl ?_
  refine r_iconst hC 3 dX3_kick_3 ic_3 4 rfl ?_
  refine r_icge hC 101 dX3_kick_4 (by decide) 7 rfl (fun h => absurd h (by decide)) (fun _ => ?_)
  refine r_iload_n hC 4 dX3_kick_7 rfl 8 rfl ?_
  refine r_i2l hC 1 dX3_kick_8 (by decide) 9 rfl ?_
  refine r_aload_n hC 3 dX3_kick_9 rfl 10 rfl ?_
  refine r_iload_n hC 0 dX3_kick_10 rfl 11 rfl ?_
  refine r_iconst hC 0 dX3_kick_11 ic_0 12 rfl ?_
  refine xCall.r (r := some (.long (impQ t r 1 0))) (r_cV hC kX3 (o 0) [.int 1, .int 0] mVX3_impulse q331 (fun _ h => ⟨_, h.get 0 rfl⟩) (fun V9 h9 => (metX3_impulse0 _ _ hG o t r 1 (Nat.le_of_ble_eq_true rfl) hpl ht hm) V9 (h9.in.sub [0, 1, 2, 3, 4] rfl rfl)) ⟨rfl, rfl⟩ (Nat.le_of_ble_eq_true rfl) (Nat.le_of_ble_eq_true rfl) rfl (Nat.le_of_ble_eq_true rfl) dX3_kick_12) 0 0 15 rfl rfl rfl ?_
  refine r_iload_n hC 5 dX3_kick_15 rfl 16 rfl ?_
  refine r_i2l hC 2 dX3_kick_16 (by decide) 17 rfl ?_
  refine r_ldiv hC ((impQ t r 1 0) / 2) dX3_kick_17 (by decide) (rfl) 18 rfl ?_
  refine r_lmul hC (1 * ((impQ t r 1 0) / 2)) dX3_kick_18  (rfl) 19 rfl ?_
  refine r_eql (y := gQ t r true false 1 0) (g10 _) ?_
  refine r_lstore hC 4 [(4, .long (gQ t r true false 1 0)), (3, .int 1), (6, .long (gQ t r true false 0 1)), (0, .ref (o 0)), (1, .int 1), (2, .int 2)] dX3_kick_19 (Nat.le_of_ble_eq_true rfl) rfl 21 rfl ?_
  refine r_iload_n hC 4 dX3_kick_21 rfl 22 rfl ?_
  refine r_i2l hC 1 dX3_kick_22 (by decide) 23 rfl ?_
  refine r_aload_n hC 3 dX3_kick_23 rfl 24 rfl ?_
  refine r_iload_n hC 1 dX3_kick_24 rfl 25 rfl ?_
  refine r_iconst hC 1 dX3_kick_25 ic_1 26 rfl ?_
  refine xCall.r (r := some (.long (impQ t r 1 1))) (r_cV hC kX3 (o 0) [.int 1, .int 1] mVX3_impulse q331 (fun _ h => ⟨_, h.get 0 rfl⟩) (fun V9 h9 => (metX3_impulse1 _ _ hG o t r 1 (Nat.le_of_ble_eq_true rfl) hpl ht hm) V9 (h9.in.sub [0, 1, 2, 3, 4] rfl rfl)) ⟨rfl, rfl⟩ (Nat.le_of_ble_eq_true rfl) (Nat.le_of_ble_eq_true rfl) rfl (Nat.le_of_ble_eq_true rfl) dX3_kick_26) 0 0 29 rfl rfl rfl ?_
  refine r_iload_n hC 5 dX3_kick_29 rfl 30 rfl ?_
  refine r_i2l hC 2 dX3_kick_30 (by decide) 31 rfl ?_
  refine r_ldiv hC ((impQ t r 1 1) / 2) dX3_kick_31 (by decide) (rfl) 32 rfl ?_
  refine r_lmul hC (1 * ((impQ t r 1 1) / 2)) dX3_kick_32  (rfl) 33 rfl ?_
  refine r_eql (y := gQ t r true false 1 1) (g10 _) ?_
  refine r_lstore hC 6 [(6, .long (gQ t r true false 1 1)), (4, .long (gQ t r true false 1 0)), (3, .int 1), (0, .ref (o 0)), (1, .int 1), (2, .int 2)] dX3_kick_33 (Nat.le_of_ble_eq_true rfl) rfl 35 rfl ?_
  refine r_aload_n hC 3 dX3_kick_35 rfl 36 rfl ?_
  refine r_get (v := .ref (o 5)) hC kX3 4 rfl q188 (fun _ h => h.get 0 rfl) rfl dX3_kick_36 39 rfl ?_
  refine r_getsN hC hG hzONE q271 dX3_kick_39 42 rfl ?_
  refine r_iload_n hC 2 dX3_kick_42 rfl 43 rfl ?_
  refine r_ialdT hC htONE 1 (xix_n 1 (Nat.le_of_ble_eq_true rfl) (Nat.le_of_ble_eq_true rfl)) 0 rfl dX3_kick_43 44 rfl ?_
  refine r_dup2 hC dX3_kick_44 rfl rfl 45 rfl ?_
  refine r_lald hC 0 (xix_n 0 (Nat.le_of_ble_eq_true rfl) (Nat.le_of_ble_eq_true rfl)) (fun _ h => h.get 5 rfl) ((r 9) + (gQ t r true false 0 0)) (by rw [← hu3, ← hu1]; rfl) dX3_kick_45 46 rfl ?_
  refine r_lload hC 1 dX3_kick_46 rfl 48 rfl ?_
  refine r_ladd hC (((r 9) + (gQ t r true false 0 0)) + (gQ t r true false 1 0)) dX3_kick_48  (rfl) 49 rfl ?_
  refine r_last (J := xSt F V0 [(o 0, .inr (2, [.ref (o 1), .ref (o 2), .ref (o 3), .ref (o 4), .ref (o 5), .ref (o 6), .ref (o 7), .ref (o 8), .ref (o 9), .ref (o 10), .int ((r 0).toInt32)])), (o 1, .inl (0, 6, .inl (seF t r))), (o 2, .inl (0, 3, .inl (maF r))), (o 3, .inl (0, 3, .inl (plX r))), (o 4, .inl (0, 3, .inl (plY r))), (o 5, .inl (1, 3, .inr (.inl (va_up u3 0 (((r 9) + (gQ t r true false 0 0)) + (gQ t r true false 1 0)))))), (o 6, .inl (1, 3, .inr (.inl u4)))]) hC 0 (xix_n 0 (Nat.le_of_ble_eq_true rfl) (Nat.le_of_ble_eq_true rfl)) (fun _ h => h.get 5 rfl) dX3_kick_49 (fun _ h => h.set 5 _ rfl) 50 rfl ?_
  generalize hu5 : va_up u3 0 (((r 9) + (gQ t r true false 0 0)) + (gQ t r true false 1 0)) = u5
  refine r_aload_n hC 3 dX3_kick_50 rfl 51 rfl ?_
  refine r_get (v := .ref (o 6)) hC kX3 5 rfl q191 (fun _ h => h.get 0 rfl) rfl dX3_kick_51 54 rfl ?_
  refine r_getsN hC hG hzONE q271 dX3_kick_54 57 rfl ?_
  refine r_iload_n hC 2 dX3_kick_57 rfl 58 rfl ?_
  refine r_ialdT hC htONE 1 (xix_n 1 (Nat.le_of_ble_eq_true rfl) (Nat.le_of_ble_eq_true rfl)) 0 rfl dX3_kick_58 59 rfl ?_
  refine r_dup2 hC dX3_kick_59 rfl rfl 60 rfl ?_
  refine r_lald hC 0 (xix_n 0 (Nat.le_of_ble_eq_true rfl) (Nat.le_of_ble_eq_true rfl)) (fun _ h => h.get 6 rfl) ((r 10) + (gQ t r true false 0 1)) (by rw [← hu4, ← hu2]; rfl) dX3_kick_60 61 rfl ?_
  refine r_lload hC 0 dX3_kick_61 rfl 63 rfl ?_
  refine r_ladd hC (((r 10) + (gQ t r true false 0 1)) + (gQ t r true false 1 1)) dX3_kick_63  (rfl) 64 rfl ?_
  refine r_last (J := xSt F V0 [(o 0, .inr (2, [.ref (o 1), .ref (o 2), .ref (o 3), .ref (o 4), .ref (o 5), .ref (o 6), .ref (o 7), .ref (o 8), .ref (o 9), .ref (o 10), .int ((r 0).toInt32)])), (o 1, .inl (0, 6, .inl (seF t r))), (o 2, .inl (0, 3, .inl (maF r))), (o 3, .inl (0, 3, .inl (plX r))), (o 4, .inl (0, 3, .inl (plY r))), (o 5, .inl (1, 3, .inr (.inl u5))), (o 6, .inl (1, 3, .inr (.inl (va_up u4 0 (((r 10) + (gQ t r true false 0 1)) + (gQ t r true false 1 1))))))]) hC 0 (xix_n 0 (Nat.le_of_ble_eq_true rfl) (Nat.le_of_ble_eq_true rfl)) (fun _ h => h.get 6 rfl) dX3_kick_64 (fun _ h => h.set 6 _ rfl) 65 rfl ?_
  generalize hu6 : va_up u4 0 (((r 10) + (gQ t r true false 0 1)) + (gQ t r true false 1 1)) = u6
  refine r_aload_n hC 3 dX3_kick_65 rfl 66 rfl ?_
  refine r_get (v := .ref (o 5)) hC kX3 4 rfl q188 (fun _ h => h.get 0 rfl) rfl dX3_kick_66 69 rfl ?_
  refine r_getsN hC hG hzOTH q273 dX3_kick_69 72 rfl ?_
  refine r_iload_n hC 2 dX3_kick_72 rfl 73 rfl ?_
  refine r_ialdT hC htOTH 1 (xix_n 1 (Nat.le_of_ble_eq_true rfl) (Nat.le_of_ble_eq_true rfl)) 2 rfl dX3_kick_73 74 rfl ?_
  refine r_dup2 hC dX3_kick_74 rfl rfl 75 rfl ?_
  refine r_lald hC 2 (xix_n 2 (Nat.le_of_ble_eq_true rfl) (Nat.le_of_ble_eq_true rfl)) (fun _ h => h.get 5 rfl) (moX r 2) (by rw [← hu5, ← hu3, ← hu1]; rfl) dX3_kick_75 76 rfl ?_
  refine r_eql (y := r 19) (rfl) ?_
  refine r_lload hC 1 dX3_kick_76 rfl 78 rfl ?_
  refine r_lsub hC ((r 19) - (gQ t r true false 1 0)) dX3_kick_78  (rfl) 79 rfl ?_
  refine r_last (J := xSt F V0 [(o 0, .inr (2, [.ref (o 1), .ref (o 2), .ref (o 3), .ref (o 4), .ref (o 5), .ref (o 6), .ref (o 7), .ref (o 8), .ref (o 9), .ref (o 10), .int ((r 0).toInt32)])), (o 1, .inl (0, 6, .inl (seF t r))), (o 2, .inl (0, 3, .inl (maF r))), (o 3, .inl (0, 3, .inl (plX r))), (o 4, .inl (0, 3, .inl (plY r))), (o 5, .inl (1, 3, .inr (.inl (va_up u5 2 ((r 19) - (gQ t r true false 1 0)))))), (o 6, .inl (1, 3, .inr (.inl u6)))]) hC 2 (xix_n 2 (Nat.le_of_ble_eq_true rfl) (Nat.le_of_ble_eq_true rfl)) (fun _ h => h.get 5 rfl) dX3_kick_79 (fun _ h => h.set 5 _ rfl) 80 rfl ?_
  generalize hu7 : va_up u5 2 ((r 19) - (gQ t r true false 1 0)) = u7
  refine r_aload_n hC 3 dX3_kick_80 rfl 81 rfl ?_
  refine r_get (v := .ref (o 6)) hC kX3 5 rfl q191 (fun _ h => h.get 0 rfl) rfl dX3_kick_81 84 rfl ?_
  refine r_getsN hC hG hzOTH q273 dX3_kick_84 87 rfl ?_
  refine r_iload_n hC 2 dX3_kick_87 rfl 88 rfl ?_
  refine r_ialdT hC htOTH 1 (xix_n 1 (Nat.le_of_ble_eq_true rfl) (Nat.le_of_ble_eq_true rfl)) 2 rfl dX3_kick_88 89 rfl ?_
  refine r_dup2 hC dX3_kick_89 rfl rfl 90 rfl ?_
  refine r_lald hC 2 (xix_n 2 (Nat.le_of_ble_eq_true rfl) (Nat.le_of_ble_eq_true rfl)) (fun _ h => h.get 6 rfl) (moY r 2) (by rw [← hu6, ← hu4, ← hu2]; rfl) dX3_kick_90 91 rfl ?_
  refine r_eql (y := r 20) (rfl) ?_
  refine r_lload hC 0 dX3_kick_91 rfl 93 rfl ?_
  refine r_lsub hC ((r 20) - (gQ t r true false 1 1)) dX3_kick_93  (rfl) 94 rfl ?_
  refine r_last (J := xSt F V0 [(o 0, .inr (2, [.ref (o 1), .ref (o 2), .ref (o 3), .ref (o 4), .ref (o 5), .ref (o 6), .ref (o 7), .ref (o 8), .ref (o 9), .ref (o 10), .int ((r 0).toInt32)])), (o 1, .inl (0, 6, .inl (seF t r))), (o 2, .inl (0, 3, .inl (maF r))), (o 3, .inl (0, 3, .inl (plX r))), (o 4, .inl (0, 3, .inl (plY r))), (o 5, .inl (1, 3, .inr (.inl u7))), (o 6, .inl (1, 3, .inr (.inl (va_up u6 2 ((r 20) - (gQ t r true false 1 1))))))]) hC 2 (xix_n 2 (Nat.le_of_ble_eq_true rfl) (Nat.le_of_ble_eq_true rfl)) (fun _ h => h.get 6 rfl) dX3_kick_94 (fun _ h => h.set 6 _ rfl) 95 rfl ?_
  generalize hu8 : va_up u6 2 ((r 20) - (gQ t r true false 1 1)) = u8
  refine r_iinc hC 2 3 2 [(3, .int 2), (6, .long (gQ t r true false 1 1)), (4, .long (gQ t r true false 1 0)), (0, .ref (o 0)), (1, .int 1), (2, .int 2)] dX3_kick_95 rfl (by decide) (Nat.le_of_ble_eq_true rfl) rfl 98 rfl ?_
  refine r_goto hC 2 dX3_kick_98 (by decide) ?_
  refine r_iload_n hC 0 dX3_kick_2 rfl 3 rfl ?_
  refine r_iconst hC 3 dX3_kick_3 ic_3 4 rfl ?_
  refine r_icge hC 101 dX3_kick_4 (by decide) 7 rfl (fun h => absurd h (by decide)) (fun _ => ?_)
  refine r_iload_n hC 4 dX3_kick_7 rfl 8 rfl ?_
  refine r_i2l hC 1 dX3_kick_8 (by decide) 9 rfl ?_
  refine r_aload_n hC 3 dX3_kick_9 rfl 10 rfl ?_
  refine r_iload_n hC 0 dX3_kick_10 rfl 11 rfl ?_
  refine r_iconst hC 0 dX3_kick_11 ic_0 12 rfl ?_
  refine xCall.r (r := some (.long (impQ t r 2 0))) (r_cV hC kX3 (o 0) [.int 2, .int 0] mVX3_impulse q331 (fun _ h => ⟨_, h.get 0 rfl⟩) (fun V9 h9 => (metX3_impulse0 _ _ hG o t r 2 (Nat.le_of_ble_eq_true rfl) hpl ht hm) V9 (h9.in.sub [0, 1, 2, 3, 4] rfl rfl)) ⟨rfl, rfl⟩ (Nat.le_of_ble_eq_true rfl) (Nat.le_of_ble_eq_true rfl) rfl (Nat.le_of_ble_eq_true rfl) dX3_kick_12) 0 0 15 rfl rfl rfl ?_
  refine r_iload_n hC 5 dX3_kick_15 rfl 16 rfl ?_
  refine r_i2l hC 2 dX3_kick_16 (by decide) 17 rfl ?_
  refine r_ldiv hC ((impQ t r 2 0) / 2) dX3_kick_17 (by decide) (rfl) 18 rfl ?_
  refine r_lmul hC (1 * ((impQ t r 2 0) / 2)) dX3_kick_18  (rfl) 19 rfl ?_
  refine r_eql (y := gQ t r true false 2 0) (g10 _) ?_
  refine r_lstore hC 4 [(4, .long (gQ t r true false 2 0)), (3, .int 2), (6, .long (gQ t r true false 1 1)), (0, .ref (o 0)), (1, .int 1), (2, .int 2)] dX3_kick_19 (Nat.le_of_ble_eq_true rfl) rfl 21 rfl ?_
  refine r_iload_n hC 4 dX3_kick_21 rfl 22 rfl ?_
  refine r_i2l hC 1 dX3_kick_22 (by decide) 23 rfl ?_
  refine r_aload_n hC 3 dX3_kick_23 rfl 24 rfl ?_
  refine r_iload_n hC 1 dX3_kick_24 rfl 25 rfl ?_
  refine r_iconst hC 1 dX3_kick_25 ic_1 26 rfl ?_
  refine xCall.r (r := some (.long (impQ t r 2 1))) (r_cV hC kX3 (o 0) [.int 2, .int 1] mVX3_impulse q331 (fun _ h => ⟨_, h.get 0 rfl⟩) (fun V9 h9 => (metX3_impulse1 _ _ hG o t r 2 (Nat.le_of_ble_eq_true rfl) hpl ht hm) V9 (h9.in.sub [0, 1, 2, 3, 4] rfl rfl)) ⟨rfl, rfl⟩ (Nat.le_of_ble_eq_true rfl) (Nat.le_of_ble_eq_true rfl) rfl (Nat.le_of_ble_eq_true rfl) dX3_kick_26) 0 0 29 rfl rfl rfl ?_
  refine r_iload_n hC 5 dX3_kick_29 rfl 30 rfl ?_
  refine r_i2l hC 2 dX3_kick_30 (by decide) 31 rfl ?_
  refine r_ldiv hC ((impQ t r 2 1) / 2) dX3_kick_31 (by decide) (rfl) 32 rfl ?_
  refine r_lmul hC (1 * ((impQ t r 2 1) / 2)) dX3_kick_32  (rfl) 33 rfl ?_
  refine r_eql (y := gQ t r true false 2 1) (g10 _) ?_
  refine r_lstore hC 6 [(6, .long (gQ t r true false 2 1)), (4, .long (gQ t r true false 2 0)), (3, .int 2), (0, .ref (o 0)), (1, .int 1), (2, .int 2)] dX3_kick_33 (Nat.le_of_ble_eq_true rfl) rfl 35 rfl ?_
  refine r_aload_n hC 3 dX3_kick_35 rfl 36 rfl ?_
  refine r_get (v := .ref (o 5)) hC kX3 4 rfl q188 (fun _ h => h.get 0 rfl) rfl dX3_kick_36 39 rfl ?_
  refine r_getsN hC hG hzONE q271 dX3_kick_39 42 rfl ?_
  refine r_iload_n hC 2 dX3_kick_42 rfl 43 rfl ?_
  refine r_ialdT hC htONE 2 (xix_n 2 (Nat.le_of_ble_eq_true rfl) (Nat.le_of_ble_eq_true rfl)) 1 rfl dX3_kick_43 44 rfl ?_
  refine r_dup2 hC dX3_kick_44 rfl rfl 45 rfl ?_
  refine r_lald hC 1 (xix_n 1 (Nat.le_of_ble_eq_true rfl) (Nat.le_of_ble_eq_true rfl)) (fun _ h => h.get 5 rfl) ((r 14) - (gQ t r true false 0 0)) (by rw [← hu7, ← hu5, ← hu3]; rfl) dX3_kick_45 46 rfl ?_
  refine r_lload hC 1 dX3_kick_46 rfl 48 rfl ?_
  refine r_ladd hC (((r 14) - (gQ t r true false 0 0)) + (gQ t r true false 2 0)) dX3_kick_48  (rfl) 49 rfl ?_
  refine r_last (J := xSt F V0 [(o 0, .inr (2, [.ref (o 1), .ref (o 2), .ref (o 3), .ref (o 4), .ref (o 5), .ref (o 6), .ref (o 7), .ref (o 8), .ref (o 9), .ref (o 10), .int ((r 0).toInt32)])), (o 1, .inl (0, 6, .inl (seF t r))), (o 2, .inl (0, 3, .inl (maF r))), (o 3, .inl (0, 3, .inl (plX r))), (o 4, .inl (0, 3, .inl (plY r))), (o 5, .inl (1, 3, .inr (.inl (va_up u7 1 (((r 14) - (gQ t r true false 0 0)) + (gQ t r true false 2 0)))))), (o 6, .inl (1, 3, .inr (.inl u8)))]) hC 1 (xix_n 1 (Nat.le_of_ble_eq_true rfl) (Nat.le_of_ble_eq_true rfl)) (fun _ h => h.get 5 rfl) dX3_kick_49 (fun _ h => h.set 5 _ rfl) 50 rfl ?_
  generalize hu9 : va_up u7 1 (((r 14) - (gQ t r true false 0 0)) + (gQ t r true false 2 0)) = u9
  refine r_aload_n hC 3 dX3_kick_50 rfl 51 rfl ?_
  refine r_get (v := .ref (o 6)) hC kX3 5 rfl q191 (fun _ h => h.get 0 rfl) rfl dX3_kick_51 54 rfl ?_
  refine r_getsN hC hG hzONE q271 dX3_kick_54 57 rfl ?_
  refine r_iload_n hC 2 dX3_kick_57 rfl 58 rfl ?_
  refine r_ialdT hC htONE 2 (xix_n 2 (Nat.le_of_ble_eq_true rfl) (Nat.le_of_ble_eq_true rfl)) 1 rfl dX3_kick_58 59 rfl ?_
  refine r_dup2 hC dX3_kick_59 rfl rfl 60 rfl ?_
  refine r_lald hC 1 (xix_n 1 (Nat.le_of_ble_eq_true rfl) (Nat.le_of_ble_eq_true rfl)) (fun _ h => h.get 6 rfl) ((r 15) - (gQ t r true false 0 1)) (by rw [← hu8, ← hu6, ← hu4]; rfl) dX3_kick_60 61 rfl ?_
  refine r_lload hC 0 dX3_kick_61 rfl 63 rfl ?_
  refine r_ladd hC (((r 15) - (gQ t r true false 0 1)) + (gQ t r true false 2 1)) dX3_kick_63  (rfl) 64 rfl ?_
  refine r_last (J := xSt F V0 [(o 0, .inr (2, [.ref (o 1), .ref (o 2), .ref (o 3), .ref (o 4), .ref (o 5), .ref (o 6), .ref (o 7), .ref (o 8), .ref (o 9), .ref (o 10), .int ((r 0).toInt32)])), (o 1, .inl (0, 6, .inl (seF t r))), (o 2, .inl (0, 3, .inl (maF r))), (o 3, .inl (0, 3, .inl (plX r))), (o 4, .inl (0, 3, .inl (plY r))), (o 5, .inl (1, 3, .inr (.inl u9))), (o 6, .inl (1, 3, .inr (.inl (va_up u8 1 (((r 15) - (gQ t r true false 0 1)) + (gQ t r true false 2 1))))))]) hC 1 (xix_n 1 (Nat.le_of_ble_eq_true rfl) (Nat.le_of_ble_eq_true rfl)) (fun _ h => h.get 6 rfl) dX3_kick_64 (fun _ h => h.set 6 _ rfl) 65 rfl ?_
  generalize hu10 : va_up u8 1 (((r 15) - (gQ t r true false 0 1)) + (gQ t r true false 2 1)) = u10
  refine r_aload_n hC 3 dX3_kick_65 rfl 66 rfl ?_
  refine r_get (v := .ref (o 5)) hC kX3 4 rfl q188 (fun _ h => h.get 0 rfl) rfl dX3_kick_66 69 rfl ?_
  refine r_getsN hC hG hzOTH q273 dX3_kick_69 72 rfl ?_
  refine r_iload_n hC 2 dX3_kick_72 rfl 73 rfl ?_
  refine r_ialdT hC htOTH 2 (xix_n 2 (Nat.le_of_ble_eq_true rfl) (Nat.le_of_ble_eq_true rfl)) 2 rfl dX3_kick_73 74 rfl ?_
  refine r_dup2 hC dX3_kick_74 rfl rfl 75 rfl ?_
  refine r_lald hC 2 (xix_n 2 (Nat.le_of_ble_eq_true rfl) (Nat.le_of_ble_eq_true rfl)) (fun _ h => h.get 5 rfl) ((r 19) - (gQ t r true false 1 0)) (by rw [← hu9, ← hu7]; rfl) dX3_kick_75 76 rfl ?_
  refine r_lload hC 1 dX3_kick_76 rfl 78 rfl ?_
  refine r_lsub hC (((r 19) - (gQ t r true false 1 0)) - (gQ t r true false 2 0)) dX3_kick_78  (rfl) 79 rfl ?_
  refine r_last (J := xSt F V0 [(o 0, .inr (2, [.ref (o 1), .ref (o 2), .ref (o 3), .ref (o 4), .ref (o 5), .ref (o 6), .ref (o 7), .ref (o 8), .ref (o 9), .ref (o 10), .int ((r 0).toInt32)])), (o 1, .inl (0, 6, .inl (seF t r))), (o 2, .inl (0, 3, .inl (maF r))), (o 3, .inl (0, 3, .inl (plX r))), (o 4, .inl (0, 3, .inl (plY r))), (o 5, .inl (1, 3, .inr (.inl (va_up u9 2 (((r 19) - (gQ t r true false 1 0)) - (gQ t r true false 2 0)))))), (o 6, .inl (1, 3, .inr (.inl u10)))]) hC 2 (xix_n 2 (Nat.le_of_ble_eq_true rfl) (Nat.le_of_ble_eq_true rfl)) (fun _ h => h.get 5 rfl) dX3_kick_79 (fun _ h => h.set 5 _ rfl) 80 rfl ?_
  generalize hu11 : va_up u9 2 (((r 19) - (gQ t r true false 1 0)) - (gQ t r true false 2 0)) = u11
  refine r_aload_n hC 3 dX3_kick_80 rfl 81 rfl ?_
  refine r_get (v := .ref (o 6)) hC kX3 5 rfl q191 (fun _ h => h.get 0 rfl) rfl dX3_kick_81 84 rfl ?_
  refine r_getsN hC hG hzOTH q273 dX3_kick_84 87 rfl ?_
  refine r_iload_n hC 2 dX3_kick_87 rfl 88 rfl ?_
  refine r_ialdT hC htOTH 2 (xix_n 2 (Nat.le_of_ble_eq_true rfl) (Nat.le_of_ble_eq_true rfl)) 2 rfl dX3_kick_88 89 rfl ?_
  refine r_dup2 hC dX3_kick_89 rfl rfl 90 rfl ?_
  refine r_lald hC 2 (xix_n 2 (Nat.le_of_ble_eq_true rfl) (Nat.le_of_ble_eq_true rfl)) (fun _ h => h.get 6 rfl) ((r 20) - (gQ t r true false 1 1)) (by rw [← hu10, ← hu8]; rfl) dX3_kick_90 91 rfl ?_
  refine r_lload hC 0 dX3_kick_91 rfl 93 rfl ?_
  refine r_lsub hC (((r 20) - (gQ t r true false 1 1)) - (gQ t r true false 2 1)) dX3_kick_93  (rfl) 94 rfl ?_
  refine r_last (J := xSt F V0 [(o 0, .inr (2, [.ref (o 1), .ref (o 2), .ref (o 3), .ref (o 4), .ref (o 5), .ref (o 6), .ref (o 7), .ref (o 8), .ref (o 9), .ref (o 10), .int ((r 0).toInt32)])), (o 1, .inl (0, 6, .inl (seF t r))), (o 2, .inl (0, 3, .inl (maF r))), (o 3, .inl (0, 3, .inl (plX r))), (o 4, .inl (0, 3, .inl (plY r))), (o 5, .inl (1, 3, .inr (.inl u11))), (o 6, .inl (1, 3, .inr (.inl (va_up u10 2 (((r 20) - (gQ t r true false 1 1)) - (gQ t r true false 2 1))))))]) hC 2 (xix_n 2 (Nat.le_of_ble_eq_true rfl) (Nat.le_of_ble_eq_true rfl)) (fun _ h => h.get 6 rfl) dX3_kick_94 (fun _ h => h.set 6 _ rfl) 95 rfl ?_
  generalize hu12 : va_up u10 2 (((r 20) - (gQ t r true false 1 1)) - (gQ t r true false 2 1)) = u12
  refine r_iinc hC 3 3 2 [(3, .int 3), (6, .long (gQ t r true false 2 1)), (4, .long (gQ t r true false 2 0)), (0, .ref (o 0)), (1, .int 1), (2, .int 2)] dX3_kick_95 rfl (by decide) (Nat.le_of_ble_eq_true rfl) rfl 98 rfl ?_
  refine r_goto hC 2 dX3_kick_98 (by decide) ?_
  refine r_iload_n hC 0 dX3_kick_2 rfl 3 rfl ?_
  refine r_iconst hC 3 dX3_kick_3 ic_3 4 rfl ?_
  refine r_icge hC 101 dX3_kick_4 (by decide) 7 rfl (fun _ => ?_) (fun h => absurd h (by decide))
  refine r_iconst hC 0 dX3_kick_101 ic_0 102 rfl ?_
  refine r_istore_n hC 3 [(3, .int 0), (6, .long (gQ t r true false 2 1)), (4, .long (gQ t r true false 2 0)), (0, .ref (o 0)), (1, .int 1), (2, .int 2)] dX3_kick_102 rfl (Nat.le_of_ble_eq_true rfl) rfl 103 rfl ?_
  refine r_iload_n hC 0 dX3_kick_103 rfl 104 rfl ?_
  refine r_iconst hC 3 dX3_kick_104 ic_3 105 rfl ?_
  refine r_icge hC 138 dX3_kick_105 (by decide) 108 rfl (fun h => absurd h (by decide)) (fun _ => ?_)
  refine r_aload_n hC 3 dX3_kick_108 rfl 109 rfl ?_
  refine r_get (v := .ref (o 5)) hC kX3 4 rfl q188 (fun _ h => h.get 0 rfl) rfl dX3_kick_109 112 rfl ?_
  refine r_iload_n hC 0 dX3_kick_112 rfl 113 rfl ?_
  refine r_lald hC 0 (xix_n 0 (Nat.le_of_ble_eq_true rfl) (Nat.le_of_ble_eq_true rfl)) (fun _ h => h.get 5 rfl) (((r 9) + (gQ t r true false 0 0)) + (gQ t r true false 1 0)) (by rw [← hu11, ← hu9, ← hu7, ← hu5]; rfl) dX3_kick_113 114 rfl ?_
  refine r_ldc2 hC q335 dX3_kick_114 117 rfl ?_
  rcases Bool.eq_false_or_eq_true (m_in (((r 9) + (gQ t r true false 0 0)) + (gQ t r true false 1 0)) (-1000000000) 1000000000) with hk13 | hk13
  · skip
    refine xCall.r (r := none) (r_cS hC [.long (((r 9) + (gQ t r true false 0 0)) + (gQ t r true false 1 0)), .long 1000000000] mSX3_check q336 (fun V9 h9 => (metX3_checkG _ _ hG (((r 9) + (gQ t r true false 0 0)) + (gQ t r true false 1 0)) 1000000000 hk13) V9 xIn.nil) ⟨rfl, rfl⟩ (Nat.le_of_ble_eq_true rfl) (Nat.le_of_ble_eq_true rfl) rfl (Nat.le_of_ble_eq_true rfl) dX3_kick_117) 0 0 120 rfl rfl rfl ?_
    refine r_aload_n hC 3 dX3_kick_120 rfl 121 rfl ?_
    refine r_get (v := .ref (o 6)) hC kX3 5 rfl q191 (fun _ h => h.get 0 rfl) rfl dX3_kick_121 124 rfl ?_
    refine r_iload_n hC 0 dX3_kick_124 rfl 125 rfl ?_
    refine r_lald hC 0 (xix_n 0 (Nat.le_of_ble_eq_true rfl) (Nat.le_of_ble_eq_true rfl)) (fun _ h => h.get 6 rfl) (((r 10) + (gQ t r true false 0 1)) + (gQ t r true false 1 1)) (by rw [← hu12, ← hu10, ← hu8, ← hu6]; rfl) dX3_kick_125 126 rfl ?_
    refine r_ldc2 hC q335 dX3_kick_126 129 rfl ?_
    rcases Bool.eq_false_or_eq_true (m_in (((r 10) + (gQ t r true false 0 1)) + (gQ t r true false 1 1)) (-1000000000) 1000000000) with hk14 | hk14
    · skip
      refine xCall.r (r := none) (r_cS hC [.long (((r 10) + (gQ t r true false 0 1)) + (gQ t r true false 1 1)), .long 1000000000] mSX3_check q336 (fun V9 h9 => (metX3_checkG _ _ hG (((r 10) + (gQ t r true false 0 1)) + (gQ t r true false 1 1)) 1000000000 hk14) V9 xIn.nil) ⟨rfl, rfl⟩ (Nat.le_of_ble_eq_true rfl) (Nat.le_of_ble_eq_true rfl) rfl (Nat.le_of_ble_eq_true rfl) dX3_kick_129) 0 0 132 rfl rfl rfl ?_
      refine r_iinc hC 1 3 0 [(3, .int 1), (6, .long (gQ t r true false 2 1)), (4, .long (gQ t r true false 2 0)), (0, .ref (o 0)), (1, .int 1), (2, .int 2)] dX3_kick_132 rfl (by decide) (Nat.le_of_ble_eq_true rfl) rfl 135 rfl ?_
      refine r_goto hC 103 dX3_kick_135 (by decide) ?_
      refine r_iload_n hC 0 dX3_kick_103 rfl 104 rfl ?_
      refine r_iconst hC 3 dX3_kick_104 ic_3 105 rfl ?_
      refine r_icge hC 138 dX3_kick_105 (by decide) 108 rfl (fun h => absurd h (by decide)) (fun _ => ?_)
      refine r_aload_n hC 3 dX3_kick_108 rfl 109 rfl ?_
      refine r_get (v := .ref (o 5)) hC kX3 4 rfl q188 (fun _ h => h.get 0 rfl) rfl dX3_kick_109 112 rfl ?_
      refine r_iload_n hC 0 dX3_kick_112 rfl 113 rfl ?_
      refine r_lald hC 1 (xix_n 1 (Nat.le_of_ble_eq_true rfl) (Nat.le_of_ble_eq_true rfl)) (fun _ h => h.get 5 rfl) (((r 14) - (gQ t r true false 0 0)) + (gQ t r true false 2 0)) (by rw [← hu11, ← hu9]; rfl) dX3_kick_113 114 rfl ?_
      refine r_ldc2 hC q335 dX3_kick_114 117 rfl ?_
      rcases Bool.eq_false_or_eq_true (m_in (((r 14) - (gQ t r true false 0 0)) + (gQ t r true false 2 0)) (-1000000000) 1000000000) with hk15 | hk15
      · skip
        refine xCall.r (r := none) (r_cS hC [.long (((r 14) - (gQ t r true false 0 0)) + (gQ t r true false 2 0)), .long 1000000000] mSX3_check q336 (fun V9 h9 => (metX3_checkG _ _ hG (((r 14) - (gQ t r true false 0 0)) + (gQ t r true false 2 0)) 1000000000 hk15) V9 xIn.nil) ⟨rfl, rfl⟩ (Nat.le_of_ble_eq_true rfl) (Nat.le_of_ble_eq_true rfl) rfl (Nat.le_of_ble_eq_true rfl) dX3_kick_117) 0 0 120 rfl rfl rfl ?_
        refine r_aload_n hC 3 dX3_kick_120 rfl 121 rfl ?_
        refine r_get (v := .ref (o 6)) hC kX3 5 rfl q191 (fun _ h => h.get 0 rfl) rfl dX3_kick_121 124 rfl ?_
        refine r_iload_n hC 0 dX3_kick_124 rfl 125 rfl ?_
        refine r_lald hC 1 (xix_n 1 (Nat.le_of_ble_eq_true rfl) (Nat.le_of_ble_eq_true rfl)) (fun _ h => h.get 6 rfl) (((r 15) - (gQ t r true false 0 1)) + (gQ t r true false 2 1)) (by rw [← hu12, ← hu10]; rfl) dX3_kick_125 126 rfl ?_
        refine r_ldc2 hC q335 dX3_kick_126 129 rfl ?_
        rcases Bool.eq_false_or_eq_true (m_in (((r 15) - (gQ t r true false 0 1)) + (gQ t r true false 2 1)) (-1000000000) 1000000000) with hk16 | hk16
        · skip
          refine xCall.r (r := none) (r_cS hC [.long (((r 15) - (gQ t r true false 0 1)) + (gQ t r true false 2 1)), .long 1000000000] mSX3_check q336 (fun V9 h9 => (metX3_checkG _ _ hG (((r 15) - (gQ t r true false 0 1)) + (gQ t r true false 2 1)) 1000000000 hk16) V9 xIn.nil) ⟨rfl, rfl⟩ (Nat.le_of_ble_eq_true rfl) (Nat.le_of_ble_eq_true rfl) rfl (Nat.le_of_ble_eq_true rfl) dX3_kick_129) 0 0 132 rfl rfl rfl ?_
          refine r_iinc hC 2 3 0 [(3, .int 2), (6, .long (gQ t r true false 2 1)), (4, .long (gQ t r true false 2 0)), (0, .ref (o 0)), (1, .int 1), (2, .int 2)] dX3_kick_132 rfl (by decide) (Nat.le_of_ble_eq_true rfl) rfl 135 rfl ?_
          refine r_goto hC 103 dX3_kick_135 (by decide) ?_
          refine r_iload_n hC 0 dX3_kick_103 rfl 104 rfl ?_
          refine r_iconst hC 3 dX3_kick_104 ic_3 105 rfl ?_
          refine r_icge hC 138 dX3_kick_105 (by decide) 108 rfl (fun h => absurd h (by decide)) (fun _ => ?_)
          refine r_aload_n hC 3 dX3_kick_108 rfl 109 rfl ?_
          refine r_get (v := .ref (o 5)) hC kX3 4 rfl q188 (fun _ h => h.get 0 rfl) rfl dX3_kick_109 112 rfl ?_
          refine r_iload_n hC 0 dX3_kick_112 rfl 113 rfl ?_
          refine r_lald hC 2 (xix_n 2 (Nat.le_of_ble_eq_true rfl) (Nat.le_of_ble_eq_true rfl)) (fun _ h => h.get 5 rfl) (((r 19) - (gQ t r true false 1 0)) - (gQ t r true false 2 0)) (by rw [← hu11]; rfl) dX3_kick_113 114 rfl ?_
          refine r_ldc2 hC q335 dX3_kick_114 117 rfl ?_
          rcases Bool.eq_false_or_eq_true (m_in (((r 19) - (gQ t r true false 1 0)) - (gQ t r true false 2 0)) (-1000000000) 1000000000) with hk17 | hk17
          · skip
            refine xCall.r (r := none) (r_cS hC [.long (((r 19) - (gQ t r true false 1 0)) - (gQ t r true false 2 0)), .long 1000000000] mSX3_check q336 (fun V9 h9 => (metX3_checkG _ _ hG (((r 19) - (gQ t r true false 1 0)) - (gQ t r true false 2 0)) 1000000000 hk17) V9 xIn.nil) ⟨rfl, rfl⟩ (Nat.le_of_ble_eq_true rfl) (Nat.le_of_ble_eq_true rfl) rfl (Nat.le_of_ble_eq_true rfl) dX3_kick_117) 0 0 120 rfl rfl rfl ?_
            refine r_aload_n hC 3 dX3_kick_120 rfl 121 rfl ?_
            refine r_get (v := .ref (o 6)) hC kX3 5 rfl q191 (fun _ h => h.get 0 rfl) rfl dX3_kick_121 124 rfl ?_
            refine r_iload_n hC 0 dX3_kick_124 rfl 125 rfl ?_
            refine r_lald hC 2 (xix_n 2 (Nat.le_of_ble_eq_true rfl) (Nat.le_of_ble_eq_true rfl)) (fun _ h => h.get 6 rfl) (((r 20) - (gQ t r true false 1 1)) - (gQ t r true false 2 1)) (by rw [← hu12]; rfl) dX3_kick_125 126 rfl ?_
            refine r_ldc2 hC q335 dX3_kick_126 129 rfl ?_
            rcases Bool.eq_false_or_eq_true (m_in (((r 20) - (gQ t r true false 1 1)) - (gQ t r true false 2 1)) (-1000000000) 1000000000) with hk18 | hk18
            · skip
              refine xCall.r (r := none) (r_cS hC [.long (((r 20) - (gQ t r true false 1 1)) - (gQ t r true false 2 1)), .long 1000000000] mSX3_check q336 (fun V9 h9 => (metX3_checkG _ _ hG (((r 20) - (gQ t r true false 1 1)) - (gQ t r true false 2 1)) 1000000000 hk18) V9 xIn.nil) ⟨rfl, rfl⟩ (Nat.le_of_ble_eq_true rfl) (Nat.le_of_ble_eq_true rfl) rfl (Nat.le_of_ble_eq_true rfl) dX3_kick_129) 0 0 132 rfl rfl rfl ?_
              refine r_iinc hC 3 3 0 [(3, .int 3), (6, .long (gQ t r true false 2 1)), (4, .long (gQ t r true false 2 0)), (0, .ref (o 0)), (1, .int 1), (2, .int 2)] dX3_kick_132 rfl (by decide) (Nat.le_of_ble_eq_true rfl) rfl 135 rfl ?_
              refine r_goto hC 103 dX3_kick_135 (by decide) ?_
              refine r_iload_n hC 0 dX3_kick_103 rfl 104 rfl ?_
              refine r_iconst hC 3 dX3_kick_104 ic_3 105 rfl ?_
              refine r_icge hC 138 dX3_kick_105 (by decide) 108 rfl (fun _ => ?_) (fun h => absurd h (by decide))
              subst hu12
              subst hu11
              subst hu10
              subst hu9
              subst hu8
              subst hu7
              subst hu6
              subst hu5
              subst hu4
              subst hu3
              subst hu2
              subst hu1
              refine rn_cellI (J := xSt F V0 [(o 0, .inr (2, [.ref (o 1), .ref (o 2), .ref (o 3), .ref (o 4), .ref (o 5), .ref (o 6), .ref (o 7), .ref (o 8), .ref (o 9), .ref (o 10), .int ((r 0).toInt32)])), (o 1, .inl (0, 6, .inl (seF t r))), (o 2, .inl (0, 3, .inl (maF (kickQ t r true false)))), (o 3, .inl (0, 3, .inl (plX r))), (o 4, .inl (0, 3, .inl (plY r))), (o 5, .inl (1, 3, .inr (.inl (va_up (va_up (va_up (va_up (va_up (va_up (moX r) 0 ((r 9) + (gQ t r true false 0 0))) 1 ((r 14) - (gQ t r true false 0 0))) 0 (((r 9) + (gQ t r true false 0 0)) + (gQ t r true false 1 0))) 2 ((r 19) - (gQ t r true false 1 0))) 1 (((r 14) - (gQ t r true false 0 0)) + (gQ t r true false 2 0))) 2 (((r 19) - (gQ t r true false 1 0)) - (gQ t r true false 2 0)))))), (o 6, .inl (1, 3, .inr (.inl (va_up (va_up (va_up (va_up (va_up (va_up (moY r) 0 ((r 10) + (gQ t r true false 0 1))) 1 ((r 15) - (gQ t r true false 0 1))) 0 (((r 10) + (gQ t r true false 0 1)) + (gQ t r true false 1 1))) 2 ((r 20) - (gQ t r true false 1 1))) 1 (((r 15) - (gQ t r true false 0 1)) + (gQ t r true false 2 1))) 2 (((r 20) - (gQ t r true false 1 1)) - (gQ t r true false 2 1))))))]) (fun _ h => h.get 2 rfl) (fun j9 hj9 => by
                  rcases (show j9 = 0 ∨ j9 = 1 ∨ j9 = 2 by omega) with rfl | rfl | rfl
                  · exact congrArg Int64.toInt32 (kkq_6).symm
                  · exact congrArg Int64.toInt32 (kkq_11).symm
                  · exact congrArg Int64.toInt32 (kkq_16).symm) (fun _ h => h.set 2 _ rfl) ?_
              refine rn_cellI (J := xSt F V0 [(o 0, .inr (2, [.ref (o 1), .ref (o 2), .ref (o 3), .ref (o 4), .ref (o 5), .ref (o 6), .ref (o 7), .ref (o 8), .ref (o 9), .ref (o 10), .int ((r 0).toInt32)])), (o 1, .inl (0, 6, .inl (seF t r))), (o 2, .inl (0, 3, .inl (maF (kickQ t r true false)))), (o 3, .inl (0, 3, .inl (plX (kickQ t r true false)))), (o 4, .inl (0, 3, .inl (plY r))), (o 5, .inl (1, 3, .inr (.inl (va_up (va_up (va_up (va_up (va_up (va_up (moX r) 0 ((r 9) + (gQ t r true false 0 0))) 1 ((r 14) - (gQ t r true false 0 0))) 0 (((r 9) + (gQ t r true false 0 0)) + (gQ t r true false 1 0))) 2 ((r 19) - (gQ t r true false 1 0))) 1 (((r 14) - (gQ t r true false 0 0)) + (gQ t r true false 2 0))) 2 (((r 19) - (gQ t r true false 1 0)) - (gQ t r true false 2 0)))))), (o 6, .inl (1, 3, .inr (.inl (va_up (va_up (va_up (va_up (va_up (va_up (moY r) 0 ((r 10) + (gQ t r true false 0 1))) 1 ((r 15) - (gQ t r true false 0 1))) 0 (((r 10) + (gQ t r true false 0 1)) + (gQ t r true false 1 1))) 2 ((r 20) - (gQ t r true false 1 1))) 1 (((r 15) - (gQ t r true false 0 1)) + (gQ t r true false 2 1))) 2 (((r 20) - (gQ t r true false 1 1)) - (gQ t r true false 2 1))))))]) (fun _ h => h.get 3 rfl) (fun j9 hj9 => by
                  rcases (show j9 = 0 ∨ j9 = 1 ∨ j9 = 2 by omega) with rfl | rfl | rfl
                  · exact congrArg Int64.toInt32 (kkq_7).symm
                  · exact congrArg Int64.toInt32 (kkq_12).symm
                  · exact congrArg Int64.toInt32 (kkq_17).symm) (fun _ h => h.set 3 _ rfl) ?_
              refine rn_cellI (J := xSt F V0 [(o 0, .inr (2, [.ref (o 1), .ref (o 2), .ref (o 3), .ref (o 4), .ref (o 5), .ref (o 6), .ref (o 7), .ref (o 8), .ref (o 9), .ref (o 10), .int ((r 0).toInt32)])), (o 1, .inl (0, 6, .inl (seF t r))), (o 2, .inl (0, 3, .inl (maF (kickQ t r true false)))), (o 3, .inl (0, 3, .inl (plX (kickQ t r true false)))), (o 4, .inl (0, 3, .inl (plY (kickQ t r true false)))), (o 5, .inl (1, 3, .inr (.inl (va_up (va_up (va_up (va_up (va_up (va_up (moX r) 0 ((r 9) + (gQ t r true false 0 0))) 1 ((r 14) - (gQ t r true false 0 0))) 0 (((r 9) + (gQ t r true false 0 0)) + (gQ t r true false 1 0))) 2 ((r 19) - (gQ t r true false 1 0))) 1 (((r 14) - (gQ t r true false 0 0)) + (gQ t r true false 2 0))) 2 (((r 19) - (gQ t r true false 1 0)) - (gQ t r true false 2 0)))))), (o 6, .inl (1, 3, .inr (.inl (va_up (va_up (va_up (va_up (va_up (va_up (moY r) 0 ((r 10) + (gQ t r true false 0 1))) 1 ((r 15) - (gQ t r true false 0 1))) 0 (((r 10) + (gQ t r true false 0 1)) + (gQ t r true false 1 1))) 2 ((r 20) - (gQ t r true false 1 1))) 1 (((r 15) - (gQ t r true false 0 1)) + (gQ t r true false 2 1))) 2 (((r 20) - (gQ t r true false 1 1)) - (gQ t r true false 2 1))))))]) (fun _ h => h.get 4 rfl) (fun j9 hj9 => by
                  rcases (show j9 = 0 ∨ j9 = 1 ∨ j9 = 2 by omega) with rfl | rfl | rfl
                  · exact congrArg Int64.toInt32 (kkq_8).symm
                  · exact congrArg Int64.toInt32 (kkq_13).symm
                  · exact congrArg Int64.toInt32 (kkq_18).symm) (fun _ h => h.set 4 _ rfl) ?_
              refine rn_cellJ (J := xSt F V0 [(o 0, .inr (2, [.ref (o 1), .ref (o 2), .ref (o 3), .ref (o 4), .ref (o 5), .ref (o 6), .ref (o 7), .ref (o 8), .ref (o 9), .ref (o 10), .int ((r 0).toInt32)])), (o 1, .inl (0, 6, .inl (seF t r))), (o 2, .inl (0, 3, .inl (maF (kickQ t r true false)))), (o 3, .inl (0, 3, .inl (plX (kickQ t r true false)))), (o 4, .inl (0, 3, .inl (plY (kickQ t r true false)))), (o 5, .inl (1, 3, .inr (.inl (moX (kickQ t r true false))))), (o 6, .inl (1, 3, .inr (.inl (va_up (va_up (va_up (va_up (va_up (va_up (moY r) 0 ((r 10) + (gQ t r true false 0 1))) 1 ((r 15) - (gQ t r true false 0 1))) 0 (((r 10) + (gQ t r true false 0 1)) + (gQ t r true false 1 1))) 2 ((r 20) - (gQ t r true false 1 1))) 1 (((r 15) - (gQ t r true false 0 1)) + (gQ t r true false 2 1))) 2 (((r 20) - (gQ t r true false 1 1)) - (gQ t r true false 2 1))))))]) (fun _ h => h.get 5 rfl) (fun j9 hj9 => by
                  rcases (show j9 = 0 ∨ j9 = 1 ∨ j9 = 2 by omega) with rfl | rfl | rfl
                  · exact ((up_ne (by decide)).trans ((up_ne (by decide)).trans ((up_ne (by decide)).trans (up_same _ _ _)))).trans (kkq_9).symm
                  · exact ((up_ne (by decide)).trans (up_same _ _ _)).trans (kkq_14).symm
                  · exact (up_same _ _ _).trans (kkq_19).symm) (fun _ h => h.set 5 _ rfl) ?_
              refine rn_cellJ (J := xSt F V0 [(o 0, .inr (2, [.ref (o 1), .ref (o 2), .ref (o 3), .ref (o 4), .ref (o 5), .ref (o 6), .ref (o 7), .ref (o 8), .ref (o 9), .ref (o 10), .int ((r 0).toInt32)])), (o 1, .inl (0, 6, .inl (seF t r))), (o 2, .inl (0, 3, .inl (maF (kickQ t r true false)))), (o 3, .inl (0, 3, .inl (plX (kickQ t r true false)))), (o 4, .inl (0, 3, .inl (plY (kickQ t r true false)))), (o 5, .inl (1, 3, .inr (.inl (moX (kickQ t r true false))))), (o 6, .inl (1, 3, .inr (.inl (moY (kickQ t r true false)))))]) (fun _ h => h.get 6 rfl) (fun j9 hj9 => by
                  rcases (show j9 = 0 ∨ j9 = 1 ∨ j9 = 2 by omega) with rfl | rfl | rfl
                  · exact ((up_ne (by decide)).trans ((up_ne (by decide)).trans ((up_ne (by decide)).trans (up_same _ _ _)))).trans (kkq_10).symm
                  · exact ((up_ne (by decide)).trans (up_same _ _ _)).trans (kkq_15).symm
                  · exact (up_same _ _ _).trans (kkq_20).symm) (fun _ h => h.set 6 _ rfl) ?_
              exact r_vret hC (Nat.le_of_ble_eq_true rfl) (Nat.le_of_ble_eq_true rfl) (fun V9 h => hQ _ _ ⟨[(o 0, .inr (2, [.ref (o 1), .ref (o 2), .ref (o 3), .ref (o 4), .ref (o 5), .ref (o 6), .ref (o 7), .ref (o 8), .ref (o 9), .ref (o 10), .int (((kickQ t r true false) 0).toInt32)])), (o 1, .inl (0, 6, .inl (seF t (kickQ t r true false)))), (o 2, .inl (0, 3, .inl (maF (kickQ t r true false)))), (o 3, .inl (0, 3, .inl (plX (kickQ t r true false)))), (o 4, .inl (0, 3, .inl (plY (kickQ t r true false)))), (o 5, .inl (1, 3, .inr (.inl (moX (kickQ t r true false))))), (o 6, .inl (1, 3, .inr (.inl (moY (kickQ t r true false)))))], ⟨rfl, in_t (plR_kick hpl) (by rw [kkq_9]; exact hk13) (by rw [kkq_10]; exact hk14) (by rw [kkq_14]; exact hk15) (by rw [kkq_15]; exact hk16) (by rw [kkq_19]; exact hk17) (by rw [kkq_20]; exact hk18), rfl⟩, by rw [← hV0, ← hF]; exact h⟩) dX3_kick_138
            · skip
              refine xCall.w (wr := [(o 0, .inr (2, [.ref (o 1), .ref (o 2), .ref (o 3), .ref (o 4), .ref (o 5), .ref (o 6), .ref (o 7), .ref (o 8), .ref (o 9), .ref (o 10), .int ((r 0).toInt32)])), (o 1, .inl (0, 6, .inl (seF t r))), (o 2, .inl (0, 3, .inl (maF r))), (o 3, .inl (0, 3, .inl (plX r))), (o 4, .inl (0, 3, .inl (plY r))), (o 5, .inl (1, 3, .inr (.inl u11))), (o 6, .inl (1, 3, .inr (.inl u12)))]) (r_cS hC [.long (((r 20) - (gQ t r true false 1 1)) - (gQ t r true false 2 1)), .long 1000000000] mSX3_check q336 (fun V9 h9 => (metX3_checkB _ _ hG (((r 20) - (gQ t r true false 1 1)) - (gQ t r true false 2 1)) 1000000000 hk18) V9 xIn.nil) ⟨rfl, rfl⟩ (Nat.le_of_ble_eq_true rfl) (Nat.le_of_ble_eq_true rfl) rfl (Nat.le_of_ble_eq_true rfl) dX3_kick_129) [] [0, 1, 2, 3, 4, 5, 6] rfl rfl rfl (by decide) 1 6 132 rfl rfl rfl (fun _ _ h => h.elim) (fun q23 w24 h25 => ?_)
              obtain rfl := h25
              show rx C (xSt F V0 [(o 0, .inr (2, [.ref (o 1), .ref (o 2), .ref (o 3), .ref (o 4), .ref (o 5), .ref (o 6), .ref (o 7), .ref (o 8), .ref (o 9), .ref (o 10), .int ((r 0).toInt32)])), (o 1, .inl (0, 6, .inl (seF t r))), (o 2, .inl (0, 3, .inl (maF r))), (o 3, .inl (0, 3, .inl (plX r))), (o 4, .inl (0, 3, .inl (plY r))), (o 5, .inl (1, 3, .inr (.inl u11))), (o 6, .inl (1, 3, .inr (.inl u12))), (q23, .inr (3, [.null, .null, .null, .null, .null, .int 0]))]) 1 6 129 [(3, .int 2), (6, .long (gQ t r true false 2 1)), (4, .long (gQ t r true false 2 0)), (0, .ref (o 0)), (1, .int 1), (2, .int 2)] [] q23
              subst hu12
              subst hu11
              subst hu10
              subst hu9
              subst hu8
              subst hu7
              subst hu6
              subst hu5
              subst hu4
              subst hu3
              subst hu2
              subst hu1
              exact rx_out hC hTab (fun _ h => by cases h) (Nat.le_of_ble_eq_true rfl) (Nat.le_of_ble_eq_true rfl) (fun V9 h => hX _ _ ⟨[(o 0, .inr (2, [.ref (o 1), .ref (o 2), .ref (o 3), .ref (o 4), .ref (o 5), .ref (o 6), .ref (o 7), .ref (o 8), .ref (o 9), .ref (o 10), .int ((r 0).toInt32)])), (o 1, .inl (0, 6, .inl (seF t r))), (o 2, .inl (0, 3, .inl (maF r))), (o 3, .inl (0, 3, .inl (plX r))), (o 4, .inl (0, 3, .inl (plY r))), (o 5, .inl (1, 3, .inr (.inl (va_up (va_up (va_up (va_up (va_up (va_up (moX r) 0 ((r 9) + (gQ t r true false 0 0))) 1 ((r 14) - (gQ t r true false 0 0))) 0 (((r 9) + (gQ t r true false 0 0)) + (gQ t r true false 1 0))) 2 ((r 19) - (gQ t r true false 1 0))) 1 (((r 14) - (gQ t r true false 0 0)) + (gQ t r true false 2 0))) 2 (((r 19) - (gQ t r true false 1 0)) - (gQ t r true false 2 0)))))), (o 6, .inl (1, 3, .inr (.inl (va_up (va_up (va_up (va_up (va_up (va_up (moY r) 0 ((r 10) + (gQ t r true false 0 1))) 1 ((r 15) - (gQ t r true false 0 1))) 0 (((r 10) + (gQ t r true false 0 1)) + (gQ t r true false 1 1))) 2 ((r 20) - (gQ t r true false 1 1))) 1 (((r 15) - (gQ t r true false 0 1)) + (gQ t r true false 2 1))) 2 (((r 20) - (gQ t r true false 1 1)) - (gQ t r true false 2 1)))))), (q23, .inr (3, [.null, .null, .null, .null, .null, .int 0]))], ⟨in_f20 (by rw [kkq_20]; exact hk18), _, _, rfl⟩, by rw [← hV0, ← hF]; exact h⟩)
          · skip
            refine xCall.w (wr := [(o 0, .inr (2, [.ref (o 1), .ref (o 2), .ref (o 3), .ref (o 4), .ref (o 5), .ref (o 6), .ref (o 7), .ref (o 8), .ref (o 9), .ref (o 10), .int ((r 0).toInt32)])), (o 1, .inl (0, 6, .inl (seF t r))), (o 2, .inl (0, 3, .inl (maF r))), (o 3, .inl (0, 3, .inl (plX r))), (o 4, .inl (0, 3, .inl (plY r))), (o 5, .inl (1, 3, .inr (.inl u11))), (o 6, .inl (1, 3, .inr (.inl u12)))]) (r_cS hC [.long (((r 19) - (gQ t r true false 1 0)) - (gQ t r true false 2 0)), .long 1000000000] mSX3_check q336 (fun V9 h9 => (metX3_checkB _ _ hG (((r 19) - (gQ t r true false 1 0)) - (gQ t r true false 2 0)) 1000000000 hk17) V9 xIn.nil) ⟨rfl, rfl⟩ (Nat.le_of_ble_eq_true rfl) (Nat.le_of_ble_eq_true rfl) rfl (Nat.le_of_ble_eq_true rfl) dX3_kick_117) [] [0, 1, 2, 3, 4, 5, 6] rfl rfl rfl (by decide) 1 6 120 rfl rfl rfl (fun _ _ h => h.elim) (fun q30 w31 h32 => ?_)
            obtain rfl := h32
            show rx C (xSt F V0 [(o 0, .inr (2, [.ref (o 1), .ref (o 2), .ref (o 3), .ref (o 4), .ref (o 5), .ref (o 6), .ref (o 7), .ref (o 8), .ref (o 9), .ref (o 10), .int ((r 0).toInt32)])), (o 1, .inl (0, 6, .inl (seF t r))), (o 2, .inl (0, 3, .inl (maF r))), (o 3, .inl (0, 3, .inl (plX r))), (o 4, .inl (0, 3, .inl (plY r))), (o 5, .inl (1, 3, .inr (.inl u11))), (o 6, .inl (1, 3, .inr (.inl u12))), (q30, .inr (3, [.null, .null, .null, .null, .null, .int 0]))]) 1 6 117 [(3, .int 2), (6, .long (gQ t r true false 2 1)), (4, .long (gQ t r true false 2 0)), (0, .ref (o 0)), (1, .int 1), (2, .int 2)] [] q30
            subst hu12
            subst hu11
            subst hu10
            subst hu9
            subst hu8
            subst hu7
            subst hu6
            subst hu5
            subst hu4
            subst hu3
            subst hu2
            subst hu1
            exact rx_out hC hTab (fun _ h => by cases h) (Nat.le_of_ble_eq_true rfl) (Nat.le_of_ble_eq_true rfl) (fun V9 h => hX _ _ ⟨[(o 0, .inr (2, [.ref (o 1), .ref (o 2), .ref (o 3), .ref (o 4), .ref (o 5), .ref (o 6), .ref (o 7), .ref (o 8), .ref (o 9), .ref (o 10), .int ((r 0).toInt32)])), (o 1, .inl (0, 6, .inl (seF t r))), (o 2, .inl (0, 3, .inl (maF r))), (o 3, .inl (0, 3, .inl (plX r))), (o 4, .inl (0, 3, .inl (plY r))), (o 5, .inl (1, 3, .inr (.inl (va_up (va_up (va_up (va_up (va_up (va_up (moX r) 0 ((r 9) + (gQ t r true false 0 0))) 1 ((r 14) - (gQ t r true false 0 0))) 0 (((r 9) + (gQ t r true false 0 0)) + (gQ t r true false 1 0))) 2 ((r 19) - (gQ t r true false 1 0))) 1 (((r 14) - (gQ t r true false 0 0)) + (gQ t r true false 2 0))) 2 (((r 19) - (gQ t r true false 1 0)) - (gQ t r true false 2 0)))))), (o 6, .inl (1, 3, .inr (.inl (va_up (va_up (va_up (va_up (va_up (va_up (moY r) 0 ((r 10) + (gQ t r true false 0 1))) 1 ((r 15) - (gQ t r true false 0 1))) 0 (((r 10) + (gQ t r true false 0 1)) + (gQ t r true false 1 1))) 2 ((r 20) - (gQ t r true false 1 1))) 1 (((r 15) - (gQ t r true false 0 1)) + (gQ t r true false 2 1))) 2 (((r 20) - (gQ t r true false 1 1)) - (gQ t r true false 2 1)))))), (q30, .inr (3, [.null, .null, .null, .null, .null, .int 0]))], ⟨in_f19 (by rw [kkq_19]; exact hk17), _, _, rfl⟩, by rw [← hV0, ← hF]; exact h⟩)
        · skip
          refine xCall.w (wr := [(o 0, .inr (2, [.ref (o 1), .ref (o 2), .ref (o 3), .ref (o 4), .ref (o 5), .ref (o 6), .ref (o 7), .ref (o 8), .ref (o 9), .ref (o 10), .int ((r 0).toInt32)])), (o 1, .inl (0, 6, .inl (seF t r))), (o 2, .inl (0, 3, .inl (maF r))), (o 3, .inl (0, 3, .inl (plX r))), (o 4, .inl (0, 3, .inl (plY r))), (o 5, .inl (1, 3, .inr (.inl u11))), (o 6, .inl (1, 3, .inr (.inl u12)))]) (r_cS hC [.long (((r 15) - (gQ t r true false 0 1)) + (gQ t r true false 2 1)), .long 1000000000] mSX3_check q336 (fun V9 h9 => (metX3_checkB _ _ hG (((r 15) - (gQ t r true false 0 1)) + (gQ t r true false 2 1)) 1000000000 hk16) V9 xIn.nil) ⟨rfl, rfl⟩ (Nat.le_of_ble_eq_true rfl) (Nat.le_of_ble_eq_true rfl) rfl (Nat.le_of_ble_eq_true rfl) dX3_kick_129) [] [0, 1, 2, 3, 4, 5, 6] rfl rfl rfl (by decide) 1 6 132 rfl rfl rfl (fun _ _ h => h.elim) (fun q37 w38 h39 => ?_)
          obtain rfl := h39
          show rx C (xSt F V0 [(o 0, .inr (2, [.ref (o 1), .ref (o 2), .ref (o 3), .ref (o 4), .ref (o 5), .ref (o 6), .ref (o 7), .ref (o 8), .ref (o 9), .ref (o 10), .int ((r 0).toInt32)])), (o 1, .inl (0, 6, .inl (seF t r))), (o 2, .inl (0, 3, .inl (maF r))), (o 3, .inl (0, 3, .inl (plX r))), (o 4, .inl (0, 3, .inl (plY r))), (o 5, .inl (1, 3, .inr (.inl u11))), (o 6, .inl (1, 3, .inr (.inl u12))), (q37, .inr (3, [.null, .null, .null, .null, .null, .int 0]))]) 1 6 129 [(3, .int 1), (6, .long (gQ t r true false 2 1)), (4, .long (gQ t r true false 2 0)), (0, .ref (o 0)), (1, .int 1), (2, .int 2)] [] q37
          subst hu12
          subst hu11
          subst hu10
          subst hu9
          subst hu8
          subst hu7
          subst hu6
          subst hu5
          subst hu4
          subst hu3
          subst hu2
          subst hu1
          exact rx_out hC hTab (fun _ h => by cases h) (Nat.le_of_ble_eq_true rfl) (Nat.le_of_ble_eq_true rfl) (fun V9 h => hX _ _ ⟨[(o 0, .inr (2, [.ref (o 1), .ref (o 2), .ref (o 3), .ref (o 4), .ref (o 5), .ref (o 6), .ref (o 7), .ref (o 8), .ref (o 9), .ref (o 10), .int ((r 0).toInt32)])), (o 1, .inl (0, 6, .inl (seF t r))), (o 2, .inl (0, 3, .inl (maF r))), (o 3, .inl (0, 3, .inl (plX r))), (o 4, .inl (0, 3, .inl (plY r))), (o 5, .inl (1, 3, .inr (.inl (va_up (va_up (va_up (va_up (va_up (va_up (moX r) 0 ((r 9) + (gQ t r true false 0 0))) 1 ((r 14) - (gQ t r true false 0 0))) 0 (((r 9) + (gQ t r true false 0 0)) + (gQ t r true false 1 0))) 2 ((r 19) - (gQ t r true false 1 0))) 1 (((r 14) - (gQ t r true false 0 0)) + (gQ t r true false 2 0))) 2 (((r 19) - (gQ t r true false 1 0)) - (gQ t r true false 2 0)))))), (o 6, .inl (1, 3, .inr (.inl (va_up (va_up (va_up (va_up (va_up (va_up (moY r) 0 ((r 10) + (gQ t r true false 0 1))) 1 ((r 15) - (gQ t r true false 0 1))) 0 (((r 10) + (gQ t r true false 0 1)) + (gQ t r true false 1 1))) 2 ((r 20) - (gQ t r true false 1 1))) 1 (((r 15) - (gQ t r true false 0 1)) + (gQ t r true false 2 1))) 2 (((r 20) - (gQ t r true false 1 1)) - (gQ t r true false 2 1)))))), (q37, .inr (3, [.null, .null, .null, .null, .null, .int 0]))], ⟨in_f15 (by rw [kkq_15]; exact hk16), _, _, rfl⟩, by rw [← hV0, ← hF]; exact h⟩)
      · skip
        refine xCall.w (wr := [(o 0, .inr (2, [.ref (o 1), .ref (o 2), .ref (o 3), .ref (o 4), .ref (o 5), .ref (o 6), .ref (o 7), .ref (o 8), .ref (o 9), .ref (o 10), .int ((r 0).toInt32)])), (o 1, .inl (0, 6, .inl (seF t r))), (o 2, .inl (0, 3, .inl (maF r))), (o 3, .inl (0, 3, .inl (plX r))), (o 4, .inl (0, 3, .inl (plY r))), (o 5, .inl (1, 3, .inr (.inl u11))), (o 6, .inl (1, 3, .inr (.inl u12)))]) (r_cS hC [.long (((r 14) - (gQ t r true false 0 0)) + (gQ t r true false 2 0)), .long 1000000000] mSX3_check q336 (fun V9 h9 => (metX3_checkB _ _ hG (((r 14) - (gQ t r true false 0 0)) + (gQ t r true false 2 0)) 1000000000 hk15) V9 xIn.nil) ⟨rfl, rfl⟩ (Nat.le_of_ble_eq_true rfl) (Nat.le_of_ble_eq_true rfl) rfl (Nat.le_of_ble_eq_true rfl) dX3_kick_117) [] [0, 1, 2, 3, 4, 5, 6] rfl rfl rfl (by decide) 1 6 120 rfl rfl rfl (fun _ _ h => h.elim) (fun q44 w45 h46 => ?_)
        obtain rfl := h46
        show rx C (xSt F V0 [(o 0, .inr (2, [.ref (o 1), .ref (o 2), .ref (o 3), .ref (o 4), .ref (o 5), .ref (o 6), .ref (o 7), .ref (o 8), .ref (o 9), .ref (o 10), .int ((r 0).toInt32)])), (o 1, .inl (0, 6, .inl (seF t r))), (o 2, .inl (0, 3, .inl (maF r))), (o 3, .inl (0, 3, .inl (plX r))), (o 4, .inl (0, 3, .inl (plY r))), (o 5, .inl (1, 3, .inr (.inl u11))), (o 6, .inl (1, 3, .inr (.inl u12))), (q44, .inr (3, [.null, .null, .null, .null, .null, .int 0]))]) 1 6 117 [(3, .int 1), (6, .long (gQ t r true false 2 1)), (4, .long (gQ t r true false 2 0)), (0, .ref (o 0)), (1, .int 1), (2, .int 2)] [] q44
        subst hu12
        subst hu11
        subst hu10
        subst hu9
        subst hu8
        subst hu7
        subst hu6
        subst hu5
        subst hu4
        subst hu3
        subst hu2
        subst hu1
        exact rx_out hC hTab (fun _ h => by cases h) (Nat.le_of_ble_eq_true rfl) (Nat.le_of_ble_eq_true rfl) (fun V9 h => hX _ _ ⟨[(o 0, .inr (2, [.ref (o 1), .ref (o 2), .ref (o 3), .ref (o 4), .ref (o 5), .ref (o 6), .ref (o 7), .ref (o 8), .ref (o 9), .ref (o 10), .int ((r 0).toInt32)])), (o 1, .inl (0, 6, .inl (seF t r))), (o 2, .inl (0, 3, .inl (maF r))), (o 3, .inl (0, 3, .inl (plX r))), (o 4, .inl (0, 3, .inl (plY r))), (o 5, .inl (1, 3, .inr (.inl (va_up (va_up (va_up (va_up (va_up (va_up (moX r) 0 ((r 9) + (gQ t r true false 0 0))) 1 ((r 14) - (gQ t r true false 0 0))) 0 (((r 9) + (gQ t r true false 0 0)) + (gQ t r true false 1 0))) 2 ((r 19) - (gQ t r true false 1 0))) 1 (((r 14) - (gQ t r true false 0 0)) + (gQ t r true false 2 0))) 2 (((r 19) - (gQ t r true false 1 0)) - (gQ t r true false 2 0)))))), (o 6, .inl (1, 3, .inr (.inl (va_up (va_up (va_up (va_up (va_up (va_up (moY r) 0 ((r 10) + (gQ t r true false 0 1))) 1 ((r 15) - (gQ t r true false 0 1))) 0 (((r 10) + (gQ t r true false 0 1)) + (gQ t r true false 1 1))) 2 ((r 20) - (gQ t r true false 1 1))) 1 (((r 15) - (gQ t r true false 0 1)) + (gQ t r true false 2 1))) 2 (((r 20) - (gQ t r true false 1 1)) - (gQ t r true false 2 1)))))), (q44, .inr (3, [.null, .null, .null, .null, .null, .int 0]))], ⟨in_f14 (by rw [kkq_14]; exact hk15), _, _, rfl⟩, by rw [← hV0, ← hF]; exact h⟩)
    · skip
      refine xCall.w (wr := [(o 0, .inr (2, [.ref (o 1), .ref (o 2), .ref (o 3), .ref (o 4), .ref (o 5), .ref (o 6), .ref (o 7), .ref (o 8), .ref (o 9), .ref (o 10), .int ((r 0).toInt32)])), (o 1, .inl (0, 6, .inl (seF t r))), (o 2, .inl (0, 3, .inl (maF r))), (o 3, .inl (0, 3, .inl (plX r))), (o 4, .inl (0, 3, .inl (plY r))), (o 5, .inl (1, 3, .inr (.inl u11))), (o 6, .inl (1, 3, .inr (.inl u12)))]) (r_cS hC [.long (((r 10) + (gQ t r true false 0 1)) + (gQ t r true false 1 1)), .long 1000000000] mSX3_check q336 (fun V9 h9 => (metX3_checkB _ _ hG (((r 10) + (gQ t r true false 0 1)) + (gQ t r true false 1 1)) 1000000000 hk14) V9 xIn.nil) ⟨rfl, rfl⟩ (Nat.le_of_ble_eq_true rfl) (Nat.le_of_ble_eq_true rfl) rfl (Nat.le_of_ble_eq_true rfl) dX3_kick_129) [] [0, 1, 2, 3, 4, 5, 6] rfl rfl rfl (by decide) 1 6 132 rfl rfl rfl (fun _ _ h => h.elim) (fun q51 w52 h53 => ?_)
      obtain rfl := h53
      show rx C (xSt F V0 [(o 0, .inr (2, [.ref (o 1), .ref (o 2), .ref (o 3), .ref (o 4), .ref (o 5), .ref (o 6), .ref (o 7), .ref (o 8), .ref (o 9), .ref (o 10), .int ((r 0).toInt32)])), (o 1, .inl (0, 6, .inl (seF t r))), (o 2, .inl (0, 3, .inl (maF r))), (o 3, .inl (0, 3, .inl (plX r))), (o 4, .inl (0, 3, .inl (plY r))), (o 5, .inl (1, 3, .inr (.inl u11))), (o 6, .inl (1, 3, .inr (.inl u12))), (q51, .inr (3, [.null, .null, .null, .null, .null, .int 0]))]) 1 6 129 [(3, .int 0), (6, .long (gQ t r true false 2 1)), (4, .long (gQ t r true false 2 0)), (0, .ref (o 0)), (1, .int 1), (2, .int 2)] [] q51
      subst hu12
      subst hu11
      subst hu10
      subst hu9
      subst hu8
      subst hu7
      subst hu6
      subst hu5
      subst hu4
      subst hu3
      subst hu2
      subst hu1
      exact rx_out hC hTab (fun _ h => by cases h) (Nat.le_of_ble_eq_true rfl) (Nat.le_of_ble_eq_true rfl) (fun V9 h => hX _ _ ⟨[(o 0, .inr (2, [.ref (o 1), .ref (o 2), .ref (o 3), .ref (o 4), .ref (o 5), .ref (o 6), .ref (o 7), .ref (o 8), .ref (o 9), .ref (o 10), .int ((r 0).toInt32)])), (o 1, .inl (0, 6, .inl (seF t r))), (o 2, .inl (0, 3, .inl (maF r))), (o 3, .inl (0, 3, .inl (plX r))), (o 4, .inl (0, 3, .inl (plY r))), (o 5, .inl (1, 3, .inr (.inl (va_up (va_up (va_up (va_up (va_up (va_up (moX r) 0 ((r 9) + (gQ t r true false 0 0))) 1 ((r 14) - (gQ t r true false 0 0))) 0 (((r 9) + (gQ t r true false 0 0)) + (gQ t r true false 1 0))) 2 ((r 19) - (gQ t r true false 1 0))) 1 (((r 14) - (gQ t r true false 0 0)) + (gQ t r true false 2 0))) 2 (((r 19) - (gQ t r true false 1 0)) - (gQ t r true false 2 0)))))), (o 6, .inl (1, 3, .inr (.inl (va_up (va_up (va_up (va_up (va_up (va_up (moY r) 0 ((r 10) + (gQ t r true false 0 1))) 1 ((r 15) - (gQ t r true false 0 1))) 0 (((r 10) + (gQ t r true false 0 1)) + (gQ t r true false 1 1))) 2 ((r 20) - (gQ t r true false 1 1))) 1 (((r 15) - (gQ t r true false 0 1)) + (gQ t r true false 2 1))) 2 (((r 20) - (gQ t r true false 1 1)) - (gQ t r true false 2 1)))))), (q51, .inr (3, [.null, .null, .null, .null, .null, .int 0]))], ⟨in_f10 (by rw [kkq_10]; exact hk14), _, _, rfl⟩, by rw [← hV0, ← hF]; exact h⟩)
  · skip
    refine xCall.w (wr := [(o 0, .inr (2, [.ref (o 1), .ref (o 2), .ref (o 3), .ref (o 4), .ref (o 5), .ref (o 6), .ref (o 7), .ref (o 8), .ref (o 9), .ref (o 10), .int ((r 0).toInt32)])), (o 1, .inl (0, 6, .inl (seF t r))), (o 2, .inl (0, 3, .inl (maF r))), (o 3, .inl (0, 3, .inl (plX r))), (o 4, .inl (0, 3, .inl (plY r))), (o 5, .inl (1, 3, .inr (.inl u11))), (o 6, .inl (1, 3, .inr (.inl u12)))]) (r_cS hC [.long (((r 9) + (gQ t r true false 0 0)) + (gQ t r true false 1 0)), .long 1000000000] mSX3_check q336 (fun V9 h9 => (metX3_checkB _ _ hG (((r 9) + (gQ t r true false 0 0)) + (gQ t r true false 1 0)) 1000000000 hk13) V9 xIn.nil) ⟨rfl, rfl⟩ (Nat.le_of_ble_eq_true rfl) (Nat.le_of_ble_eq_true rfl) rfl (Nat.le_of_ble_eq_true rfl) dX3_kick_117) [] [0, 1, 2, 3, 4, 5, 6] rfl rfl rfl (by decide) 1 6 120 rfl rfl rfl (fun _ _ h => h.elim) (fun q58 w59 h60 => ?_)
    obtain rfl := h60
    show rx C (xSt F V0 [(o 0, .inr (2, [.ref (o 1), .ref (o 2), .ref (o 3), .ref (o 4), .ref (o 5), .ref (o 6), .ref (o 7), .ref (o 8), .ref (o 9), .ref (o 10), .int ((r 0).toInt32)])), (o 1, .inl (0, 6, .inl (seF t r))), (o 2, .inl (0, 3, .inl (maF r))), (o 3, .inl (0, 3, .inl (plX r))), (o 4, .inl (0, 3, .inl (plY r))), (o 5, .inl (1, 3, .inr (.inl u11))), (o 6, .inl (1, 3, .inr (.inl u12))), (q58, .inr (3, [.null, .null, .null, .null, .null, .int 0]))]) 1 6 117 [(3, .int 0), (6, .long (gQ t r true false 2 1)), (4, .long (gQ t r true false 2 0)), (0, .ref (o 0)), (1, .int 1), (2, .int 2)] [] q58
    subst hu12
    subst hu11
    subst hu10
    subst hu9
    subst hu8
    subst hu7
    subst hu6
    subst hu5
    subst hu4
    subst hu3
    subst hu2
    subst hu1
    exact rx_out hC hTab (fun _ h => by cases h) (Nat.le_of_ble_eq_true rfl) (Nat.le_of_ble_eq_true rfl) (fun V9 h => hX _ _ ⟨[(o 0, .inr (2, [.ref (o 1), .ref (o 2), .ref (o 3), .ref (o 4), .ref (o 5), .ref (o 6), .ref (o 7), .ref (o 8), .ref (o 9), .ref (o 10), .int ((r 0).toInt32)])), (o 1, .inl (0, 6, .inl (seF t r))), (o 2, .inl (0, 3, .inl (maF r))), (o 3, .inl (0, 3, .inl (plX r))), (o 4, .inl (0, 3, .inl (plY r))), (o 5, .inl (1, 3, .inr (.inl (va_up (va_up (va_up (va_up (va_up (va_up (moX r) 0 ((r 9) + (gQ t r true false 0 0))) 1 ((r 14) - (gQ t r true false 0 0))) 0 (((r 9) + (gQ t r true false 0 0)) + (gQ t r true false 1 0))) 2 ((r 19) - (gQ t r true false 1 0))) 1 (((r 14) - (gQ t r true false 0 0)) + (gQ t r true false 2 0))) 2 (((r 19) - (gQ t r true false 1 0)) - (gQ t r true false 2 0)))))), (o 6, .inl (1, 3, .inr (.inl (va_up (va_up (va_up (va_up (va_up (va_up (moY r) 0 ((r 10) + (gQ t r true false 0 1))) 1 ((r 15) - (gQ t r true false 0 1))) 0 (((r 10) + (gQ t r true false 0 1)) + (gQ t r true false 1 1))) 2 ((r 20) - (gQ t r true false 1 1))) 1 (((r 15) - (gQ t r true false 0 1)) + (gQ t r true false 2 1))) 2 (((r 20) - (gQ t r true false 1 1)) - (gQ t r true false 2 1)))))), (q58, .inr (3, [.null, .null, .null, .null, .null, .int 0]))], ⟨in_f9 (by rw [kkq_9]; exact hk13), _, _, rfl⟩, by rw [← hV0, ← hF]; exact h⟩)
set_option maxHeartbeats 4000000 in
set_option maxRecDepth 100000 in
theorem metX3_kick10S (l : Launch) (G : xG) (hG : xGood G) (o : Nat → Nat) (t r : Nat → Int64) (hpl : plR r) (ht : tOK t) (hm : mOK r) (hin : isInQ (kickQ t r true false) = true) : xWm l G yX3_kick (Cond.code yX3_kick cX3_kick 8 none) { frames := 4, locals := 98, cells := 0, slots := 0 } [.ref (o 0), .int 1, .int 2] [(o 0, .inr (2, [.ref (o 1), .ref (o 2), .ref (o 3), .ref (o 4), .ref (o 5), .ref (o 6), .ref (o 7), .ref (o 8), .ref (o 9), .ref (o 10), .int ((r 0).toInt32)])), (o 1, .inl (0, 6, .inl (seF t r))), (o 2, .inl (0, 3, .inl (maF r))), (o 3, .inl (0, 3, .inl (plX r))), (o 4, .inl (0, 3, .inl (plY r))), (o 5, .inl (1, 3, .inr (.inl (moX r)))), (o 6, .inl (1, 3, .inr (.inl (moY r))))] (fun v w' => v = none ∧ isInQ (kickQ t r true false) = true ∧ w' = [(o 0, .inr (2, [.ref (o 1), .ref (o 2), .ref (o 3), .ref (o 4), .ref (o 5), .ref (o 6), .ref (o 7), .ref (o 8), .ref (o 9), .ref (o 10), .int (((kickQ t r true false) 0).toInt32)])), (o 1, .inl (0, 6, .inl (seF t (kickQ t r true false)))), (o 2, .inl (0, 3, .inl (maF (kickQ t r true false)))), (o 3, .inl (0, 3, .inl (plX (kickQ t r true false)))), (o 4, .inl (0, 3, .inl (plY (kickQ t r true false)))), (o 5, .inl (1, 3, .inr (.inl (moX (kickQ t r true false))))), (o 6, .inl (1, 3, .inr (.inl (moY (kickQ t r true false)))))]) (fun _ _ => False) := by
  intro V hV
  refine xMet_ofT RX3 hG rfl (by decide) (Nat.le_of_ble_eq_true rfl) fun C hC hQ hX hl hg _ hTab => ?_
  subst hl hg
  obtain ⟨tONE, hzONE, htONE⟩ := za_ONE hG
  obtain ⟨tOTH, hzOTH, htOTH⟩ := za_OTH hG
  obtain ⟨V0, hV0⟩ : ∃ V0, V0 = V := ⟨_, rfl⟩
  obtain ⟨F, hF⟩ : ∃ F, F = xF [(o 0, .inr (2, [.ref (o 1), .ref (o 2), .ref (o 3), .ref (o 4), .ref (o 5), .ref (o 6), .ref (o 7), .ref (o 8), .ref (o 9), .ref (o 10), .int ((r 0).toInt32)])), (o 1, .inl (0, 6, .inl (seF t r))), (o 2, .inl (0, 3, .inl (maF r))), (o 3, .inl (0, 3, .inl (plX r))), (o 4, .inl (0, 3, .inl (plY r))), (o 5, .inl (1, 3, .inr (.inl (moX r)))), (o 6, .inl (1, 3, .inr (.inl (moY r))))] := ⟨_, rfl⟩
  refine rn.mono (J := xSt F V0 [(o 0, .inr (2, [.ref (o 1), .ref (o 2), .ref (o 3), .ref (o 4), .ref (o 5), .ref (o 6), .ref (o 7), .ref (o 8), .ref (o 9), .ref (o 10), .int ((r 0).toInt32)])), (o 1, .inl (0, 6, .inl (seF t r))), (o 2, .inl (0, 3, .inl (maF r))), (o 3, .inl (0, 3, .inl (plX r))), (o 4, .inl (0, 3, .inl (plY r))), (o 5, .inl (1, 3, .inr (.inl (moX r)))), (o 6, .inl (1, 3, .inr (.inl (moY r))))]) (fun V9 h => by rw [h, hV0, hF]; exact hV.st) ?_
  show rn C (xSt F V0 [(o 0, .inr (2, [.ref (o 1), .ref (o 2), .ref (o 3), .ref (o 4), .ref (o 5), .ref (o 6), .ref (o 7), .ref (o 8), .ref (o 9), .ref (o 10), .int ((r 0).toInt32)])), (o 1, .inl (0, 6, .inl (seF t r))), (o 2, .inl (0, 3, .inl (maF r))), (o 3, .inl (0, 3, .inl (plX r))), (o 4, .inl (0, 3, .inl (plY r))), (o 5, .inl (1, 3, .inr (.inl (moX r)))), (o 6, .inl (1, 3, .inr (.inl (moY r))))]) 0 0 0 [(0, .ref (o 0)), (1, .int 1), (2, .int 2)] []
  refine r_iconst hC 0 dX3_kick_0 ic_0 1 rfl ?_
  refine r_istore_n hC 3 [(3, .int 0), (0, .ref (o 0)), (1, .int 1), (2, .int 2)] dX3_kick_1 rfl (Nat.le_of_ble_eq_true rfl) rfl 2 rfl ?_
  refine r_iload_n hC 0 dX3_kick_2 rfl 3 rfl ?_
  refine r_iconst hC 3 dX3_kick_3 ic_3 4 rfl ?_
  refine r_icge hC 101 dX3_kick_4 (by decide) 7 rfl (fun h => absurd h (by decide)) (fun _ => ?_)
  refine r_iload_n hC 2 dX3_kick_7 rfl 8 rfl ?_
  refine r_i2l hC 1 dX3_kick_8 (by decide) 9 rfl ?_
  refine r_aload_n hC 1 dX3_kick_9 rfl 10 rfl ?_
  refine r_iload_n hC 0 dX3_kick_10 rfl 11 rfl ?_
  refine r_iconst hC 0 dX3_kick_11 ic_0 12 rfl ?_
  refine xCall.r (r := some (.long (impQ t r 0 0))) (r_cV hC kX3 (o 0) [.int 0, .int 0] mVX3_impulse q331 (fun _ h => ⟨_, h.get 0 rfl⟩) (fun V9 h9 => (metX3_impulse0 _ _ hG o t r 0 (Nat.le_of_ble_eq_true rfl) hpl ht hm) V9 (h9.in.sub [0, 1, 2, 3, 4] rfl rfl)) ⟨rfl, rfl⟩ (Nat.le_of_ble_eq_true rfl) (Nat.le_of_ble_eq_true rfl) rfl (Nat.le_of_ble_eq_true rfl) dX3_kick_12) 0 0 15 rfl rfl rfl ?_
  refine r_iload_n hC 3 dX3_kick_15 rfl 16 rfl ?_
  refine r_i2l hC 2 dX3_kick_16 (by decide) 17 rfl ?_
  refine r_ldiv hC ((impQ t r 0 0) / 2) dX3_kick_17 (by decide) (rfl) 18 rfl ?_
  refine r_lmul hC (1 * ((impQ t r 0 0) / 2)) dX3_kick_18  (rfl) 19 rfl ?_
  refine r_eql (y := gQ t r true false 0 0) (g10 _) ?_
  refine r_lstore hC 4 [(4, .long (gQ t r true false 0 0)), (3, .int 0), (0, .ref (o 0)), (1, .int 1), (2, .int 2)] dX3_kick_19 (Nat.le_of_ble_eq_true rfl) rfl 21 rfl ?_
  refine r_iload_n hC 3 dX3_kick_21 rfl 22 rfl ?_
  refine r_i2l hC 1 dX3_kick_22 (by decide) 23 rfl ?_
  refine r_aload_n hC 2 dX3_kick_23 rfl 24 rfl ?_
  refine r_iload_n hC 1 dX3_kick_24 rfl 25 rfl ?_
  refine r_iconst hC 1 dX3_kick_25 ic_1 26 rfl ?_
  refine xCall.r (r := some (.long (impQ t r 0 1))) (r_cV hC kX3 (o 0) [.int 0, .int 1] mVX3_impulse q331 (fun _ h => ⟨_, h.get 0 rfl⟩) (fun V9 h9 => (metX3_impulse1 _ _ hG o t r 0 (Nat.le_of_ble_eq_true rfl) hpl ht hm) V9 (h9.in.sub [0, 1, 2, 3, 4] rfl rfl)) ⟨rfl, rfl⟩ (Nat.le_of_ble_eq_true rfl) (Nat.le_of_ble_eq_true rfl) rfl (Nat.le_of_ble_eq_true rfl) dX3_kick_26) 0 0 29 rfl rfl rfl ?_
  refine r_iload_n hC 4 dX3_kick_29 rfl 30 rfl ?_
  refine r_i2l hC 2 dX3_kick_30 (by decide) 31 rfl ?_
  refine r_ldiv hC ((impQ t r 0 1) / 2) dX3_kick_31 (by decide) (rfl) 32 rfl ?_
  refine r_lmul hC (1 * ((impQ t r 0 1) / 2)) dX3_kick_32  (rfl) 33 rfl ?_
  refine r_eql (y := gQ t r true false 0 1) (g10 _) ?_
  refine r_lstore hC 6 [(6, .long (gQ t r true false 0 1)), (4, .long (gQ t r true false 0 0)), (3, .int 0), (0, .ref (o 0)), (1, .int 1), (2, .int 2)] dX3_kick_33 (Nat.le_of_ble_eq_true rfl) rfl 35 rfl ?_
  refine r_aload_n hC 3 dX3_kick_35 rfl 36 rfl ?_
  refine r_get (v := .ref (o 5)) hC kX3 4 rfl q188 (fun _ h => h.get 0 rfl) rfl dX3_kick_36 39 rfl ?_
  refine r_getsN hC hG hzONE q271 dX3_kick_39 42 rfl ?_
  refine r_iload_n hC 2 dX3_kick_42 rfl 43 rfl ?_
  refine r_ialdT hC htONE 0 (xix_n 0 (Nat.le_of_ble_eq_true rfl) (Nat.le_of_ble_eq_true rfl)) 0 rfl dX3_kick_43 44 rfl ?_
  refine r_dup2 hC dX3_kick_44 rfl rfl 45 rfl ?_
  refine r_lald hC 0 (xix_n 0 (Nat.le_of_ble_eq_true rfl) (Nat.le_of_ble_eq_true rfl)) (fun _ h => h.get 5 rfl) (moX r 0) (rfl) dX3_kick_45 46 rfl ?_
  refine r_eql (y := r 9) (rfl) ?_
  refine r_lload hC 1 dX3_kick_46 rfl 48 rfl ?_
  refine r_ladd hC ((r 9) + (gQ t r true false 0 0)) dX3_kick_48  (rfl) 49 rfl ?_
  refine r_last (J := xSt F V0 [(o 0, .inr (2, [.ref (o 1), .ref (o 2), .ref (o 3), .ref (o 4), .ref (o 5), .ref (o 6), .ref (o 7), .ref (o 8), .ref (o 9), .ref (o 10), .int ((r 0).toInt32)])), (o 1, .inl (0, 6, .inl (seF t r))), (o 2, .inl (0, 3, .inl (maF r))), (o 3, .inl (0, 3, .inl (plX r))), (o 4, .inl (0, 3, .inl (plY r))), (o 5, .inl (1, 3, .inr (.inl (va_up (moX r) 0 ((r 9) + (gQ t r true false 0 0)))))), (o 6, .inl (1, 3, .inr (.inl (moY r))))]) hC 0 (xix_n 0 (Nat.le_of_ble_eq_true rfl) (Nat.le_of_ble_eq_true rfl)) (fun _ h => h.get 5 rfl) dX3_kick_49 (fun _ h => h.set 5 _ rfl) 50 rfl ?_
  generalize hu1 : va_up (moX r) 0 ((r 9) + (gQ t r true false 0 0)) = u1
  refine r_aload_n hC 3 dX3_kick_50 rfl 51 rfl ?_
  refine r_get (v := .ref (o 6)) hC kX3 5 rfl q191 (fun _ h => h.get 0 rfl) rfl dX3_kick_51 54 rfl ?_
  refine r_getsN hC hG hzONE q271 dX3_kick_54 57 rfl ?_
  refine r_iload_n hC 2 dX3_kick_57 rfl 58 rfl ?_
  refine r_ialdT hC htONE 0 (xix_n 0 (Nat.le_of_ble_eq_true rfl) (Nat.le_of_ble_eq_true rfl)) 0 rfl dX3_kick_58 59 rfl ?_
  refine r_dup2 hC dX3_kick_59 rfl rfl 60 rfl ?_
  refine r_lald hC 0 (xix_n 0 (Nat.le_of_ble_eq_true rfl) (Nat.le_of_ble_eq_true rfl)) (fun _ h => h.get 6 rfl) (moY r 0) (rfl) dX3_kick_60 61 rfl ?_
  refine r_eql (y := r 10) (rfl) ?_
  refine r_lload hC 0 dX3_kick_61 rfl 63 rfl ?_
  refine r_ladd hC ((r 10) + (gQ t r true false 0 1)) dX3_kick_63  (rfl) 64 rfl ?_
  refine r_last (J := xSt F V0 [(o 0, .inr (2, [.ref (o 1), .ref (o 2), .ref (o 3), .ref (o 4), .ref (o 5), .ref (o 6), .ref (o 7), .ref (o 8), .ref (o 9), .ref (o 10), .int ((r 0).toInt32)])), (o 1, .inl (0, 6, .inl (seF t r))), (o 2, .inl (0, 3, .inl (maF r))), (o 3, .inl (0, 3, .inl (plX r))), (o 4, .inl (0, 3, .inl (plY r))), (o 5, .inl (1, 3, .inr (.inl u1))), (o 6, .inl (1, 3, .inr (.inl (va_up (moY r) 0 ((r 10) + (gQ t r true false 0 1))))))]) hC 0 (xix_n 0 (Nat.le_of_ble_eq_true rfl) (Nat.le_of_ble_eq_true rfl)) (fun _ h => h.get 6 rfl) dX3_kick_64 (fun _ h => h.set 6 _ rfl) 65 rfl ?_
  generalize hu2 : va_up (moY r) 0 ((r 10) + (gQ t r true false 0 1)) = u2
  refine r_aload_n hC 3 dX3_kick_65 rfl 66 rfl ?_
  refine r_get (v := .ref (o 5)) hC kX3 4 rfl q188 (fun _ h => h.get 0 rfl) rfl dX3_kick_66 69 rfl ?_
  refine r_getsN hC hG hzOTH q273 dX3_kick_69 72 rfl ?_
  refine r_iload_n hC 2 dX3_kick_72 rfl 73 rfl ?_
  refine r_ialdT hC htOTH 0 (xix_n 0 (Nat.le_of_ble_eq_true rfl) (Nat.le_of_ble_eq_true rfl)) 1 rfl dX3_kick_73 74 rfl ?_
  refine r_dup2 hC dX3_kick_74 rfl rfl 75 rfl ?_
  refine r_lald hC 1 (xix_n 1 (Nat.le_of_ble_eq_true rfl) (Nat.le_of_ble_eq_true rfl)) (fun _ h => h.get 5 rfl) (moX r 1) (by rw [← hu1]; rfl) dX3_kick_75 76 rfl ?_
  refine r_eql (y := r 14) (rfl) ?_
  refine r_lload hC 1 dX3_kick_76 rfl 78 rfl ?_
  refine r_lsub hC ((r 14) - (gQ t r true false 0 0)) dX3_kick_78  (rfl) 79 rfl ?_
  refine r_last (J := xSt F V0 [(o 0, .inr (2, [.ref (o 1), .ref (o 2), .ref (o 3), .ref (o 4), .ref (o 5), .ref (o 6), .ref (o 7), .ref (o 8), .ref (o 9), .ref (o 10), .int ((r 0).toInt32)])), (o 1, .inl (0, 6, .inl (seF t r))), (o 2, .inl (0, 3, .inl (maF r))), (o 3, .inl (0, 3, .inl (plX r))), (o 4, .inl (0, 3, .inl (plY r))), (o 5, .inl (1, 3, .inr (.inl (va_up u1 1 ((r 14) - (gQ t r true false 0 0)))))), (o 6, .inl (1, 3, .inr (.inl u2)))]) hC 1 (xix_n 1 (Nat.le_of_ble_eq_true rfl) (Nat.le_of_ble_eq_true rfl)) (fun _ h => h.get 5 rfl) dX3_kick_79 (fun _ h => h.set 5 _ rfl) 80 rfl ?_
  generalize hu3 : va_up u1 1 ((r 14) - (gQ t r true false 0 0)) = u3
  refine r_aload_n hC 3 dX3_kick_80 rfl 81 rfl ?_
  refine r_get (v := .ref (o 6)) hC kX3 5 rfl q191 (fun _ h => h.get 0 rfl) rfl dX3_kick_81 84 rfl ?_
  refine r_getsN hC hG hzOTH q273 dX3_kick_84 87 rfl ?_
  refine r_iload_n hC 2 dX3_kick_87 rfl 88 rfl ?_
  refine r_ialdT hC htOTH 0 (xix_n 0 (Nat.le_of_ble_eq_true rfl) (Nat.le_of_ble_eq_true rfl)) 1 rfl dX3_kick_88 89 rfl ?_
  refine r_dup2 hC dX3_kick_89 rfl rfl 90 rfl ?_
  refine r_lald hC 1 (xix_n 1 (Nat.le_of_ble_eq_true rfl) (Nat.le_of_ble_eq_true rfl)) (fun _ h => h.get 6 rfl) (moY r 1) (by rw [← hu2]; rfl) dX3_kick_90 91 rfl ?_
  refine r_eql (y := r 15) (rfl) ?_
  refine r_lload hC 0 dX3_kick_91 rfl 93 rfl ?_
  refine r_lsub hC ((r 15) - (gQ t r true false 0 1)) dX3_kick_93  (rfl) 94 rfl ?_
  refine r_last (J := xSt F V0 [(o 0, .inr (2, [.ref (o 1), .ref (o 2), .ref (o 3), .ref (o 4), .ref (o 5), .ref (o 6), .ref (o 7), .ref (o 8), .ref (o 9), .ref (o 10), .int ((r 0).toInt32)])), (o 1, .inl (0, 6, .inl (seF t r))), (o 2, .inl (0, 3, .inl (maF r))), (o 3, .inl (0, 3, .inl (plX r))), (o 4, .inl (0, 3, .inl (plY r))), (o 5, .inl (1, 3, .inr (.inl u3))), (o 6, .inl (1, 3, .inr (.inl (va_up u2 1 ((r 15) - (gQ t r true false 0 1))))))]) hC 1 (xix_n 1 (Nat.le_of_ble_eq_true rfl) (Nat.le_of_ble_eq_true rfl)) (fun _ h => h.get 6 rfl) dX3_kick_94 (fun _ h => h.set 6 _ rfl) 95 rfl ?_
  generalize hu4 : va_up u2 1 ((r 15) - (gQ t r true false 0 1)) = u4
  refine r_iinc hC 1 3 2 [(3, .int 1), (6, .long (gQ t r true false 0 1)), (4, .long (gQ t r true false 0 0)), (0, .ref (o 0)), (1, .int 1), (2, .int 2)] dX3_kick_95 rfl (by decide) (Nat.le_of_ble_eq_true rfl) rfl 98 rfl ?_
  refine r_goto hC 2 dX3_kick_98 (by decide) ?_
  refine r_iload_n hC 0 dX3_kick_2 rfl 3 rfl ?_
  refine r_iconst hC 3 dX3_kick_3 ic_3 4 rfl ?_
  refine r_icge hC 101 dX3_kick_4 (by decide) 7 rfl (fun h => absurd h (by decide)) (fun _ => ?_)
  refine r_iload_n hC 4 dX3_kick_7 rfl 8 rfl ?_
  refine r_i2l hC 1 dX3_kick_8 (by decide) 9 rfl ?_
  refine r_aload_n hC 3 dX3_kick_9 rfl 10 rfl ?_
  refine r_iload_n hC 0 dX3_kick_10 rfl 11 rfl ?_
  refine r_iconst hC 0 dX3_kick_11 ic_0 12 rfl ?_
  refine xCall.r (r := some (.long (impQ t r 1 0))) (r_cV hC kX3 (o 0) [.int 1, .int 0] mVX3_impulse q331 (fun _ h => ⟨_, h.get 0 rfl⟩) (fun V9 h9 => (metX3_impulse0 _ _ hG o t r 1 (Nat.le_of_ble_eq_true rfl) hpl ht hm) V9 (h9.in.sub [0, 1, 2, 3, 4] rfl rfl)) ⟨rfl, rfl⟩ (Nat.le_of_ble_eq_true rfl) (Nat.le_of_ble_eq_true rfl) rfl (Nat.le_of_ble_eq_true rfl) dX3_kick_12) 0 0 15 rfl rfl rfl ?_
  refine r_iload_n hC 5 dX3_kick_15 rfl 16 rfl ?_
  refine r_i2l hC 2 dX3_kick_16 (by decide) 17 rfl ?_
  refine r_ldiv hC ((impQ t r 1 0) / 2) dX3_kick_17 (by decide) (rfl) 18 rfl ?_
  refine r_lmul hC (1 * ((impQ t r 1 0) / 2)) dX3_kick_18  (rfl) 19 rfl ?_
  refine r_eql (y := gQ t r true false 1 0) (g10 _) ?_
  refine r_lstore hC 4 [(4, .long (gQ t r true false 1 0)), (3, .int 1), (6, .long (gQ t r true false 0 1)), (0, .ref (o 0)), (1, .int 1), (2, .int 2)] dX3_kick_19 (Nat.le_of_ble_eq_true rfl) rfl 21 rfl ?_
  refine r_iload_n hC 4 dX3_kick_21 rfl 22 rfl ?_
  refine r_i2l hC 1 dX3_kick_22 (by decide) 23 rfl ?_
  refine r_aload_n hC 3 dX3_kick_23 rfl 24 rfl ?_
  refine r_iload_n hC 1 dX3_kick_24 rfl 25 rfl ?_
  refine r_iconst hC 1 dX3_kick_25 ic_1 26 rfl ?_
  refine xCall.r (r := some (.long (impQ t r 1 1))) (r_cV hC kX3 (o 0) [.int 1, .int 1] mVX3_impulse q331 (fun _ h => ⟨_, h.get 0 rfl⟩) (fun V9 h9 => (metX3_impulse1 _ _ hG o t r 1 (Nat.le_of_ble_eq_true rfl) hpl ht hm) V9 (h9.in.sub [0, 1, 2, 3, 4] rfl rfl)) ⟨rfl, rfl⟩ (Nat.le_of_ble_eq_true rfl) (Nat.le_of_ble_eq_true rfl) rfl (Nat.le_of_ble_eq_true rfl) dX3_kick_26) 0 0 29 rfl rfl rfl ?_
  refine r_iload_n hC 5 dX3_kick_29 rfl 30 rfl ?_
  refine r_i2l hC 2 dX3_kick_30 (by decide) 31 rfl ?_
  refine r_ldiv hC ((impQ t r 1 1) / 2) dX3_kick_31 (by decide) (rfl) 32 rfl ?_
  refine r_lmul hC (1 * ((impQ t r 1 1) / 2)) dX3_kick_32  (rfl) 33 rfl ?_
  refine r_eql (y := gQ t r true false 1 1) (g10 _) ?_
  refine r_lstore hC 6 [(6, .long (gQ t r true false 1 1)), (4, .long (gQ t r true false 1 0)), (3, .int 1), (0, .ref (o 0)), (1, .int 1), (2, .int 2)] dX3_kick_33 (Nat.le_of_ble_eq_true rfl) rfl 35 rfl ?_
  refine r_aload_n hC 3 dX3_kick_35 rfl 36 rfl ?_
  refine r_get (v := .ref (o 5)) hC kX3 4 rfl q188 (fun _ h => h.get 0 rfl) rfl dX3_kick_36 39 rfl ?_
  refine r_getsN hC hG hzONE q271 dX3_kick_39 42 rfl ?_
  refine r_iload_n hC 2 dX3_kick_42 rfl 43 rfl ?_
  refine r_ialdT hC htONE 1 (xix_n 1 (Nat.le_of_ble_eq_true rfl) (Nat.le_of_ble_eq_true rfl)) 0 rfl dX3_kick_43 44 rfl ?_
  refine r_dup2 hC dX3_kick_44 rfl rfl 45 rfl ?_
  refine r_lald hC 0 (xix_n 0 (Nat.le_of_ble_eq_true rfl) (Nat.le_of_ble_eq_true rfl)) (fun _ h => h.get 5 rfl) ((r 9) + (gQ t r true false 0 0)) (by rw [← hu3, ← hu1]; rfl) dX3_kick_45 46 rfl ?_
  refine r_lload hC 1 dX3_kick_46 rfl 48 rfl ?_
  refine r_ladd hC (((r 9) + (gQ t r true false 0 0)) + (gQ t r true false 1 0)) dX3_kick_48  (rfl) 49 rfl ?_
  refine r_last (J := xSt F V0 [(o 0, .inr (2, [.ref (o 1), .ref (o 2), .ref (o 3), .ref (o 4), .ref (o 5), .ref (o 6), .ref (o 7), .ref (o 8), .ref (o 9), .ref (o 10), .int ((r 0).toInt32)])), (o 1, .inl (0, 6, .inl (seF t r))), (o 2, .inl (0, 3, .inl (maF r))), (o 3, .inl (0, 3, .inl (plX r))), (o 4, .inl (0, 3, .inl (plY r))), (o 5, .inl (1, 3, .inr (.inl (va_up u3 0 (((r 9) + (gQ t r true false 0 0)) + (gQ t r true false 1 0)))))), (o 6, .inl (1, 3, .inr (.inl u4)))]) hC 0 (xix_n 0 (Nat.le_of_ble_eq_true rfl) (Nat.le_of_ble_eq_true rfl)) (fun _ h => h.get 5 rfl) dX3_kick_49 (fun _ h => h.set 5 _ rfl) 50 rfl ?_
  generalize hu5 : va_up u3 0 (((r 9) + (gQ t r true false 0 0)) + (gQ t r true false 1 0)) = u5
  refine r_aload_n hC 3 dX3_kick_50 rfl 51 rfl ?_
  refine r_get (v := .ref (o 6)) hC kX3 5 rfl q191 (fun _ h => h.get 0 rfl) rfl dX3_kick_51 54 rfl ?_
  refine r_getsN hC hG hzONE q271 dX3_kick_54 57 rfl ?_
  refine r_iload_n hC 2 dX3_kick_57 rfl 58 rfl ?_
  refine r_ialdT hC htONE 1 (xix_n 1 (Nat.le_of_ble_eq_true rfl) (Nat.le_of_ble_eq_true rfl)) 0 rfl dX3_kick_58 59 rfl ?_
  refine r_dup2 hC dX3_kick_59 rfl rfl 60 rfl ?_
  refine r_lald hC 0 (xix_n 0 (Nat.le_of_ble_eq_true rfl) (Nat.le_of_ble_eq_true rfl)) (fun _ h => h.get 6 rfl) ((r 10) + (gQ t r true false 0 1)) (by rw [← hu4, ← hu2]; rfl) dX3_kick_60 61 rfl ?_
  refine r_lload hC 0 dX3_kick_61 rfl 63 rfl ?_
  refine r_ladd hC (((r 10) + (gQ t r true false 0 1)) + (gQ t r true false 1 1)) dX3_kick_63  (rfl) 64 rfl ?_
  refine r_last (J := xSt F V0 [(o 0, .inr (2, [.ref (o 1), .ref (o 2), .ref (o 3), .ref (o 4), .ref (o 5), .ref (o 6), .ref (o 7), .ref (o 8), .ref (o 9), .ref (o 10), .int ((r 0).toInt32)])), (o 1, .inl (0, 6, .inl (seF t r))), (o 2, .inl (0, 3, .inl (maF r))), (o 3, .inl (0, 3, .inl (plX r))), (o 4, .inl (0, 3, .inl (plY r))), (o 5, .inl (1, 3, .inr (.inl u5))), (o 6, .inl (1, 3, .inr (.inl (va_up u4 0 (((r 10) + (gQ t r true false 0 1)) + (gQ t r true false 1 1))))))]) hC 0 (xix_n 0 (Nat.le_of_ble_eq_true rfl) (Nat.le_of_ble_eq_true rfl)) (fun _ h => h.get 6 rfl) dX3_kick_64 (fun _ h => h.set 6 _ rfl) 65 rfl ?_
  generalize hu6 : va_up u4 0 (((r 10) + (gQ t r true false 0 1)) + (gQ t r true false 1 1)) = u6
  refine r_aload_n hC 3 dX3_kick_65 rfl 66 rfl ?_
  refine r_get (v := .ref (o 5)) hC kX3 4 rfl q188 (fun _ h => h.get 0 rfl) rfl dX3_kick_66 69 rfl ?_
  refine r_getsN hC hG hzOTH q273 dX3_kick_69 72 rfl ?_
  refine r_iload_n hC 2 dX3_kick_72 rfl 73 rfl ?_
  refine r_ialdT hC htOTH 1 (xix_n 1 (Nat.le_of_ble_eq_true rfl) (Nat.le_of_ble_eq_true rfl)) 2 rfl dX3_kick_73 74 rfl ?_
  refine r_dup2 hC dX3_kick_74 rfl rfl 75 rfl ?_
  refine r_lald hC 2 (xix_n 2 (Nat.le_of_ble_eq_true rfl) (Nat.le_of_ble_eq_true rfl)) (fun _ h => h.get 5 rfl) (moX r 2) (by rw [← hu5, ← hu3, ← hu1]; rfl) dX3_kick_75 76 rfl ?_
  refine r_eql (y := r 19) (rfl) ?_
  refine r_lload hC 1 dX3_kick_76 rfl 78 rfl ?_
  refine r_lsub hC ((r 19) - (gQ t r true false 1 0)) dX3_kick_78  (rfl) 79 rfl ?_
  refine r_last (J := xSt F V0 [(o 0, .inr (2, [.ref (o 1), .ref (o 2), .ref (o 3), .ref (o 4), .ref (o 5), .ref (o 6), .ref (o 7), .ref (o 8), .ref (o 9), .ref (o 10), .int ((r 0).toInt32)])), (o 1, .inl (0, 6, .inl (seF t r))), (o 2, .inl (0, 3, .inl (maF r))), (o 3, .inl (0, 3, .inl (plX r))), (o 4, .inl (0, 3, .inl (plY r))), (o 5, .inl (1, 3, .inr (.inl (va_up u5 2 ((r 19) - (gQ t r true false 1 0)))))), (o 6, .inl (1, 3, .inr (.inl u6)))]) hC 2 (xix_n 2 (Nat.le_of_ble_eq_true rfl) (Nat.le_of_ble_eq_true rfl)) (fun _ h => h.get 5 rfl) dX3_kick_79 (fun _ h => h.set 5 _ rfl) 80 rfl ?_
  generalize hu7 : va_up u5 2 ((r 19) - (gQ t r true false 1 0)) = u7
  refine r_aload_n hC 3 dX3_kick_80 rfl 81 rfl ?_
  refine r_get (v := .ref (o 6)) hC kX3 5 rfl q191 (fun _ h => h.get 0 rfl) rfl dX3_kick_81 84 rfl ?_
  refine r_getsN hC hG hzOTH q273 dX3_kick_84 87 rfl ?_
  refine r_iload_n hC 2 dX3_kick_87 rfl 88 rfl ?_
  refine r_ialdT hC htOTH 1 (xix_n 1 (Nat.le_of_ble_eq_true rfl) (Nat.le_of_ble_eq_true rfl)) 2 rfl dX3_kick_88 89 rfl ?_
  refine r_dup2 hC dX3_kick_89 rfl rfl 90 rfl ?_
  refine r_lald hC 2 (xix_n 2 (Nat.le_of_ble_eq_true rfl) (Nat.le_of_ble_eq_true rfl)) (fun _ h => h.get 6 rfl) (moY r 2) (by rw [← hu6, ← hu4, ← hu2]; rfl) dX3_kick_90 91 rfl ?_
  refine r_eql (y := r 20) (rfl) ?_
  refine r_lload hC 0 dX3_kick_91 rfl 93 rfl ?_
  refine r_lsub hC ((r 20) - (gQ t r true false 1 1)) dX3_kick_93  (rfl) 94 rfl ?_
  refine r_last (J := xSt F V0 [(o 0, .inr (2, [.ref (o 1), .ref (o 2), .ref (o 3), .ref (o 4), .ref (o 5), .ref (o 6), .ref (o 7), .ref (o 8), .ref (o 9), .ref (o 10), .int ((r 0).toInt32)])), (o 1, .inl (0, 6, .inl (seF t r))), (o 2, .inl (0, 3, .inl (maF r))), (o 3, .inl (0, 3, .inl (plX r))), (o 4, .inl (0, 3, .inl (plY r))), (o 5, .inl (1, 3, .inr (.inl u7))), (o 6, .inl (1, 3, .inr (.inl (va_up u6 2 ((r 20) - (gQ t r true false 1 1))))))]) hC 2 (xix_n 2 (Nat.le_of_ble_eq_true rfl) (Nat.le_of_ble_eq_true rfl)) (fun _ h => h.get 6 rfl) dX3_kick_94 (fun _ h => h.set 6 _ rfl) 95 rfl ?_
  generalize hu8 : va_up u6 2 ((r 20) - (gQ t r true false 1 1)) = u8
  refine r_iinc hC 2 3 2 [(3, .int 2), (6, .long (gQ t r true false 1 1)), (4, .long (gQ t r true false 1 0)), (0, .ref (o 0)), (1, .int 1), (2, .int 2)] dX3_kick_95 rfl (by decide) (Nat.le_of_ble_eq_true rfl) rfl 98 rfl ?_
  refine r_goto hC 2 dX3_kick_98 (by decide) ?_
  refine r_iload_n hC 0 dX3_kick_2 rfl 3 rfl ?_
  refine r_iconst hC 3 dX3_kick_3 ic_3 4 rfl ?_
  refine r_icge hC 101 dX3_kick_4 (by decide) 7 rfl (fun h => absurd h (by decide)) (fun _ => ?_)
  refine r_iload_n hC 4 dX3_kick_7 rfl 8 rfl ?_
  refine r_i2l hC 1 dX3_kick_8 (by decide) 9 rfl ?_
  refine r_aload_n hC 3 dX3_kick_9 rfl 10 rfl ?_
  refine r_iload_n hC 0 dX3_kick_10 rfl 11 rfl ?_
  refine r_iconst hC 0 dX3_kick_11 ic_0 12 rfl ?_
  refine xCall.r (r := some (.long (impQ t r 2 0))) (r_cV hC kX3 (o 0) [.int 2, .int 0] mVX3_impulse q331 (fun _ h => ⟨_, h.get 0 rfl⟩) (fun V9 h9 => (metX3_impulse0 _ _ hG o t r 2 (Nat.le_of_ble_eq_true rfl) hpl ht hm) V9 (h9.in.sub [0, 1, 2, 3, 4] rfl rfl)) ⟨rfl, rfl⟩ (Nat.le_of_ble_eq_true rfl) (Nat.le_of_ble_eq_true rfl) rfl (Nat.le_of_ble_eq_true rfl) dX3_kick_12) 0 0 15 rfl rfl rfl ?_
  refine r_iload_n hC 5 dX3_kick_15 rfl 16 rfl ?_
  refine r_i2l hC 2 dX3_kick_16 (by decide) 17 rfl ?_
  refine r_ldiv hC ((impQ t r 2 0) / 2) dX3_kick_17 (by decide) (rfl) 18 rfl ?_
  refine r_lmul hC (1 * ((impQ t r 2 0) / 2)) dX3_kick_18  (rfl) 19 rfl ?_
  refine r_eql (y := gQ t r true false 2 0) (g10 _) ?_
  refine r_lstore hC 4 [(4, .long (gQ t r true false 2 0)), (3, .int 2), (6, .long (gQ t r true false 1 1)), (0, .ref (o 0)), (1, .int 1), (2, .int 2)] dX3_kick_19 (Nat.le_of_ble_eq_true rfl) rfl 21 rfl ?_
  refine r_iload_n hC 4 dX3_kick_21 rfl 22 rfl ?_
  refine r_i2l hC 1 dX3_kick_22 (by decide) 23 rfl ?_
  refine r_aload_n hC 3 dX3_kick_23 rfl 24 rfl ?_
  refine r_iload_n hC 1 dX3_kick_24 rfl 25 rfl ?_
  refine r_iconst hC 1 dX3_kick_25 ic_1 26 rfl ?_
  refine xCall.r (r := some (.long (impQ t r 2 1))) (r_cV hC kX3 (o 0) [.int 2, .int 1] mVX3_impulse q331 (fun _ h => ⟨_, h.get 0 rfl⟩) (fun V9 h9 => (metX3_impulse1 _ _ hG o t r 2 (Nat.le_of_ble_eq_true rfl) hpl ht hm) V9 (h9.in.sub [0, 1, 2, 3, 4] rfl rfl)) ⟨rfl, rfl⟩ (Nat.le_of_ble_eq_true rfl) (Nat.le_of_ble_eq_true rfl) rfl (Nat.le_of_ble_eq_true rfl) dX3_kick_26) 0 0 29 rfl rfl rfl ?_
  refine r_iload_n hC 5 dX3_kick_29 rfl 30 rfl ?_
  refine r_i2l hC 2 dX3_kick_30 (by decide) 31 rfl ?_
  refine r_ldiv hC ((impQ t r 2 1) / 2) dX3_kick_31 (by decide) (rfl) 32 rfl ?_
  refine r_lmul hC (1 * ((impQ t r 2 1) / 2)) dX3_kick_32  (rfl) 33 rfl ?_
  refine r_eql (y := gQ t r true false 2 1) (g10 _) ?_
  refine r_lstore hC 6 [(6, .long (gQ t r true false 2 1)), (4, .long (gQ t r true false 2 0)), (3, .int 2), (0, .ref (o 0)), (1, .int 1), (2, .int 2)] dX3_kick_33 (Nat.le_of_ble_eq_true rfl) rfl 35 rfl ?_
  refine r_aload_n hC 3 dX3_kick_35 rfl 36 rfl ?_
  refine r_get (v := .ref (o 5)) hC kX3 4 rfl q188 (fun _ h => h.get 0 rfl) rfl dX3_kick_36 39 rfl ?_
  refine r_getsN hC hG hzONE q271 dX3_kick_39 42 rfl ?_
  refine r_iload_n hC 2 dX3_kick_42 rfl 43 rfl ?_
  refine r_ialdT hC htONE 2 (xix_n 2 (Nat.le_of_ble_eq_true rfl) (Nat.le_of_ble_eq_true rfl)) 1 rfl dX3_kick_43 44 rfl ?_
  refine r_dup2 hC dX3_kick_44 rfl rfl 45 rfl ?_
  refine r_lald hC 1 (xix_n 1 (Nat.le_of_ble_eq_true rfl) (Nat.le_of_ble_eq_true rfl)) (fun _ h => h.get 5 rfl) ((r 14) - (gQ t r true false 0 0)) (by rw [← hu7, ← hu5, ← hu3]; rfl) dX3_kick_45 46 rfl ?_
  refine r_lload hC 1 dX3_kick_46 rfl 48 rfl ?_
  refine r_ladd hC (((r 14) - (gQ t r true false 0 0)) + (gQ t r true false 2 0)) dX3_kick_48  (rfl) 49 rfl ?_
  refine r_last (J := xSt F V0 [(o 0, .inr (2, [.ref (o 1), .ref (o 2), .ref (o 3), .ref (o 4), .ref (o 5), .ref (o 6), .ref (o 7), .ref (o 8), .ref (o 9), .ref (o 10), .int ((r 0).toInt32)])), (o 1, .inl (0, 6, .inl (seF t r))), (o 2, .inl (0, 3, .inl (maF r))), (o 3, .inl (0, 3, .inl (plX r))), (o 4, .inl (0, 3, .inl (plY r))), (o 5, .inl (1, 3, .inr (.inl (va_up u7 1 (((r 14) - (gQ t r true false 0 0)) + (gQ t r true false 2 0)))))), (o 6, .inl (1, 3, .inr (.inl u8)))]) hC 1 (xix_n 1 (Nat.le_of_ble_eq_true rfl) (Nat.le_of_ble_eq_true rfl)) (fun _ h => h.get 5 rfl) dX3_kick_49 (fun _ h => h.set 5 _ rfl) 50 rfl ?_
  generalize hu9 : va_up u7 1 (((r 14) - (gQ t r true false 0 0)) + (gQ t r true false 2 0)) = u9
  refine r_aload_n hC 3 dX3_kick_50 rfl 51 rfl ?_
  refine r_get (v := .ref (o 6)) hC kX3 5 rfl q191 (fun _ h => h.get 0 rfl) rfl dX3_kick_51 54 rfl ?_
  refine r_getsN hC hG hzONE q271 dX3_kick_54 57 rfl ?_
  refine r_iload_n hC 2 dX3_kick_57 rfl 58 rfl ?_
  refine r_ialdT hC htONE 2 (xix_n 2 (Nat.le_of_ble_eq_true rfl) (Nat.le_of_ble_eq_true rfl)) 1 rfl dX3_kick_58 59 rfl ?_
  refine r_dup2 hC dX3_kick_59 rfl rfl 60 rfl ?_
  refine r_lald hC 1 (xix_n 1 (Nat.le_of_ble_eq_true rfl) (Nat.le_of_ble_eq_true rfl)) (fun _ h => h.get 6 rfl) ((r 15) - (gQ t r true false 0 1)) (by rw [← hu8, ← hu6, ← hu4]; rfl) dX3_kick_60 61 rfl ?_
  refine r_lload hC 0 dX3_kick_61 rfl 63 rfl ?_
  refine r_ladd hC (((r 15) - (gQ t r true false 0 1)) + (gQ t r true false 2 1)) dX3_kick_63  (rfl) 64 rfl ?_
  refine r_last (J := xSt F V0 [(o 0, .inr (2, [.ref (o 1), .ref (o 2), .ref (o 3), .ref (o 4), .ref (o 5), .ref (o 6), .ref (o 7), .ref (o 8), .ref (o 9), .ref (o 10), .int ((r 0).toInt32)])), (o 1, .inl (0, 6, .inl (seF t r))), (o 2, .inl (0, 3, .inl (maF r))), (o 3, .inl (0, 3, .inl (plX r))), (o 4, .inl (0, 3, .inl (plY r))), (o 5, .inl (1, 3, .inr (.inl u9))), (o 6, .inl (1, 3, .inr (.inl (va_up u8 1 (((r 15) - (gQ t r true false 0 1)) + (gQ t r true false 2 1))))))]) hC 1 (xix_n 1 (Nat.le_of_ble_eq_true rfl) (Nat.le_of_ble_eq_true rfl)) (fun _ h => h.get 6 rfl) dX3_kick_64 (fun _ h => h.set 6 _ rfl) 65 rfl ?_
  generalize hu10 : va_up u8 1 (((r 15) - (gQ t r true false 0 1)) + (gQ t r true false 2 1)) = u10
  refine r_aload_n hC 3 dX3_kick_65 rfl 66 rfl ?_
  refine r_get (v := .ref (o 5)) hC kX3 4 rfl q188 (fun _ h => h.get 0 rfl) rfl dX3_kick_66 69 rfl ?_
  refine r_getsN hC hG hzOTH q273 dX3_kick_69 72 rfl ?_
  refine r_iload_n hC 2 dX3_kick_72 rfl 73 rfl ?_
  refine r_ialdT hC htOTH 2 (xix_n 2 (Nat.le_of_ble_eq_true rfl) (Nat.le_of_ble_eq_true rfl)) 2 rfl dX3_kick_73 74 rfl ?_
  refine r_dup2 hC dX3_kick_74 rfl rfl 75 rfl ?_
  refine r_lald hC 2 (xix_n 2 (Nat.le_of_ble_eq_true rfl) (Nat.le_of_ble_eq_true rfl)) (fun _ h => h.get 5 rfl) ((r 19) - (gQ t r true false 1 0)) (by rw [← hu9, ← hu7]; rfl) dX3_kick_75 76 rfl ?_
  refine r_lload hC 1 dX3_kick_76 rfl 78 rfl ?_
  refine r_lsub hC (((r 19) - (gQ t r true false 1 0)) - (gQ t r true false 2 0)) dX3_kick_78  (rfl) 79 rfl ?_
  refine r_last (J := xSt F V0 [(o 0, .inr (2, [.ref (o 1), .ref (o 2), .ref (o 3), .ref (o 4), .ref (o 5), .ref (o 6), .ref (o 7), .ref (o 8), .ref (o 9), .ref (o 10), .int ((r 0).toInt32)])), (o 1, .inl (0, 6, .inl (seF t r))), (o 2, .inl (0, 3, .inl (maF r))), (o 3, .inl (0, 3, .inl (plX r))), (o 4, .inl (0, 3, .inl (plY r))), (o 5, .inl (1, 3, .inr (.inl (va_up u9 2 (((r 19) - (gQ t r true false 1 0)) - (gQ t r true false 2 0)))))), (o 6, .inl (1, 3, .inr (.inl u10)))]) hC 2 (xix_n 2 (Nat.le_of_ble_eq_true rfl) (Nat.le_of_ble_eq_true rfl)) (fun _ h => h.get 5 rfl) dX3_kick_79 (fun _ h => h.set 5 _ rfl) 80 rfl ?_
  generalize hu11 : va_up u9 2 (((r 19) - (gQ t r true false 1 0)) - (gQ t r true false 2 0)) = u11
  refine r_aload_n hC 3 dX3_kick_80 rfl 81 rfl ?_
  refine r_get (v := .ref (o 6)) hC kX3 5 rfl q191 (fun _ h => h.get 0 rfl) rfl dX3_kick_81 84 rfl ?_
  refine r_getsN hC hG hzOTH q273 dX3_kick_84 87 rfl ?_
  refine r_iload_n hC 2 dX3_kick_87 rfl 88 rfl ?_
  refine r_ialdT hC htOTH 2 (xix_n 2 (Nat.le_of_ble_eq_true rfl) (Nat.le_of_ble_eq_true rfl)) 2 rfl dX3_kick_88 89 rfl ?_
  refine r_dup2 hC dX3_kick_89 rfl rfl 90 rfl ?_
  refine r_lald hC 2 (xix_n 2 (Nat.le_of_ble_eq_true rfl) (Nat.le_of_ble_eq_true rfl)) (fun _ h => h.get 6 rfl) ((r 20) - (gQ t r true false 1 1)) (by rw [← hu10, ← hu8]; rfl) dX3_kick_90 91 rfl ?_
  refine r_lload hC 0 dX3_kick_91 rfl 93 rfl ?_
  refine r_lsub hC (((r 20) - (gQ t r true false 1 1)) - (gQ t r true false 2 1)) dX3_kick_93  (rfl) 94 rfl ?_
  refine r_last (J := xSt F V0 [(o 0, .inr (2, [.ref (o 1), .ref (o 2), .ref (o 3), .ref (o 4), .ref (o 5), .ref (o 6), .ref (o 7), .ref (o 8), .ref (o 9), .ref (o 10), .int ((r 0).toInt32)])), (o 1, .inl (0, 6, .inl (seF t r))), (o 2, .inl (0, 3, .inl (maF r))), (o 3, .inl (0, 3, .inl (plX r))), (o 4, .inl (0, 3, .inl (plY r))), (o 5, .inl (1, 3, .inr (.inl u11))), (o 6, .inl (1, 3, .inr (.inl (va_up u10 2 (((r 20) - (gQ t r true false 1 1)) - (gQ t r true false 2 1))))))]) hC 2 (xix_n 2 (Nat.le_of_ble_eq_true rfl) (Nat.le_of_ble_eq_true rfl)) (fun _ h => h.get 6 rfl) dX3_kick_94 (fun _ h => h.set 6 _ rfl) 95 rfl ?_
  generalize hu12 : va_up u10 2 (((r 20) - (gQ t r true false 1 1)) - (gQ t r true false 2 1)) = u12
  refine r_iinc hC 3 3 2 [(3, .int 3), (6, .long (gQ t r true false 2 1)), (4, .long (gQ t r true false 2 0)), (0, .ref (o 0)), (1, .int 1), (2, .int 2)] dX3_kick_95 rfl (by decide) (Nat.le_of_ble_eq_true rfl) rfl 98 rfl ?_
  refine r_goto hC 2 dX3_kick_98 (by decide) ?_
  refine r_iload_n hC 0 dX3_kick_2 rfl 3 rfl ?_
  refine r_iconst hC 3 dX3_kick_3 ic_3 4 rfl ?_
  refine r_icge hC 101 dX3_kick_4 (by decide) 7 rfl (fun _ => ?_) (fun h => absurd h (by decide))
  refine r_iconst hC 0 dX3_kick_101 ic_0 102 rfl ?_
  refine r_istore_n hC 3 [(3, .int 0), (6, .long (gQ t r true false 2 1)), (4, .long (gQ t r true false 2 0)), (0, .ref (o 0)), (1, .int 1), (2, .int 2)] dX3_kick_102 rfl (Nat.le_of_ble_eq_true rfl) rfl 103 rfl ?_
  refine r_iload_n hC 0 dX3_kick_103 rfl 104 rfl ?_
  refine r_iconst hC 3 dX3_kick_104 ic_3 105 rfl ?_
  refine r_icge hC 138 dX3_kick_105 (by decide) 108 rfl (fun h => absurd h (by decide)) (fun _ => ?_)
  refine r_aload_n hC 3 dX3_kick_108 rfl 109 rfl ?_
  refine r_get (v := .ref (o 5)) hC kX3 4 rfl q188 (fun _ h => h.get 0 rfl) rfl dX3_kick_109 112 rfl ?_
  refine r_iload_n hC 0 dX3_kick_112 rfl 113 rfl ?_
  refine r_lald hC 0 (xix_n 0 (Nat.le_of_ble_eq_true rfl) (Nat.le_of_ble_eq_true rfl)) (fun _ h => h.get 5 rfl) (((r 9) + (gQ t r true false 0 0)) + (gQ t r true false 1 0)) (by rw [← hu11, ← hu9, ← hu7, ← hu5]; rfl) dX3_kick_113 114 rfl ?_
  refine r_ldc2 hC q335 dX3_kick_114 117 rfl ?_
  have hk13 : m_in (((r 9) + (gQ t r true false 0 0)) + (gQ t r true false 1 0)) (-1000000000) 1000000000 = true := by have h9 := in_y9 hin; rw [kkq_9] at h9; exact h9
  refine xCall.r (r := none) (r_cS hC [.long (((r 9) + (gQ t r true false 0 0)) + (gQ t r true false 1 0)), .long 1000000000] mSX3_check q336 (fun V9 h9 => (metX3_checkG _ _ hG (((r 9) + (gQ t r true false 0 0)) + (gQ t r true false 1 0)) 1000000000 hk13) V9 xIn.nil) ⟨rfl, rfl⟩ (Nat.le_of_ble_eq_true rfl) (Nat.le_of_ble_eq_true rfl) rfl (Nat.le_of_ble_eq_true rfl) dX3_kick_117) 0 0 120 rfl rfl rfl ?_
  refine r_aload_n hC 3 dX3_kick_120 rfl 121 rfl ?_
  refine r_get (v := .ref (o 6)) hC kX3 5 rfl q191 (fun _ h => h.get 0 rfl) rfl dX3_kick_121 124 rfl ?_
  refine r_iload_n hC 0 dX3_kick_124 rfl 125 rfl ?_
  refine r_lald hC 0 (xix_n 0 (Nat.le_of_ble_eq_true rfl) (Nat.le_of_ble_eq_true rfl)) (fun _ h => h.get 6 rfl) (((r 10) + (gQ t r true false 0 1)) + (gQ t r true false 1 1)) (by rw [← hu12, ← hu10, ← hu8, ← hu6]; rfl) dX3_kick_125 126 rfl ?_
  refine r_ldc2 hC q335 dX3_kick_126 129 rfl ?_
  have hk14 : m_in (((r 10) + (gQ t r true false 0 1)) + (gQ t r true false 1 1)) (-1000000000) 1000000000 = true := by have h9 := in_y10 hin; rw [kkq_10] at h9; exact h9
  refine xCall.r (r := none) (r_cS hC [.long (((r 10) + (gQ t r true false 0 1)) + (gQ t r true false 1 1)), .long 1000000000] mSX3_check q336 (fun V9 h9 => (metX3_checkG _ _ hG (((r 10) + (gQ t r true false 0 1)) + (gQ t r true false 1 1)) 1000000000 hk14) V9 xIn.nil) ⟨rfl, rfl⟩ (Nat.le_of_ble_eq_true rfl) (Nat.le_of_ble_eq_true rfl) rfl (Nat.le_of_ble_eq_true rfl) dX3_kick_129) 0 0 132 rfl rfl rfl ?_
  refine r_iinc hC 1 3 0 [(3, .int 1), (6, .long (gQ t r true false 2 1)), (4, .long (gQ t r true false 2 0)), (0, .ref (o 0)), (1, .int 1), (2, .int 2)] dX3_kick_132 rfl (by decide) (Nat.le_of_ble_eq_true rfl) rfl 135 rfl ?_
  refine r_goto hC 103 dX3_kick_135 (by decide) ?_
  refine r_iload_n hC 0 dX3_kick_103 rfl 104 rfl ?_
  refine r_iconst hC 3 dX3_kick_104 ic_3 105 rfl ?_
  refine r_icge hC 138 dX3_kick_105 (by decide) 108 rfl (fun h => absurd h (by decide)) (fun _ => ?_)
  refine r_aload_n hC 3 dX3_kick_108 rfl 109 rfl ?_
  refine r_get (v := .ref (o 5)) hC kX3 4 rfl q188 (fun _ h => h.get 0 rfl) rfl dX3_kick_109 112 rfl ?_
  refine r_iload_n hC 0 dX3_kick_112 rfl 113 rfl ?_
  refine r_lald hC 1 (xix_n 1 (Nat.le_of_ble_eq_true rfl) (Nat.le_of_ble_eq_true rfl)) (fun _ h => h.get 5 rfl) (((r 14) - (gQ t r true false 0 0)) + (gQ t r true false 2 0)) (by rw [← hu11, ← hu9]; rfl) dX3_kick_113 114 rfl ?_
  refine r_ldc2 hC q335 dX3_kick_114 117 rfl ?_
  have hk15 : m_in (((r 14) - (gQ t r true false 0 0)) + (gQ t r true false 2 0)) (-1000000000) 1000000000 = true := by have h9 := in_y14 hin; rw [kkq_14] at h9; exact h9
  refine xCall.r (r := none) (r_cS hC [.long (((r 14) - (gQ t r true false 0 0)) + (gQ t r true false 2 0)), .long 1000000000] mSX3_check q336 (fun V9 h9 => (metX3_checkG _ _ hG (((r 14) - (gQ t r true false 0 0)) + (gQ t r true false 2 0)) 1000000000 hk15) V9 xIn.nil) ⟨rfl, rfl⟩ (Nat.le_of_ble_eq_true rfl) (Nat.le_of_ble_eq_true rfl) rfl (Nat.le_of_ble_eq_true rfl) dX3_kick_117) 0 0 120 rfl rfl rfl ?_
  refine r_aload_n hC 3 dX3_kick_120 rfl 121 rfl ?_
  refine r_get (v := .ref (o 6)) hC kX3 5 rfl q191 (fun _ h => h.get 0 rfl) rfl dX3_kick_121 124 rfl ?_
  refine r_iload_n hC 0 dX3_kick_124 rfl 125 rfl ?_
  refine r_lald hC 1 (xix_n 1 (Nat.le_of_ble_eq_true rfl) (Nat.le_of_ble_eq_true rfl)) (fun _ h => h.get 6 rfl) (((r 15) - (gQ t r true false 0 1)) + (gQ t r true false 2 1)) (by rw [← hu12, ← hu10]; rfl) dX3_kick_125 126 rfl ?_
  refine r_ldc2 hC q335 dX3_kick_126 129 rfl ?_
  have hk16 : m_in (((r 15) - (gQ t r true false 0 1)) + (gQ t r true false 2 1)) (-1000000000) 1000000000 = true := by have h9 := in_y15 hin; rw [kkq_15] at h9; exact h9
  refine xCall.r (r := none) (r_cS hC [.long (((r 15) - (gQ t r true false 0 1)) + (gQ t r true false 2 1)), .long 1000000000] mSX3_check q336 (fun V9 h9 => (metX3_checkG _ _ hG (((r 15) - (gQ t r true false 0 1)) + (gQ t r true false 2 1)) 1000000000 hk16) V9 xIn.nil) ⟨rfl, rfl⟩ (Nat.le_of_ble_eq_true rfl) (Nat.le_of_ble_eq_true rfl) rfl (Nat.le_of_ble_eq_true rfl) dX3_kick_129) 0 0 132 rfl rfl rfl ?_
  refine r_iinc hC 2 3 0 [(3, .int 2), (6, .long (gQ t r true false 2 1)), (4, .long (gQ t r true false 2 0)), (0, .ref (o 0)), (1, .int 1), (2, .int 2)] dX3_kick_132 rfl (by decide) (Nat.le_of_ble_eq_true rfl) rfl 135 rfl ?_
  refine r_goto hC 103 dX3_kick_135 (by decide) ?_
  refine r_iload_n hC 0 dX3_kick_103 rfl 104 rfl ?_
  refine r_iconst hC 3 dX3_kick_104 ic_3 105 rfl ?_
  refine r_icge hC 138 dX3_kick_105 (by decide) 108 rfl (fun h => absurd h (by decide)) (fun _ => ?_)
  refine r_aload_n hC 3 dX3_kick_108 rfl 109 rfl ?_
  refine r_get (v := .ref (o 5)) hC kX3 4 rfl q188 (fun _ h => h.get 0 rfl) rfl dX3_kick_109 112 rfl ?_
  refine r_iload_n hC 0 dX3_kick_112 rfl 113 rfl ?_
  refine r_lald hC 2 (xix_n 2 (Nat.le_of_ble_eq_true rfl) (Nat.le_of_ble_eq_true rfl)) (fun _ h => h.get 5 rfl) (((r 19) - (gQ t r true false 1 0)) - (gQ t r true false 2 0)) (by rw [← hu11]; rfl) dX3_kick_113 114 rfl ?_
  refine r_ldc2 hC q335 dX3_kick_114 117 rfl ?_
  have hk17 : m_in (((r 19) - (gQ t r true false 1 0)) - (gQ t r true false 2 0)) (-1000000000) 1000000000 = true := by have h9 := in_y19 hin; rw [kkq_19] at h9; exact h9
  refine xCall.r (r := none) (r_cS hC [.long (((r 19) - (gQ t r true false 1 0)) - (gQ t r true false 2 0)), .long 1000000000] mSX3_check q336 (fun V9 h9 => (metX3_checkG _ _ hG (((r 19) - (gQ t r true false 1 0)) - (gQ t r true false 2 0)) 1000000000 hk17) V9 xIn.nil) ⟨rfl, rfl⟩ (Nat.le_of_ble_eq_true rfl) (Nat.le_of_ble_eq_true rfl) rfl (Nat.le_of_ble_eq_true rfl) dX3_kick_117) 0 0 120 rfl rfl rfl ?_
  refine r_aload_n hC 3 dX3_kick_120 rfl 121 rfl ?_
  refine r_get (v := .ref (o 6)) hC kX3 5 rfl q191 (fun _ h => h.get 0 rfl) rfl dX3_kick_121 124 rfl ?_
  refine r_iload_n hC 0 dX3_kick_124 rfl 125 rfl ?_
  refine r_lald hC 2 (xix_n 2 (Nat.le_of_ble_eq_true rfl) (Nat.le_of_ble_eq_true rfl)) (fun _ h => h.get 6 rfl) (((r 20) - (gQ t r true false 1 1)) - (gQ t r true false 2 1)) (by rw [← hu12]; rfl) dX3_kick_125 126 rfl ?_
  refine r_ldc2 hC q335 dX3_kick_126 129 rfl ?_
  have hk18 : m_in (((r 20) - (gQ t r true false 1 1)) - (gQ t r true false 2 1)) (-1000000000) 1000000000 = true := by have h9 := in_y20 hin; rw [kkq_20] at h9; exact h9
  refine xCall.r (r := none) (r_cS hC [.long (((r 20) - (gQ t r true false 1 1)) - (gQ t r true false 2 1)), .long 1000000000] mSX3_check q336 (fun V9 h9 => (metX3_checkG _ _ hG (((r 20) - (gQ t r true false 1 1)) - (gQ t r true false 2 1)) 1000000000 hk18) V9 xIn.nil) ⟨rfl, rfl⟩ (Nat.le_of_ble_eq_true rfl) (Nat.le_of_ble_eq_true rfl) rfl (Nat.le_of_ble_eq_true rfl) dX3_kick_129) 0 0 132 rfl rfl rfl ?_
  refine r_iinc hC 3 3 0 [(3, .int 3), (6, .long (gQ t r true false 2 1)), (4, .long (gQ t r true false 2 0)), (0, .ref (o 0)), (1, .int 1), (2, .int 2)] dX3_kick_132 rfl (by decide) (Nat.le_of_ble_eq_true rfl) rfl 135 rfl ?_
  refine r_goto hC 103 dX3_kick_135 (by decide) ?_
  refine r_iload_n hC 0 dX3_kick_103 rfl 104 rfl ?_
  refine r_iconst hC 3 dX3_kick_104 ic_3 105 rfl ?_
  refine r_icge hC 138 dX3_kick_105 (by decide) 108 rfl (fun _ => ?_) (fun h => absurd h (by decide))
  subst hu12
  subst hu11
  subst hu10
  subst hu9
  subst hu8
  subst hu7
  subst hu6
  subst hu5
  subst hu4
  subst hu3
  subst hu2
  subst hu1
  refine rn_cellI (J := xSt F V0 [(o 0, .inr (2, [.ref (o 1), .ref (o 2), .ref (o 3), .ref (o 4), .ref (o 5), .ref (o 6), .ref (o 7), .ref (o 8), .ref (o 9), .ref (o 10), .int ((r 0).toInt32)])), (o 1, .inl (0, 6, .inl (seF t r))), (o 2, .inl (0, 3, .inl (maF (kickQ t r true false)))), (o 3, .inl (0, 3, .inl (plX r))), (o 4, .inl (0, 3, .inl (plY r))), (o 5, .inl (1, 3, .inr (.inl (va_up (va_up (va_up (va_up (va_up (va_up (moX r) 0 ((r 9) + (gQ t r true false 0 0))) 1 ((r 14) - (gQ t r true false 0 0))) 0 (((r 9) + (gQ t r true false 0 0)) + (gQ t r true false 1 0))) 2 ((r 19) - (gQ t r true false 1 0))) 1 (((r 14) - (gQ t r true false 0 0)) + (gQ t r true false 2 0))) 2 (((r 19) - (gQ t r true false 1 0)) - (gQ t r true false 2 0)))))), (o 6, .inl (1, 3, .inr (.inl (va_up (va_up (va_up (va_up (va_up (va_up (moY r) 0 ((r 10) + (gQ t r true false 0 1))) 1 ((r 15) - (gQ t r true false 0 1))) 0 (((r 10) + (gQ t r true false 0 1)) + (gQ t r true false 1 1))) 2 ((r 20) - (gQ t r true false 1 1))) 1 (((r 15) - (gQ t r true false 0 1)) + (gQ t r true false 2 1))) 2 (((r 20) - (gQ t r true false 1 1)) - (gQ t r true false 2 1))))))]) (fun _ h => h.get 2 rfl) (fun j9 hj9 => by
      rcases (show j9 = 0 ∨ j9 = 1 ∨ j9 = 2 by omega) with rfl | rfl | rfl
      · exact congrArg Int64.toInt32 (kkq_6).symm
      · exact congrArg Int64.toInt32 (kkq_11).symm
      · exact congrArg Int64.toInt32 (kkq_16).symm) (fun _ h => h.set 2 _ rfl) ?_
  refine rn_cellI (J := xSt F V0 [(o 0, .inr (2, [.ref (o 1), .ref (o 2), .ref (o 3), .ref (o 4), .ref (o 5), .ref (o 6), .ref (o 7), .ref (o 8), .ref (o 9), .ref (o 10), .int ((r 0).toInt32)])), (o 1, .inl (0, 6, .inl (seF t r))), (o 2, .inl (0, 3, .inl (maF (kickQ t r true false)))), (o 3, .inl (0, 3, .inl (plX (kickQ t r true false)))), (o 4, .inl (0, 3, .inl (plY r))), (o 5, .inl (1, 3, .inr (.inl (va_up (va_up (va_up (va_up (va_up (va_up (moX r) 0 ((r 9) + (gQ t r true false 0 0))) 1 ((r 14) - (gQ t r true false 0 0))) 0 (((r 9) + (gQ t r true false 0 0)) + (gQ t r true false 1 0))) 2 ((r 19) - (gQ t r true false 1 0))) 1 (((r 14) - (gQ t r true false 0 0)) + (gQ t r true false 2 0))) 2 (((r 19) - (gQ t r true false 1 0)) - (gQ t r true false 2 0)))))), (o 6, .inl (1, 3, .inr (.inl (va_up (va_up (va_up (va_up (va_up (va_up (moY r) 0 ((r 10) + (gQ t r true false 0 1))) 1 ((r 15) - (gQ t r true false 0 1))) 0 (((r 10) + (gQ t r true false 0 1)) + (gQ t r true false 1 1))) 2 ((r 20) - (gQ t r true false 1 1))) 1 (((r 15) - (gQ t r true false 0 1)) + (gQ t r true false 2 1))) 2 (((r 20) - (gQ t r true false 1 1)) - (gQ t r true false 2 1))))))]) (fun _ h => h.get 3 rfl) (fun j9 hj9 => by
      rcases (show j9 = 0 ∨ j9 = 1 ∨ j9 = 2 by omega) with rfl | rfl | rfl
      · exact congrArg Int64.toInt32 (kkq_7).symm
      · exact congrArg Int64.toInt32 (kkq_12).symm
      · exact congrArg Int64.toInt32 (kkq_17).symm) (fun _ h => h.set 3 _ rfl) ?_
  refine rn_cellI (J := xSt F V0 [(o 0, .inr (2, [.ref (o 1), .ref (o 2), .ref (o 3), .ref (o 4), .ref (o 5), .ref (o 6), .ref (o 7), .ref (o 8), .ref (o 9), .ref (o 10), .int ((r 0).toInt32)])), (o 1, .inl (0, 6, .inl (seF t r))), (o 2, .inl (0, 3, .inl (maF (kickQ t r true false)))), (o 3, .inl (0, 3, .inl (plX (kickQ t r true false)))), (o 4, .inl (0, 3, .inl (plY (kickQ t r true false)))), (o 5, .inl (1, 3, .inr (.inl (va_up (va_up (va_up (va_up (va_up (va_up (moX r) 0 ((r 9) + (gQ t r true false 0 0))) 1 ((r 14) - (gQ t r true false 0 0))) 0 (((r 9) + (gQ t r true false 0 0)) + (gQ t r true false 1 0))) 2 ((r 19) - (gQ t r true false 1 0))) 1 (((r 14) - (gQ t r true false 0 0)) + (gQ t r true false 2 0))) 2 (((r 19) - (gQ t r true false 1 0)) - (gQ t r true false 2 0)))))), (o 6, .inl (1, 3, .inr (.inl (va_up (va_up (va_up (va_up (va_up (va_up (moY r) 0 ((r 10) + (gQ t r true false 0 1))) 1 ((r 15) - (gQ t r true false 0 1))) 0 (((r 10) + (gQ t r true false 0 1)) + (gQ t r true false 1 1))) 2 ((r 20) - (gQ t r true false 1 1))) 1 (((r 15) - (gQ t r true false 0 1)) + (gQ t r true false 2 1))) 2 (((r 20) - (gQ t r true false 1 1)) - (gQ t r true false 2 1))))))]) (fun _ h => h.get 4 rfl) (fun j9 hj9 => by
      rcases (show j9 = 0 ∨ j9 = 1 ∨ j9 = 2 by omega) with rfl | rfl | rfl
      · exact congrArg Int64.toInt32 (kkq_8).symm
      · exact congrArg Int64.toInt32 (kkq_13).symm
      · exact congrArg Int64.toInt32 (kkq_18).symm) (fun _ h => h.set 4 _ rfl) ?_
  refine rn_cellJ (J := xSt F V0 [(o 0, .inr (2, [.ref (o 1), .ref (o 2), .ref (o 3), .ref (o 4), .ref (o 5), .ref (o 6), .ref (o 7), .ref (o 8), .ref (o 9), .ref (o 10), .int ((r 0).toInt32)])), (o 1, .inl (0, 6, .inl (seF t r))), (o 2, .inl (0, 3, .inl (maF (kickQ t r true false)))), (o 3, .inl (0, 3, .inl (plX (kickQ t r true false)))), (o 4, .inl (0, 3, .inl (plY (kickQ t r true false)))), (o 5, .inl (1, 3, .inr (.inl (moX (kickQ t r true false))))), (o 6, .inl (1, 3, .inr (.inl (va_up (va_up (va_up (va_up (va_up (va_up (moY r) 0 ((r 10) + (gQ t r true false 0 1))) 1 ((r 15) - (gQ t r true false 0 1))) 0 (((r 10) + (gQ t r true false 0 1)) + (gQ t r true false 1 1))) 2 ((r 20) - (gQ t r true false 1 1))) 1 (((r 15) - (gQ t r true false 0 1)) + (gQ t r true false 2 1))) 2 (((r 20) - (gQ t r true false 1 1)) - (gQ t r true false 2 1))))))]) (fun _ h => h.get 5 rfl) (fun j9 hj9 => by
      rcases (show j9 = 0 ∨ j9 = 1 ∨ j9 = 2 by omega) with rfl | rfl | rfl
      · exact ((up_ne (by decide)).trans ((up_ne (by decide)).trans ((up_ne (by decide)).trans (up_same _ _ _)))).trans (kkq_9).symm
      · exact ((up_ne (by decide)).trans (up_same _ _ _)).trans (kkq_14).symm
      · exact (up_same _ _ _).trans (kkq_19).symm) (fun _ h => h.set 5 _ rfl) ?_
  refine rn_cellJ (J := xSt F V0 [(o 0, .inr (2, [.ref (o 1), .ref (o 2), .ref (o 3), .ref (o 4), .ref (o 5), .ref (o 6), .ref (o 7), .ref (o 8), .ref (o 9), .ref (o 10), .int ((r 0).toInt32)])), (o 1, .inl (0, 6, .inl (seF t r))), (o 2, .inl (0, 3, .inl (maF (kickQ t r true false)))), (o 3, .inl (0, 3, .inl (plX (kickQ t r true false)))), (o 4, .inl (0, 3, .inl (plY (kickQ t r true false)))), (o 5, .inl (1, 3, .inr (.inl (moX (kickQ t r true false))))), (o 6, .inl (1, 3, .inr (.inl (moY (kickQ t r true false)))))]) (fun _ h => h.get 6 rfl) (fun j9 hj9 => by
      rcases (show j9 = 0 ∨ j9 = 1 ∨ j9 = 2 by omega) with rfl | rfl | rfl
      · exact ((up_ne (by decide)).trans ((up_ne (by decide)).trans ((up_ne (by decide)).trans (up_same _ _ _)))).trans (kkq_10).symm
      · exact ((up_ne (by decide)).trans (up_same _ _ _)).trans (kkq_15).symm
      · exact (up_same _ _ _).trans (kkq_20).symm) (fun _ h => h.set 6 _ rfl) ?_
  exact r_vret hC (Nat.le_of_ble_eq_true rfl) (Nat.le_of_ble_eq_true rfl) (fun V9 h => hQ _ _ ⟨[(o 0, .inr (2, [.ref (o 1), .ref (o 2), .ref (o 3), .ref (o 4), .ref (o 5), .ref (o 6), .ref (o 7), .ref (o 8), .ref (o 9), .ref (o 10), .int (((kickQ t r true false) 0).toInt32)])), (o 1, .inl (0, 6, .inl (seF t (kickQ t r true false)))), (o 2, .inl (0, 3, .inl (maF (kickQ t r true false)))), (o 3, .inl (0, 3, .inl (plX (kickQ t r true false)))), (o 4, .inl (0, 3, .inl (plY (kickQ t r true false)))), (o 5, .inl (1, 3, .inr (.inl (moX (kickQ t r true false))))), (o 6, .inl (1, 3, .inr (.inl (moY (kickQ t r true false)))))], ⟨rfl, in_t (plR_kick hpl) (by rw [kkq_9]; exact hk13) (by rw [kkq_10]; exact hk14) (by rw [kkq_14]; exact hk15) (by rw [kkq_15]; exact hk16) (by rw [kkq_19]; exact hk17) (by rw [kkq_20]; exact hk18), rfl⟩, by rw [← hV0, ← hF]; exact h⟩) dX3_kick_138
set_option maxHeartbeats 4000000 in
set_option maxRecDepth 100000 in
theorem metX3_kick11 (l : Launch) (G : xG) (hG : xGood G) (o : Nat → Nat) (t r : Nat → Int64) (hpl : plR r) (ht : tOK t) (hm : mOK r) : xWm l G yX3_kick (Cond.code yX3_kick cX3_kick 8 none) { frames := 5, locals := 111, cells := 1, slots := 6 } [.ref (o 0), .int (-1), .int 2] [(o 0, .inr (2, [.ref (o 1), .ref (o 2), .ref (o 3), .ref (o 4), .ref (o 5), .ref (o 6), .ref (o 7), .ref (o 8), .ref (o 9), .ref (o 10), .int ((r 0).toInt32)])), (o 1, .inl (0, 6, .inl (seF t r))), (o 2, .inl (0, 3, .inl (maF r))), (o 3, .inl (0, 3, .inl (plX r))), (o 4, .inl (0, 3, .inl (plY r))), (o 5, .inl (1, 3, .inr (.inl (moX r)))), (o 6, .inl (1, 3, .inr (.inl (moY r))))] (fun v w' => v = none ∧ isInQ (kickQ t r true true) = true ∧ w' = [(o 0, .inr (2, [.ref (o 1), .ref (o 2), .ref (o 3), .ref (o 4), .ref (o 5), .ref (o 6), .ref (o 7), .ref (o 8), .ref (o 9), .ref (o 10), .int (((kickQ t r true true) 0).toInt32)])), (o 1, .inl (0, 6, .inl (seF t (kickQ t r true true)))), (o 2, .inl (0, 3, .inl (maF (kickQ t r true true)))), (o 3, .inl (0, 3, .inl (plX (kickQ t r true true)))), (o 4, .inl (0, 3, .inl (plY (kickQ t r true true)))), (o 5, .inl (1, 3, .inr (.inl (moX (kickQ t r true true))))), (o 6, .inl (1, 3, .inr (.inl (moY (kickQ t r true true)))))]) (fun q w' => isInQ (kickQ t r true true) = false ∧ ∃ px' py' : Nat → Int64, w' = [(o 0, .inr (2, [.ref (o 1), .ref (o 2), .ref (o 3), .ref (o 4), .ref (o 5), .ref (o 6), .ref (o 7), .ref (o 8), .ref (o 9), .ref (o 10), .int ((r 0).toInt32)])), (o 1, .inl (0, 6, .inl (seF t r))), (o 2, .inl (0, 3, .inl (maF r))), (o 3, .inl (0, 3, .inl (plX r))), (o 4, .inl (0, 3, .inl (plY r))), (o 5, .inl (1, 3, .inr (.inl px'))), (o 6, .inl (1, 3, .inr (.inl py'))), (q, .inr (3, [.null, .null, .null, .null, .null, .int 0]))]) := by
  intro V hV
  refine xMet_ofT RX3 hG rfl (by decide) (Nat.le_of_ble_eq_true rfl) fun C hC hQ hX hl hg _ hTab => ?_
  subst hl hg
  obtain ⟨tONE, hzONE, htONE⟩ := za_ONE hG
  obtain ⟨tOTH, hzOTH, htOTH⟩ := za_OTH hG
  obtain ⟨V0, hV0⟩ : ∃ V0, V0 = V := ⟨_, rfl⟩
  obtain ⟨F, hF⟩ : ∃ F, F = xF [(o 0, .inr (2, [.ref (o 1), .ref (o 2), .ref (o 3), .ref (o 4), .ref (o 5), .ref (o 6), .ref (o 7), .ref (o 8), .ref (o 9), .ref (o 10), .int ((r 0).toInt32)])), (o 1, .inl (0, 6, .inl (seF t r))), (o 2, .inl (0, 3, .inl (maF r))), (o 3, .inl (0, 3, .inl (plX r))), (o 4, .inl (0, 3, .inl (plY r))), (o 5, .inl (1, 3, .inr (.inl (moX r)))), (o 6, .inl (1, 3, .inr (.inl (moY r))))] := ⟨_, rfl⟩
  refine rn.mono (J := xSt F V0 [(o 0, .inr (2, [.ref (o 1), .ref (o 2), .ref (o 3), .ref (o 4), .ref (o 5), .ref (o 6), .ref (o 7), .ref (o 8), .ref (o 9), .ref (o 10), .int ((r 0).toInt32)])), (o 1, .inl (0, 6, .inl (seF t r))), (o 2, .inl (0, 3, .inl (maF r))), (o 3, .inl (0, 3, .inl (plX r))), (o 4, .inl (0, 3, .inl (plY r))), (o 5, .inl (1, 3, .inr (.inl (moX r)))), (o 6, .inl (1, 3, .inr (.inl (moY r))))]) (fun V9 h => by rw [h, hV0, hF]; exact hV.st) ?_
  show rn C (xSt F V0 [(o 0, .inr (2, [.ref (o 1), .ref (o 2), .ref (o 3), .ref (o 4), .ref (o 5), .ref (o 6), .ref (o 7), .ref (o 8), .ref (o 9), .ref (o 10), .int ((r 0).toInt32)])), (o 1, .inl (0, 6, .inl (seF t r))), (o 2, .inl (0, 3, .inl (maF r))), (o 3, .inl (0, 3, .inl (plX r))), (o 4, .inl (0, 3, .inl (plY r))), (o 5, .inl (1, 3, .inr (.inl (moX r)))), (o 6, .inl (1, 3, .inr (.inl (moY r))))]) 0 0 0 [(0, .ref (o 0)), (1, .int (-1)), (2, .int 2)] []
  refine r_iconst hC 0 dX3_kick_0 ic_0 1 rfl ?_
  refine r_istore_n hC 3 [(3, .int 0), (0, .ref (o 0)), (1, .int (-1)), (2, .int 2)] dX3_kick_1 rfl (Nat.le_of_ble_eq_true rfl) rfl 2 rfl ?_
  refine r_iload_n hC 0 dX3_kick_2 rfl 3 rfl ?_
  refine r_iconst hC 3 dX3_kick_3 ic_3 4 rfl ?_
  refine r_icge hC 101 dX3_kick_4 (by decide) 7 rfl (fun h => absurd h (by decide)) (fun _ => ?_)
  refine r_iload_n hC 2 dX3_kick_7 rfl 8 rfl ?_
  refine r_i2l hC (-1) dX3_kick_8 (by decide) 9 rfl ?_
  refine r_aload_n hC 1 dX3_kick_9 rfl 10 rfl ?_
  refine r_iload_n hC 0 dX3_kick_10 rfl 11 rfl ?_
  refine r_iconst hC 0 dX3_kick_11 ic_0 12 rfl ?_
  refine xCall.r (r := some (.long (impQ t r 0 0))) (r_cV hC kX3 (o 0) [.int 0, .int 0] mVX3_impulse q331 (fun _ h => ⟨_, h.get 0 rfl⟩) (fun V9 h9 => (metX3_impulse0 _ _ hG o t r 0 (Nat.le_of_ble_eq_true rfl) hpl ht hm) V9 (h9.in.sub [0, 1, 2, 3, 4] rfl rfl)) ⟨rfl, rfl⟩ (Nat.le_of_ble_eq_true rfl) (Nat.le_of_ble_eq_true rfl) rfl (Nat.le_of_ble_eq_true rfl) dX3_kick_12) 0 0 15 rfl rfl rfl ?_
  refine r_iload_n hC 3 dX3_kick_15 rfl 16 rfl ?_
  refine r_i2l hC 2 dX3_kick_16 (by decide) 17 rfl ?_
  refine r_ldiv hC ((impQ t r 0 0) / 2) dX3_kick_17 (by decide) (rfl) 18 rfl ?_
  refine r_lmul hC ((-1) * ((impQ t r 0 0) / 2)) dX3_kick_18  (rfl) 19 rfl ?_
  refine r_eql (y := gQ t r true true 0 0) (g11 _) ?_
  refine r_lstore hC 4 [(4, .long (gQ t r true true 0 0)), (3, .int 0), (0, .ref (o 0)), (1, .int (-1)), (2, .int 2)] dX3_kick_19 (Nat.le_of_ble_eq_true rfl) rfl 21 rfl ?_
  refine r_iload_n hC 3 dX3_kick_21 rfl 22 rfl ?_
  refine r_i2l hC (-1) dX3_kick_22 (by decide) 23 rfl ?_
  refine r_aload_n hC 2 dX3_kick_23 rfl 24 rfl ?_
  refine r_iload_n hC 1 dX3_kick_24 rfl 25 rfl ?_
  refine r_iconst hC 1 dX3_kick_25 ic_1 26 rfl ?_
  refine xCall.r (r := some (.long (impQ t r 0 1))) (r_cV hC kX3 (o 0) [.int 0, .int 1] mVX3_impulse q331 (fun _ h => ⟨_, h.get 0 rfl⟩) (fun V9 h9 => (metX3_impulse1 _ _ hG o t r 0 (Nat.le_of_ble_eq_true rfl) hpl ht hm) V9 (h9.in.sub [0, 1, 2, 3, 4] rfl rfl)) ⟨rfl, rfl⟩ (Nat.le_of_ble_eq_true rfl) (Nat.le_of_ble_eq_true rfl) rfl (Nat.le_of_ble_eq_true rfl) dX3_kick_26) 0 0 29 rfl rfl rfl ?_
  refine r_iload_n hC 4 dX3_kick_29 rfl 30 rfl ?_
  refine r_i2l hC 2 dX3_kick_30 (by decide) 31 rfl ?_
  refine r_ldiv hC ((impQ t r 0 1) / 2) dX3_kick_31 (by decide) (rfl) 32 rfl ?_
  refine r_lmul hC ((-1) * ((impQ t r 0 1) / 2)) dX3_kick_32  (rfl) 33 rfl ?_
  refine r_eql (y := gQ t r true true 0 1) (g11 _) ?_
  refine r_lstore hC 6 [(6, .long (gQ t r true true 0 1)), (4, .long (gQ t r true true 0 0)), (3, .int 0), (0, .ref (o 0)), (1, .int (-1)), (2, .int 2)] dX3_kick_33 (Nat.le_of_ble_eq_true rfl) rfl 35 rfl ?_
  refine r_aload_n hC 3 dX3_kick_35 rfl 36 rfl ?_
  refine r_get (v := .ref (o 5)) hC kX3 4 rfl q188 (fun _ h => h.get 0 rfl) rfl dX3_kick_36 39 rfl ?_
  refine r_getsN hC hG hzONE q271 dX3_kick_39 42 rfl ?_
  refine r_iload_n hC 2 dX3_kick_42 rfl 43 rfl ?_
  refine r_ialdT hC htONE 0 (xix_n 0 (Nat.le_of_ble_eq_true rfl) (Nat.le_of_ble_eq_true rfl)) 0 rfl dX3_kick_43 44 rfl ?_
  refine r_dup2 hC dX3_kick_44 rfl rfl 45 rfl ?_
  refine r_lald hC 0 (xix_n 0 (Nat.le_of_ble_eq_true rfl) (Nat.le_of_ble_eq_true rfl)) (fun _ h => h.get 5 rfl) (moX r 0) (rfl) dX3_kick_45 46 rfl ?_
  refine r_eql (y := r 9) (rfl) ?_
  refine r_lload hC 1 dX3_kick_46 rfl 48 rfl ?_
  refine r_ladd hC ((r 9) + (gQ t r true true 0 0)) dX3_kick_48  (rfl) 49 rfl ?_
  refine r_last (J := xSt F V0 [(o 0, .inr (2, [.ref (o 1), .ref (o 2), .ref (o 3), .ref (o 4), .ref (o 5), .ref (o 6), .ref (o 7), .ref (o 8), .ref (o 9), .ref (o 10), .int ((r 0).toInt32)])), (o 1, .inl (0, 6, .inl (seF t r))), (o 2, .inl (0, 3, .inl (maF r))), (o 3, .inl (0, 3, .inl (plX r))), (o 4, .inl (0, 3, .inl (plY r))), (o 5, .inl (1, 3, .inr (.inl (va_up (moX r) 0 ((r 9) + (gQ t r true true 0 0)))))), (o 6, .inl (1, 3, .inr (.inl (moY r))))]) hC 0 (xix_n 0 (Nat.le_of_ble_eq_true rfl) (Nat.le_of_ble_eq_true rfl)) (fun _ h => h.get 5 rfl) dX3_kick_49 (fun _ h => h.set 5 _ rfl) 50 rfl ?_
  generalize hu1 : va_up (moX r) 0 ((r 9) + (gQ t r true true 0 0)) = u1
  refine r_aload_n hC 3 dX3_kick_50 rfl 51 rfl ?_
  refine r_get (v := .ref (o 6)) hC kX3 5 rfl q191 (fun _ h => h.get 0 rfl) rfl dX3_kick_51 54 rfl ?_
  refine r_getsN hC hG hzONE q271 dX3_kick_54 57 rfl ?_
  refine r_iload_n hC 2 dX3_kick_57 rfl 58 rfl ?_
  refine r_ialdT hC htONE 0 (xix_n 0 (Nat.le_of_ble_eq_true rfl) (Nat.le_of_ble_eq_true rfl)) 0 rfl dX3_kick_58 59 rfl ?_
  refine r_dup2 hC dX3_kick_59 rfl rfl 60 rfl ?_
  refine r_lald hC 0 (xix_n 0 (Nat.le_of_ble_eq_true rfl) (Nat.le_of_ble_eq_true rfl)) (fun _ h => h.get 6 rfl) (moY r 0) (rfl) dX3_kick_60 61 rfl ?_
  refine r_eql (y := r 10) (rfl) ?_
  refine r_lload hC 0 dX3_kick_61 rfl 63 rfl ?_
  refine r_ladd hC ((r 10) + (gQ t r true true 0 1)) dX3_kick_63  (rfl) 64 rfl ?_
  refine r_last (J := xSt F V0 [(o 0, .inr (2, [.ref (o 1), .ref (o 2), .ref (o 3), .ref (o 4), .ref (o 5), .ref (o 6), .ref (o 7), .ref (o 8), .ref (o 9), .ref (o 10), .int ((r 0).toInt32)])), (o 1, .inl (0, 6, .inl (seF t r))), (o 2, .inl (0, 3, .inl (maF r))), (o 3, .inl (0, 3, .inl (plX r))), (o 4, .inl (0, 3, .inl (plY r))), (o 5, .inl (1, 3, .inr (.inl u1))), (o 6, .inl (1, 3, .inr (.inl (va_up (moY r) 0 ((r 10) + (gQ t r true true 0 1))))))]) hC 0 (xix_n 0 (Nat.le_of_ble_eq_true rfl) (Nat.le_of_ble_eq_true rfl)) (fun _ h => h.get 6 rfl) dX3_kick_64 (fun _ h => h.set 6 _ rfl) 65 rfl ?_
  generalize hu2 : va_up (moY r) 0 ((r 10) + (gQ t r true true 0 1)) = u2
  refine r_aload_n hC 3 dX3_kick_65 rfl 66 rfl ?_
  refine r_get (v := .ref (o 5)) hC kX3 4 rfl q188 (fun _ h => h.get 0 rfl) rfl dX3_kick_66 69 rfl ?_
  refine r_getsN hC hG hzOTH q273 dX3_kick_69 72 rfl ?_
  refine r_iload_n hC 2 dX3_kick_72 rfl 73 rfl ?_
  refine r_ialdT hC htOTH 0 (xix_n 0 (Nat.le_of_ble_eq_true rfl) (Nat.le_of_ble_eq_true rfl)) 1 rfl dX3_kick_73 74 rfl ?_
  refine r_dup2 hC dX3_kick_74 rfl rfl 75 rfl ?_
  refine r_lald hC 1 (xix_n 1 (Nat.le_of_ble_eq_true rfl) (Nat.le_of_ble_eq_true rfl)) (fun _ h => h.get 5 rfl) (moX r 1) (by rw [← hu1]; rfl) dX3_kick_75 76 rfl ?_
  refine r_eql (y := r 14) (rfl) ?_
  refine r_lload hC 1 dX3_kick_76 rfl 78 rfl ?_
  refine r_lsub hC ((r 14) - (gQ t r true true 0 0)) dX3_kick_78  (rfl) 79 rfl ?_
  refine r_last (J := xSt F V0 [(o 0, .inr (2, [.ref (o 1), .ref (o 2), .ref (o 3), .ref (o 4), .ref (o 5), .ref (o 6), .ref (o 7), .ref (o 8), .ref (o 9), .ref (o 10), .int ((r 0).toInt32)])), (o 1, .inl (0, 6, .inl (seF t r))), (o 2, .inl (0, 3, .inl (maF r))), (o 3, .inl (0, 3, .inl (plX r))), (o 4, .inl (0, 3, .inl (plY r))), (o 5, .inl (1, 3, .inr (.inl (va_up u1 1 ((r 14) - (gQ t r true true 0 0)))))), (o 6, .inl (1, 3, .inr (.inl u2)))]) hC 1 (xix_n 1 (Nat.le_of_ble_eq_true rfl) (Nat.le_of_ble_eq_true rfl)) (fun _ h => h.get 5 rfl) dX3_kick_79 (fun _ h => h.set 5 _ rfl) 80 rfl ?_
  generalize hu3 : va_up u1 1 ((r 14) - (gQ t r true true 0 0)) = u3
  refine r_aload_n hC 3 dX3_kick_80 rfl 81 rfl ?_
  refine r_get (v := .ref (o 6)) hC kX3 5 rfl q191 (fun _ h => h.get 0 rfl) rfl dX3_kick_81 84 rfl ?_
  refine r_getsN hC hG hzOTH q273 dX3_kick_84 87 rfl ?_
  refine r_iload_n hC 2 dX3_kick_87 rfl 88 rfl ?_
  refine r_ialdT hC htOTH 0 (xix_n 0 (Nat.le_of_ble_eq_true rfl) (Nat.le_of_ble_eq_true rfl)) 1 rfl dX3_kick_88 89 rfl ?_
  refine r_dup2 hC dX3_kick_89 rfl rfl 90 rfl ?_
  refine r_lald hC 1 (xix_n 1 (Nat.le_of_ble_eq_true rfl) (Nat.le_of_ble_eq_true rfl)) (fun _ h => h.get 6 rfl) (moY r 1) (by rw [← hu2]; rfl) dX3_kick_90 91 rfl ?_
  refine r_eql (y := r 15) (rfl) ?_
  refine r_lload hC 0 dX3_kick_91 rfl 93 rfl ?_
  refine r_lsub hC ((r 15) - (gQ t r true true 0 1)) dX3_kick_93  (rfl) 94 rfl ?_
  refine r_last (J := xSt F V0 [(o 0, .inr (2, [.ref (o 1), .ref (o 2), .ref (o 3), .ref (o 4), .ref (o 5), .ref (o 6), .ref (o 7), .ref (o 8), .ref (o 9), .ref (o 10), .int ((r 0).toInt32)])), (o 1, .inl (0, 6, .inl (seF t r))), (o 2, .inl (0, 3, .inl (maF r))), (o 3, .inl (0, 3, .inl (plX r))), (o 4, .inl (0, 3, .inl (plY r))), (o 5, .inl (1, 3, .inr (.inl u3))), (o 6, .inl (1, 3, .inr (.inl (va_up u2 1 ((r 15) - (gQ t r true true 0 1))))))]) hC 1 (xix_n 1 (Nat.le_of_ble_eq_true rfl) (Nat.le_of_ble_eq_true rfl)) (fun _ h => h.get 6 rfl) dX3_kick_94 (fun _ h => h.set 6 _ rfl) 95 rfl ?_
  generalize hu4 : va_up u2 1 ((r 15) - (gQ t r true true 0 1)) = u4
  refine r_iinc hC 1 3 2 [(3, .int 1), (6, .long (gQ t r true true 0 1)), (4, .long (gQ t r true true 0 0)), (0, .ref (o 0)), (1, .int (-1)), (2, .int 2)] dX3_kick_95 rfl (by decide) (Nat.le_of_ble_eq_true rfl) rfl 98 rfl ?_
  refine r_goto hC 2 dX3_kick_98 (by decide) ?_
  refine r_iload_n hC 0 dX3_kick_2 rfl 3 rfl ?_
  refine r_iconst hC 3 dX3_kick_3 ic_3 4 rfl ?_
  refine r_icge hC 101 dX3_kick_4 (by decide) 7 rfl (fun h => absurd h (by decide)) (fun _ => ?_)
  refine r_iload_n hC 4 dX3_kick_7 rfl 8 rfl ?_
  refine r_i2l hC (-1) dX3_kick_8 (by decide) 9 rfl ?_
  refine r_aload_n hC 3 dX3_kick_9 rfl 10 rfl ?_
  refine r_iload_n hC 0 dX3_kick_10 rfl 11 rfl ?_
  refine r_iconst hC 0 dX3_kick_11 ic_0 12 rfl ?_
  refine xCall.r (r := some (.long (impQ t r 1 0))) (r_cV hC kX3 (o 0) [.int 1, .int 0] mVX3_impulse q331 (fun _ h => ⟨_, h.get 0 rfl⟩) (fun V9 h9 => (metX3_impulse0 _ _ hG o t r 1 (Nat.le_of_ble_eq_true rfl) hpl ht hm) V9 (h9.in.sub [0, 1, 2, 3, 4] rfl rfl)) ⟨rfl, rfl⟩ (Nat.le_of_ble_eq_true rfl) (Nat.le_of_ble_eq_true rfl) rfl (Nat.le_of_ble_eq_true rfl) dX3_kick_12) 0 0 15 rfl rfl rfl ?_
  refine r_iload_n hC 5 dX3_kick_15 rfl 16 rfl ?_
  refine r_i2l hC 2 dX3_kick_16 (by decide) 17 rfl ?_
  refine r_ldiv hC ((impQ t r 1 0) / 2) dX3_kick_17 (by decide) (rfl) 18 rfl ?_
  refine r_lmul hC ((-1) * ((impQ t r 1 0) / 2)) dX3_kick_18  (rfl) 19 rfl ?_
  refine r_eql (y := gQ t r true true 1 0) (g11 _) ?_
  refine r_lstore hC 4 [(4, .long (gQ t r true true 1 0)), (3, .int 1), (6, .long (gQ t r true true 0 1)), (0, .ref (o 0)), (1, .int (-1)), (2, .int 2)] dX3_kick_19 (Nat.le_of_ble_eq_true rfl) rfl 21 rfl ?_
  refine r_iload_n hC 4 dX3_kick_21 rfl 22 rfl ?_
  refine r_i2l hC (-1) dX3_kick_22 (by decide) 23 rfl ?_
  refine r_aload_n hC 3 dX3_kick_23 rfl 24 rfl ?_
  refine r_iload_n hC 1 dX3_kick_24 rfl 25 rfl ?_
  refine r_iconst hC 1 dX3_kick_25 ic_1 26 rfl ?_
  refine xCall.r (r := some (.long (impQ t r 1 1))) (r_cV hC kX3 (o 0) [.int 1, .int 1] mVX3_impulse q331 (fun _ h => ⟨_, h.get 0 rfl⟩) (fun V9 h9 => (metX3_impulse1 _ _ hG o t r 1 (Nat.le_of_ble_eq_true rfl) hpl ht hm) V9 (h9.in.sub [0, 1, 2, 3, 4] rfl rfl)) ⟨rfl, rfl⟩ (Nat.le_of_ble_eq_true rfl) (Nat.le_of_ble_eq_true rfl) rfl (Nat.le_of_ble_eq_true rfl) dX3_kick_26) 0 0 29 rfl rfl rfl ?_
  refine r_iload_n hC 5 dX3_kick_29 rfl 30 rfl ?_
  refine r_i2l hC 2 dX3_kick_30 (by decide) 31 rfl ?_
  refine r_ldiv hC ((impQ t r 1 1) / 2) dX3_kick_31 (by decide) (rfl) 32 rfl ?_
  refine r_lmul hC ((-1) * ((impQ t r 1 1) / 2)) dX3_kick_32  (rfl) 33 rfl ?_
  refine r_eql (y := gQ t r true true 1 1) (g11 _) ?_
  refine r_lstore hC 6 [(6, .long (gQ t r true true 1 1)), (4, .long (gQ t r true true 1 0)), (3, .int 1), (0, .ref (o 0)), (1, .int (-1)), (2, .int 2)] dX3_kick_33 (Nat.le_of_ble_eq_true rfl) rfl 35 rfl ?_
  refine r_aload_n hC 3 dX3_kick_35 rfl 36 rfl ?_
  refine r_get (v := .ref (o 5)) hC kX3 4 rfl q188 (fun _ h => h.get 0 rfl) rfl dX3_kick_36 39 rfl ?_
  refine r_getsN hC hG hzONE q271 dX3_kick_39 42 rfl ?_
  refine r_iload_n hC 2 dX3_kick_42 rfl 43 rfl ?_
  refine r_ialdT hC htONE 1 (xix_n 1 (Nat.le_of_ble_eq_true rfl) (Nat.le_of_ble_eq_true rfl)) 0 rfl dX3_kick_43 44 rfl ?_
  refine r_dup2 hC dX3_kick_44 rfl rfl 45 rfl ?_
  refine r_lald hC 0 (xix_n 0 (Nat.le_of_ble_eq_true rfl) (Nat.le_of_ble_eq_true rfl)) (fun _ h => h.get 5 rfl) ((r 9) + (gQ t r true true 0 0)) (by rw [← hu3, ← hu1]; rfl) dX3_kick_45 46 rfl ?_
  refine r_lload hC 1 dX3_kick_46 rfl 48 rfl ?_
  refine r_ladd hC (((r 9) + (gQ t r true true 0 0)) + (gQ t r true true 1 0)) dX3_kick_48  (rfl) 49 rfl ?_
  refine r_last (J := xSt F V0 [(o 0, .inr (2, [.ref (o 1), .ref (o 2), .ref (o 3), .ref (o 4), .ref (o 5), .ref (o 6), .ref (o 7), .ref (o 8), .ref (o 9), .ref (o 10), .int ((r 0).toInt32)])), (o 1, .inl (0, 6, .inl (seF t r))), (o 2, .inl (0, 3, .inl (maF r))), (o 3, .inl (0, 3, .inl (plX r))), (o 4, .inl (0, 3, .inl (plY r))), (o 5, .inl (1, 3, .inr (.inl (va_up u3 0 (((r 9) + (gQ t r true true 0 0)) + (gQ t r true true 1 0)))))), (o 6, .inl (1, 3, .inr (.inl u4)))]) hC 0 (xix_n 0 (Nat.le_of_ble_eq_true rfl) (Nat.le_of_ble_eq_true rfl)) (fun _ h => h.get 5 rfl) dX3_kick_49 (fun _ h => h.set 5 _ rfl) 50 rfl ?_
  generalize hu5 : va_up u3 0 (((r 9) + (gQ t r true true 0 0)) + (gQ t r true true 1 0)) = u5
  refine r_aload_n hC 3 dX3_kick_50 rfl 51 rfl ?_
  refine r_get (v := .ref (o 6)) hC kX3 5 rfl q191 (fun _ h => h.get 0 rfl) rfl dX3_kick_51 54 rfl ?_
  refine r_getsN hC hG hzONE q271 dX3_kick_54 57 rfl ?_
  refine r_iload_n hC 2 dX3_kick_57 rfl 58 rfl ?_
  refine r_ialdT hC htONE 1 (xix_n 1 (Nat.le_of_ble_eq_true rfl) (Nat.le_of_ble_eq_true rfl)) 0 rfl dX3_kick_58 59 rfl ?_
  refine r_dup2 hC dX3_kick_59 rfl rfl 60 rfl ?_
  refine r_lald hC 0 (xix_n 0 (Nat.le_of_ble_eq_true rfl) (Nat.le_of_ble_eq_true rfl)) (fun _ h => h.get 6 rfl) ((r 10) + (gQ t r true true 0 1)) (by rw [← hu4, ← hu2]; rfl) dX3_kick_60 61 rfl ?_
  refine r_lload hC 0 dX3_kick_61 rfl 63 rfl ?_
  refine r_ladd hC (((r 10) + (gQ t r true true 0 1)) + (gQ t r true true 1 1)) dX3_kick_63  (rfl) 64 rfl ?_
  refine r_last (J := xSt F V0 [(o 0, .inr (2, [.ref (o 1), .ref (o 2), .ref (o 3), .ref (o 4), .ref (o 5), .ref (o 6), .ref (o 7), .ref (o 8), .ref (o 9), .ref (o 10), .int ((r 0).toInt32)])), (o 1, .inl (0, 6, .inl (seF t r))), (o 2, .inl (0, 3, .inl (maF r))), (o 3, .inl (0, 3, .inl (plX r))), (o 4, .inl (0, 3, .inl (plY r))), (o 5, .inl (1, 3, .inr (.inl u5))), (o 6, .inl (1, 3, .inr (.inl (va_up u4 0 (((r 10) + (gQ t r true true 0 1)) + (gQ t r true true 1 1))))))]) hC 0 (xix_n 0 (Nat.le_of_ble_eq_true rfl) (Nat.le_of_ble_eq_true rfl)) (fun _ h => h.get 6 rfl) dX3_kick_64 (fun _ h => h.set 6 _ rfl) 65 rfl ?_
  generalize hu6 : va_up u4 0 (((r 10) + (gQ t r true true 0 1)) + (gQ t r true true 1 1)) = u6
  refine r_aload_n hC 3 dX3_kick_65 rfl 66 rfl ?_
  refine r_get (v := .ref (o 5)) hC kX3 4 rfl q188 (fun _ h => h.get 0 rfl) rfl dX3_kick_66 69 rfl ?_
  refine r_getsN hC hG hzOTH q273 dX3_kick_69 72 rfl ?_
  refine r_iload_n hC 2 dX3_kick_72 rfl 73 rfl ?_
  refine r_ialdT hC htOTH 1 (xix_n 1 (Nat.le_of_ble_eq_true rfl) (Nat.le_of_ble_eq_true rfl)) 2 rfl dX3_kick_73 74 rfl ?_
  refine r_dup2 hC dX3_kick_74 rfl rfl 75 rfl ?_
  refine r_lald hC 2 (xix_n 2 (Nat.le_of_ble_eq_true rfl) (Nat.le_of_ble_eq_true rfl)) (fun _ h => h.get 5 rfl) (moX r 2) (by rw [← hu5, ← hu3, ← hu1]; rfl) dX3_kick_75 76 rfl ?_
  refine r_eql (y := r 19) (rfl) ?_
  refine r_lload hC 1 dX3_kick_76 rfl 78 rfl ?_
  refine r_lsub hC ((r 19) - (gQ t r true true 1 0)) dX3_kick_78  (rfl) 79 rfl ?_
  refine r_last (J := xSt F V0 [(o 0, .inr (2, [.ref (o 1), .ref (o 2), .ref (o 3), .ref (o 4), .ref (o 5), .ref (o 6), .ref (o 7), .ref (o 8), .ref (o 9), .ref (o 10), .int ((r 0).toInt32)])), (o 1, .inl (0, 6, .inl (seF t r))), (o 2, .inl (0, 3, .inl (maF r))), (o 3, .inl (0, 3, .inl (plX r))), (o 4, .inl (0, 3, .inl (plY r))), (o 5, .inl (1, 3, .inr (.inl (va_up u5 2 ((r 19) - (gQ t r true true 1 0)))))), (o 6, .inl (1, 3, .inr (.inl u6)))]) hC 2 (xix_n 2 (Nat.le_of_ble_eq_true rfl) (Nat.le_of_ble_eq_true rfl)) (fun _ h => h.get 5 rfl) dX3_kick_79 (fun _ h => h.set 5 _ rfl) 80 rfl ?_
  generalize hu7 : va_up u5 2 ((r 19) - (gQ t r true true 1 0)) = u7
  refine r_aload_n hC 3 dX3_kick_80 rfl 81 rfl ?_
  refine r_get (v := .ref (o 6)) hC kX3 5 rfl q191 (fun _ h => h.get 0 rfl) rfl dX3_kick_81 84 rfl ?_
  refine r_getsN hC hG hzOTH q273 dX3_kick_84 87 rfl ?_
  refine r_iload_n hC 2 dX3_kick_87 rfl 88 rfl ?_
  refine r_ialdT hC htOTH 1 (xix_n 1 (Nat.le_of_ble_eq_true rfl) (Nat.le_of_ble_eq_true rfl)) 2 rfl dX3_kick_88 89 rfl ?_
  refine r_dup2 hC dX3_kick_89 rfl rfl 90 rfl ?_
  refine r_lald hC 2 (xix_n 2 (Nat.le_of_ble_eq_true rfl) (Nat.le_of_ble_eq_true rfl)) (fun _ h => h.get 6 rfl) (moY r 2) (by rw [← hu6, ← hu4, ← hu2]; rfl) dX3_kick_90 91 rfl ?_
  refine r_eql (y := r 20) (rfl) ?_
  refine r_lload hC 0 dX3_kick_91 rfl 93 rfl ?_
  refine r_lsub hC ((r 20) - (gQ t r true true 1 1)) dX3_kick_93  (rfl) 94 rfl ?_
  refine r_last (J := xSt F V0 [(o 0, .inr (2, [.ref (o 1), .ref (o 2), .ref (o 3), .ref (o 4), .ref (o 5), .ref (o 6), .ref (o 7), .ref (o 8), .ref (o 9), .ref (o 10), .int ((r 0).toInt32)])), (o 1, .inl (0, 6, .inl (seF t r))), (o 2, .inl (0, 3, .inl (maF r))), (o 3, .inl (0, 3, .inl (plX r))), (o 4, .inl (0, 3, .inl (plY r))), (o 5, .inl (1, 3, .inr (.inl u7))), (o 6, .inl (1, 3, .inr (.inl (va_up u6 2 ((r 20) - (gQ t r true true 1 1))))))]) hC 2 (xix_n 2 (Nat.le_of_ble_eq_true rfl) (Nat.le_of_ble_eq_true rfl)) (fun _ h => h.get 6 rfl) dX3_kick_94 (fun _ h => h.set 6 _ rfl) 95 rfl ?_
  generalize hu8 : va_up u6 2 ((r 20) - (gQ t r true true 1 1)) = u8
  refine r_iinc hC 2 3 2 [(3, .int 2), (6, .long (gQ t r true true 1 1)), (4, .long (gQ t r true true 1 0)), (0, .ref (o 0)), (1, .int (-1)), (2, .int 2)] dX3_kick_95 rfl (by decide) (Nat.le_of_ble_eq_true rfl) rfl 98 rfl ?_
  refine r_goto hC 2 dX3_kick_98 (by decide) ?_
  refine r_iload_n hC 0 dX3_kick_2 rfl 3 rfl ?_
  refine r_iconst hC 3 dX3_kick_3 ic_3 4 rfl ?_
  refine r_icge hC 101 dX3_kick_4 (by decide) 7 rfl (fun h => absurd h (by decide)) (fun _ => ?_)
  refine r_iload_n hC 4 dX3_kick_7 rfl 8 rfl ?_
  refine r_i2l hC (-1) dX3_kick_8 (by decide) 9 rfl ?_
  refine r_aload_n hC 3 dX3_kick_9 rfl 10 rfl ?_
  refine r_iload_n hC 0 dX3_kick_10 rfl 11 rfl ?_
  refine r_iconst hC 0 dX3_kick_11 ic_0 12 rfl ?_
  refine xCall.r (r := some (.long (impQ t r 2 0))) (r_cV hC kX3 (o 0) [.int 2, .int 0] mVX3_impulse q331 (fun _ h => ⟨_, h.get 0 rfl⟩) (fun V9 h9 => (metX3_impulse0 _ _ hG o t r 2 (Nat.le_of_ble_eq_true rfl) hpl ht hm) V9 (h9.in.sub [0, 1, 2, 3, 4] rfl rfl)) ⟨rfl, rfl⟩ (Nat.le_of_ble_eq_true rfl) (Nat.le_of_ble_eq_true rfl) rfl (Nat.le_of_ble_eq_true rfl) dX3_kick_12) 0 0 15 rfl rfl rfl ?_
  refine r_iload_n hC 5 dX3_kick_15 rfl 16 rfl ?_
  refine r_i2l hC 2 dX3_kick_16 (by decide) 17 rfl ?_
  refine r_ldiv hC ((impQ t r 2 0) / 2) dX3_kick_17 (by decide) (rfl) 18 rfl ?_
  refine r_lmul hC ((-1) * ((impQ t r 2 0) / 2)) dX3_kick_18  (rfl) 19 rfl ?_
  refine r_eql (y := gQ t r true true 2 0) (g11 _) ?_
  refine r_lstore hC 4 [(4, .long (gQ t r true true 2 0)), (3, .int 2), (6, .long (gQ t r true true 1 1)), (0, .ref (o 0)), (1, .int (-1)), (2, .int 2)] dX3_kick_19 (Nat.le_of_ble_eq_true rfl) rfl 21 rfl ?_
  refine r_iload_n hC 4 dX3_kick_21 rfl 22 rfl ?_
  refine r_i2l hC (-1) dX3_kick_22 (by decide) 23 rfl ?_
  refine r_aload_n hC 3 dX3_kick_23 rfl 24 rfl ?_
  refine r_iload_n hC 1 dX3_kick_24 rfl 25 rfl ?_
  refine r_iconst hC 1 dX3_kick_25 ic_1 26 rfl ?_
  refine xCall.r (r := some (.long (impQ t r 2 1))) (r_cV hC kX3 (o 0) [.int 2, .int 1] mVX3_impulse q331 (fun _ h => ⟨_, h.get 0 rfl⟩) (fun V9 h9 => (metX3_impulse1 _ _ hG o t r 2 (Nat.le_of_ble_eq_true rfl) hpl ht hm) V9 (h9.in.sub [0, 1, 2, 3, 4] rfl rfl)) ⟨rfl, rfl⟩ (Nat.le_of_ble_eq_true rfl) (Nat.le_of_ble_eq_true rfl) rfl (Nat.le_of_ble_eq_true rfl) dX3_kick_26) 0 0 29 rfl rfl rfl ?_
  refine r_iload_n hC 5 dX3_kick_29 rfl 30 rfl ?_
  refine r_i2l hC 2 dX3_kick_30 (by decide) 31 rfl ?_
  refine r_ldiv hC ((impQ t r 2 1) / 2) dX3_kick_31 (by decide) (rfl) 32 rfl ?_
  refine r_lmul hC ((-1) * ((impQ t r 2 1) / 2)) dX3_kick_32  (rfl) 33 rfl ?_
  refine r_eql (y := gQ t r true true 2 1) (g11 _) ?_
  refine r_lstore hC 6 [(6, .long (gQ t r true true 2 1)), (4, .long (gQ t r true true 2 0)), (3, .int 2), (0, .ref (o 0)), (1, .int (-1)), (2, .int 2)] dX3_kick_33 (Nat.le_of_ble_eq_true rfl) rfl 35 rfl ?_
  refine r_aload_n hC 3 dX3_kick_35 rfl 36 rfl ?_
  refine r_get (v := .ref (o 5)) hC kX3 4 rfl q188 (fun _ h => h.get 0 rfl) rfl dX3_kick_36 39 rfl ?_
  refine r_getsN hC hG hzONE q271 dX3_kick_39 42 rfl ?_
  refine r_iload_n hC 2 dX3_kick_42 rfl 43 rfl ?_
  refine r_ialdT hC htONE 2 (xix_n 2 (Nat.le_of_ble_eq_true rfl) (Nat.le_of_ble_eq_true rfl)) 1 rfl dX3_kick_43 44 rfl ?_
  refine r_dup2 hC dX3_kick_44 rfl rfl 45 rfl ?_
  refine r_lald hC 1 (xix_n 1 (Nat.le_of_ble_eq_true rfl) (Nat.le_of_ble_eq_true rfl)) (fun _ h => h.get 5 rfl) ((r 14) - (gQ t r true true 0 0)) (by rw [← hu7, ← hu5, ← hu3]; rfl) dX3_kick_45 46 rfl ?_
  refine r_lload hC 1 dX3_kick_46 rfl 48 rfl ?_
  refine r_ladd hC (((r 14) - (gQ t r true true 0 0)) + (gQ t r true true 2 0)) dX3_kick_48  (rfl) 49 rfl ?_
  refine r_last (J := xSt F V0 [(o 0, .inr (2, [.ref (o 1), .ref (o 2), .ref (o 3), .ref (o 4), .ref (o 5), .ref (o 6), .ref (o 7), .ref (o 8), .ref (o 9), .ref (o 10), .int ((r 0).toInt32)])), (o 1, .inl (0, 6, .inl (seF t r))), (o 2, .inl (0, 3, .inl (maF r))), (o 3, .inl (0, 3, .inl (plX r))), (o 4, .inl (0, 3, .inl (plY r))), (o 5, .inl (1, 3, .inr (.inl (va_up u7 1 (((r 14) - (gQ t r true true 0 0)) + (gQ t r true true 2 0)))))), (o 6, .inl (1, 3, .inr (.inl u8)))]) hC 1 (xix_n 1 (Nat.le_of_ble_eq_true rfl) (Nat.le_of_ble_eq_true rfl)) (fun _ h => h.get 5 rfl) dX3_kick_49 (fun _ h => h.set 5 _ rfl) 50 rfl ?_
  generalize hu9 : va_up u7 1 (((r 14) - (gQ t r true true 0 0)) + (gQ t r true true 2 0)) = u9
  refine r_aload_n hC 3 dX3_kick_50 rfl 51 rfl ?_
  refine r_get (v := .ref (o 6)) hC kX3 5 rfl q191 (fun _ h => h.get 0 rfl) rfl dX3_kick_51 54 rfl ?_
  refine r_getsN hC hG hzONE q271 dX3_kick_54 57 rfl ?_
  refine r_iload_n hC 2 dX3_kick_57 rfl 58 rfl ?_
  refine r_ialdT hC htONE 2 (xix_n 2 (Nat.le_of_ble_eq_true rfl) (Nat.le_of_ble_eq_true rfl)) 1 rfl dX3_kick_58 59 rfl ?_
  refine r_dup2 hC dX3_kick_59 rfl rfl 60 rfl ?_
  refine r_lald hC 1 (xix_n 1 (Nat.le_of_ble_eq_true rfl) (Nat.le_of_ble_eq_true rfl)) (fun _ h => h.get 6 rfl) ((r 15) - (gQ t r true true 0 1)) (by rw [← hu8, ← hu6, ← hu4]; rfl) dX3_kick_60 61 rfl ?_
  refine r_lload hC 0 dX3_kick_61 rfl 63 rfl ?_
  refine r_ladd hC (((r 15) - (gQ t r true true 0 1)) + (gQ t r true true 2 1)) dX3_kick_63  (rfl) 64 rfl ?_
  refine r_last (J := xSt F V0 [(o 0, .inr (2, [.ref (o 1), .ref (o 2), .ref (o 3), .ref (o 4), .ref (o 5), .ref (o 6), .ref (o 7), .ref (o 8), .ref (o 9), .ref (o 10), .int ((r 0).toInt32)])), (o 1, .inl (0, 6, .inl (seF t r))), (o 2, .inl (0, 3, .inl (maF r))), (o 3, .inl (0, 3, .inl (plX r))), (o 4, .inl (0, 3, .inl (plY r))), (o 5, .inl (1, 3, .inr (.inl u9))), (o 6, .inl (1, 3, .inr (.inl (va_up u8 1 (((r 15) - (gQ t r true true 0 1)) + (gQ t r true true 2 1))))))]) hC 1 (xix_n 1 (Nat.le_of_ble_eq_true rfl) (Nat.le_of_ble_eq_true rfl)) (fun _ h => h.get 6 rfl) dX3_kick_64 (fun _ h => h.set 6 _ rfl) 65 rfl ?_
  generalize hu10 : va_up u8 1 (((r 15) - (gQ t r true true 0 1)) + (gQ t r true true 2 1)) = u10
  refine r_aload_n hC 3 dX3_kick_65 rfl 66 rfl ?_
  refine r_get (v := .ref (o 5)) hC kX3 4 rfl q188 (fun _ h => h.get 0 rfl) rfl dX3_kick_66 69 rfl ?_
  refine r_getsN hC hG hzOTH q273 dX3_kick_69 72 rfl ?_
  refine r_iload_n hC 2 dX3_kick_72 rfl 73 rfl ?_
  refine r_ialdT hC htOTH 2 (xix_n 2 (Nat.le_of_ble_eq_true rfl) (Nat.le_of_ble_eq_true rfl)) 2 rfl dX3_kick_73 74 rfl ?_
  refine r_dup2 hC dX3_kick_74 rfl rfl 75 rfl ?_
  refine r_lald hC 2 (xix_n 2 (Nat.le_of_ble_eq_true rfl) (Nat.le_of_ble_eq_true rfl)) (fun _ h => h.get 5 rfl) ((r 19) - (gQ t r true true 1 0)) (by rw [← hu9, ← hu7]; rfl) dX3_kick_75 76 rfl ?_
  refine r_lload hC 1 dX3_kick_76 rfl 78 rfl ?_
  refine r_lsub hC (((r 19) - (gQ t r true true 1 0)) - (gQ t r true true 2 0)) dX3_kick_78  (rfl) 79 rfl ?_
  refine r_last (J := xSt F V0 [(o 0, .inr (2, [.ref (o 1), .ref (o 2), .ref (o 3), .ref (o 4), .ref (o 5), .ref (o 6), .ref (o 7), .ref (o 8), .ref (o 9), .ref (o 10), .int ((r 0).toInt32)])), (o 1, .inl (0, 6, .inl (seF t r))), (o 2, .inl (0, 3, .inl (maF r))), (o 3, .inl (0, 3, .inl (plX r))), (o 4, .inl (0, 3, .inl (plY r))), (o 5, .inl (1, 3, .inr (.inl (va_up u9 2 (((r 19) - (gQ t r true true 1 0)) - (gQ t r true true 2 0)))))), (o 6, .inl (1, 3, .inr (.inl u10)))]) hC 2 (xix_n 2 (Nat.le_of_ble_eq_true rfl) (Nat.le_of_ble_eq_true rfl)) (fun _ h => h.get 5 rfl) dX3_kick_79 (fun _ h => h.set 5 _ rfl) 80 rfl ?_
  generalize hu11 : va_up u9 2 (((r 19) - (gQ t r true true 1 0)) - (gQ t r true true 2 0)) = u11
  refine r_aload_n hC 3 dX3_kick_80 rfl 81 rfl ?_
  refine r_get (v := .ref (o 6)) hC kX3 5 rfl q191 (fun _ h => h.get 0 rfl) rfl dX3_kick_81 84 rfl ?_
  refine r_getsN hC hG hzOTH q273 dX3_kick_84 87 rfl ?_
  refine r_iload_n hC 2 dX3_kick_87 rfl 88 rfl ?_
  refine r_ialdT hC htOTH 2 (xix_n 2 (Nat.le_of_ble_eq_true rfl) (Nat.le_of_ble_eq_true rfl)) 2 rfl dX3_kick_88 89 rfl ?_
  refine r_dup2 hC dX3_kick_89 rfl rfl 90 rfl ?_
  refine r_lald hC 2 (xix_n 2 (Nat.le_of_ble_eq_true rfl) (Nat.le_of_ble_eq_true rfl)) (fun _ h => h.get 6 rfl) ((r 20) - (gQ t r true true 1 1)) (by rw [← hu10, ← hu8]; rfl) dX3_kick_90 91 rfl ?_
  refine r_lload hC 0 dX3_kick_91 rfl 93 rfl ?_
  refine r_lsub hC (((r 20) - (gQ t r true true 1 1)) - (gQ t r true true 2 1)) dX3_kick_93  (rfl) 94 rfl ?_
  refine r_last (J := xSt F V0 [(o 0, .inr (2, [.ref (o 1), .ref (o 2), .ref (o 3), .ref (o 4), .ref (o 5), .ref (o 6), .ref (o 7), .ref (o 8), .ref (o 9), .ref (o 10), .int ((r 0).toInt32)])), (o 1, .inl (0, 6, .inl (seF t r))), (o 2, .inl (0, 3, .inl (maF r))), (o 3, .inl (0, 3, .inl (plX r))), (o 4, .inl (0, 3, .inl (plY r))), (o 5, .inl (1, 3, .inr (.inl u11))), (o 6, .inl (1, 3, .inr (.inl (va_up u10 2 (((r 20) - (gQ t r true true 1 1)) - (gQ t r true true 2 1))))))]) hC 2 (xix_n 2 (Nat.le_of_ble_eq_true rfl) (Nat.le_of_ble_eq_true rfl)) (fun _ h => h.get 6 rfl) dX3_kick_94 (fun _ h => h.set 6 _ rfl) 95 rfl ?_
  generalize hu12 : va_up u10 2 (((r 20) - (gQ t r true true 1 1)) - (gQ t r true true 2 1)) = u12
  refine r_iinc hC 3 3 2 [(3, .int 3), (6, .long (gQ t r true true 2 1)), (4, .long (gQ t r true true 2 0)), (0, .ref (o 0)), (1, .int (-1)), (2, .int 2)] dX3_kick_95 rfl (by decide) (Nat.le_of_ble_eq_true rfl) rfl 98 rfl ?_
  refine r_goto hC 2 dX3_kick_98 (by decide) ?_
  refine r_iload_n hC 0 dX3_kick_2 rfl 3 rfl ?_
  refine r_iconst hC 3 dX3_kick_3 ic_3 4 rfl ?_
  refine r_icge hC 101 dX3_kick_4 (by decide) 7 rfl (fun _ => ?_) (fun h => absurd h (by decide))
  refine r_iconst hC 0 dX3_kick_101 ic_0 102 rfl ?_
  refine r_istore_n hC 3 [(3, .int 0), (6, .long (gQ t r true true 2 1)), (4, .long (gQ t r true true 2 0)), (0, .ref (o 0)), (1, .int (-1)), (2, .int 2)] dX3_kick_102 rfl (Nat.le_of_ble_eq_true rfl) rfl 103 rfl ?_
  refine r_iload_n hC 0 dX3_kick_103 rfl 104 rfl ?_
  refine r_iconst hC 3 dX3_kick_104 ic_3 105 rfl ?_
  refine r_icge hC 138 dX3_kick_105 (by decide) 108 rfl (fun h => absurd h (by decide)) (fun _ => ?_)
  refine r_aload_n hC 3 dX3_kick_108 rfl 109 rfl ?_
  refine r_get (v := .ref (o 5)) hC kX3 4 rfl q188 (fun _ h => h.get 0 rfl) rfl dX3_kick_109 112 rfl ?_
  refine r_iload_n hC 0 dX3_kick_112 rfl 113 rfl ?_
  refine r_lald hC 0 (xix_n 0 (Nat.le_of_ble_eq_true rfl) (Nat.le_of_ble_eq_true rfl)) (fun _ h => h.get 5 rfl) (((r 9) + (gQ t r true true 0 0)) + (gQ t r true true 1 0)) (by rw [← hu11, ← hu9, ← hu7, ← hu5]; rfl) dX3_kick_113 114 rfl ?_
  refine r_ldc2 hC q335 dX3_kick_114 117 rfl ?_
  rcases Bool.eq_false_or_eq_true (m_in (((r 9) + (gQ t r true true 0 0)) + (gQ t r true true 1 0)) (-1000000000) 1000000000) with hk13 | hk13
  · skip
    refine xCall.r (r := none) (r_cS hC [.long (((r 9) + (gQ t r true true 0 0)) + (gQ t r true true 1 0)), .long 1000000000] mSX3_check q336 (fun V9 h9 => (metX3_checkG _ _ hG (((r 9) + (gQ t r true true 0 0)) + (gQ t r true true 1 0)) 1000000000 hk13) V9 xIn.nil) ⟨rfl, rfl⟩ (Nat.le_of_ble_eq_true rfl) (Nat.le_of_ble_eq_true rfl) rfl (Nat.le_of_ble_eq_true rfl) dX3_kick_117) 0 0 120 rfl rfl rfl ?_
    refine r_aload_n hC 3 dX3_kick_120 rfl 121 rfl ?_
    refine r_get (v := .ref (o 6)) hC kX3 5 rfl q191 (fun _ h => h.get 0 rfl) rfl dX3_kick_121 124 rfl ?_
    refine r_iload_n hC 0 dX3_kick_124 rfl 125 rfl ?_
    refine r_lald hC 0 (xix_n 0 (Nat.le_of_ble_eq_true rfl) (Nat.le_of_ble_eq_true rfl)) (fun _ h => h.get 6 rfl) (((r 10) + (gQ t r true true 0 1)) + (gQ t r true true 1 1)) (by rw [← hu12, ← hu10, ← hu8, ← hu6]; rfl) dX3_kick_125 126 rfl ?_
    refine r_ldc2 hC q335 dX3_kick_126 129 rfl ?_
    rcases Bool.eq_false_or_eq_true (m_in (((r 10) + (gQ t r true true 0 1)) + (gQ t r true true 1 1)) (-1000000000) 1000000000) with hk14 | hk14
    · skip
      refine xCall.r (r := none) (r_cS hC [.long (((r 10) + (gQ t r true true 0 1)) + (gQ t r true true 1 1)), .long 1000000000] mSX3_check q336 (fun V9 h9 => (metX3_checkG _ _ hG (((r 10) + (gQ t r true true 0 1)) + (gQ t r true true 1 1)) 1000000000 hk14) V9 xIn.nil) ⟨rfl, rfl⟩ (Nat.le_of_ble_eq_true rfl) (Nat.le_of_ble_eq_true rfl) rfl (Nat.le_of_ble_eq_true rfl) dX3_kick_129) 0 0 132 rfl rfl rfl ?_
      refine r_iinc hC 1 3 0 [(3, .int 1), (6, .long (gQ t r true true 2 1)), (4, .long (gQ t r true true 2 0)), (0, .ref (o 0)), (1, .int (-1)), (2, .int 2)] dX3_kick_132 rfl (by decide) (Nat.le_of_ble_eq_true rfl) rfl 135 rfl ?_
      refine r_goto hC 103 dX3_kick_135 (by decide) ?_
      refine r_iload_n hC 0 dX3_kick_103 rfl 104 rfl ?_
      refine r_iconst hC 3 dX3_kick_104 ic_3 105 rfl ?_
      refine r_icge hC 138 dX3_kick_105 (by decide) 108 rfl (fun h => absurd h (by decide)) (fun _ => ?_)
      refine r_aload_n hC 3 dX3_kick_108 rfl 109 rfl ?_
      refine r_get (v := .ref (o 5)) hC kX3 4 rfl q188 (fun _ h => h.get 0 rfl) rfl dX3_kick_109 112 rfl ?_
      refine r_iload_n hC 0 dX3_kick_112 rfl 113 rfl ?_
      refine r_lald hC 1 (xix_n 1 (Nat.le_of_ble_eq_true rfl) (Nat.le_of_ble_eq_true rfl)) (fun _ h => h.get 5 rfl) (((r 14) - (gQ t r true true 0 0)) + (gQ t r true true 2 0)) (by rw [← hu11, ← hu9]; rfl) dX3_kick_113 114 rfl ?_
      refine r_ldc2 hC q335 dX3_kick_114 117 rfl ?_
      rcases Bool.eq_false_or_eq_true (m_in (((r 14) - (gQ t r true true 0 0)) + (gQ t r true true 2 0)) (-1000000000) 1000000000) with hk15 | hk15
      · skip
        refine xCall.r (r := none) (r_cS hC [.long (((r 14) - (gQ t r true true 0 0)) + (gQ t r true true 2 0)), .long 1000000000] mSX3_check q336 (fun V9 h9 => (metX3_checkG _ _ hG (((r 14) - (gQ t r true true 0 0)) + (gQ t r true true 2 0)) 1000000000 hk15) V9 xIn.nil) ⟨rfl, rfl⟩ (Nat.le_of_ble_eq_true rfl) (Nat.le_of_ble_eq_true rfl) rfl (Nat.le_of_ble_eq_true rfl) dX3_kick_117) 0 0 120 rfl rfl rfl ?_
        refine r_aload_n hC 3 dX3_kick_120 rfl 121 rfl ?_
        refine r_get (v := .ref (o 6)) hC kX3 5 rfl q191 (fun _ h => h.get 0 rfl) rfl dX3_kick_121 124 rfl ?_
        refine r_iload_n hC 0 dX3_kick_124 rfl 125 rfl ?_
        refine r_lald hC 1 (xix_n 1 (Nat.le_of_ble_eq_true rfl) (Nat.le_of_ble_eq_true rfl)) (fun _ h => h.get 6 rfl) (((r 15) - (gQ t r true true 0 1)) + (gQ t r true true 2 1)) (by rw [← hu12, ← hu10]; rfl) dX3_kick_125 126 rfl ?_
        refine r_ldc2 hC q335 dX3_kick_126 129 rfl ?_
        rcases Bool.eq_false_or_eq_true (m_in (((r 15) - (gQ t r true true 0 1)) + (gQ t r true true 2 1)) (-1000000000) 1000000000) with hk16 | hk16
        · skip
          refine xCall.r (r := none) (r_cS hC [.long (((r 15) - (gQ t r true true 0 1)) + (gQ t r true true 2 1)), .long 1000000000] mSX3_check q336 (fun V9 h9 => (metX3_checkG _ _ hG (((r 15) - (gQ t r true true 0 1)) + (gQ t r true true 2 1)) 1000000000 hk16) V9 xIn.nil) ⟨rfl, rfl⟩ (Nat.le_of_ble_eq_true rfl) (Nat.le_of_ble_eq_true rfl) rfl (Nat.le_of_ble_eq_true rfl) dX3_kick_129) 0 0 132 rfl rfl rfl ?_
          refine r_iinc hC 2 3 0 [(3, .int 2), (6, .long (gQ t r true true 2 1)), (4, .long (gQ t r true true 2 0)), (0, .ref (o 0)), (1, .int (-1)), (2, .int 2)] dX3_kick_132 rfl (by decide) (Nat.le_of_ble_eq_true rfl) rfl 135 rfl ?_
          refine r_goto hC 103 dX3_kick_135 (by decide) ?_
          refine r_iload_n hC 0 dX3_kick_103 rfl 104 rfl ?_
          refine r_iconst hC 3 dX3_kick_104 ic_3 105 rfl ?_
          refine r_icge hC 138 dX3_kick_105 (by decide) 108 rfl (fun h => absurd h (by decide)) (fun _ => ?_)
          refine r_aload_n hC 3 dX3_kick_108 rfl 109 rfl ?_
          refine r_get (v := .ref (o 5)) hC kX3 4 rfl q188 (fun _ h => h.get 0 rfl) rfl dX3_kick_109 112 rfl ?_
          refine r_iload_n hC 0 dX3_kick_112 rfl 113 rfl ?_
          refine r_lald hC 2 (xix_n 2 (Nat.le_of_ble_eq_true rfl) (Nat.le_of_ble_eq_true rfl)) (fun _ h => h.get 5 rfl) (((r 19) - (gQ t r true true 1 0)) - (gQ t r true true 2 0)) (by rw [← hu11]; rfl) dX3_kick_113 114 rfl ?_
          refine r_ldc2 hC q335 dX3_kick_114 117 rfl ?_
          rcases Bool.eq_false_or_eq_true (m_in (((r 19) - (gQ t r true true 1 0)) - (gQ t r true true 2 0)) (-1000000000) 1000000000) with hk17 | hk17
          · skip
            refine xCall.r (r := none) (r_cS hC [.long (((r 19) - (gQ t r true true 1 0)) - (gQ t r true true 2 0)), .long 1000000000] mSX3_check q336 (fun V9 h9 => (metX3_checkG _ _ hG (((r 19) - (gQ t r true true 1 0)) - (gQ t r true true 2 0)) 1000000000 hk17) V9 xIn.nil) ⟨rfl, rfl⟩ (Nat.le_of_ble_eq_true rfl) (Nat.le_of_ble_eq_true rfl) rfl (Nat.le_of_ble_eq_true rfl) dX3_kick_117) 0 0 120 rfl rfl rfl ?_
            refine r_aload_n hC 3 dX3_kick_120 rfl 121 rfl ?_
            refine r_get (v := .ref (o 6)) hC kX3 5 rfl q191 (fun _ h => h.get 0 rfl) rfl dX3_kick_121 124 rfl ?_
            refine r_iload_n hC 0 dX3_kick_124 rfl 125 rfl ?_
            refine r_lald hC 2 (xix_n 2 (Nat.le_of_ble_eq_true rfl) (Nat.le_of_ble_eq_true rfl)) (fun _ h => h.get 6 rfl) (((r 20) - (gQ t r true true 1 1)) - (gQ t r true true 2 1)) (by rw [← hu12]; rfl) dX3_kick_125 126 rfl ?_
            refine r_ldc2 hC q335 dX3_kick_126 129 rfl ?_
            rcases Bool.eq_false_or_eq_true (m_in (((r 20) - (gQ t r true true 1 1)) - (gQ t r true true 2 1)) (-1000000000) 1000000000) with hk18 | hk18
            · skip
              refine xCall.r (r := none) (r_cS hC [.long (((r 20) - (gQ t r true true 1 1)) - (gQ t r true true 2 1)), .long 1000000000] mSX3_check q336 (fun V9 h9 => (metX3_checkG _ _ hG (((r 20) - (gQ t r true true 1 1)) - (gQ t r true true 2 1)) 1000000000 hk18) V9 xIn.nil) ⟨rfl, rfl⟩ (Nat.le_of_ble_eq_true rfl) (Nat.le_of_ble_eq_true rfl) rfl (Nat.le_of_ble_eq_true rfl) dX3_kick_129) 0 0 132 rfl rfl rfl ?_
              refine r_iinc hC 3 3 0 [(3, .int 3), (6, .long (gQ t r true true 2 1)), (4, .long (gQ t r true true 2 0)), (0, .ref (o 0)), (1, .int (-1)), (2, .int 2)] dX3_kick_132 rfl (by decide) (Nat.le_of_ble_eq_true rfl) rfl 135 rfl ?_
              refine r_goto hC 103 dX3_kick_135 (by decide) ?_
              refine r_iload_n hC 0 dX3_kick_103 rfl 104 rfl ?_
              refine r_iconst hC 3 dX3_kick_104 ic_3 105 rfl ?_
              refine r_icge hC 138 dX3_kick_105 (by decide) 108 rfl (fun _ => ?_) (fun h => absurd h (by decide))
              subst hu12
              subst hu11
              subst hu10
              subst hu9
              subst hu8
              subst hu7
              subst hu6
              subst hu5
              subst hu4
              subst hu3
              subst hu2
              subst hu1
              refine rn_cellI (J := xSt F V0 [(o 0, .inr (2, [.ref (o 1), .ref (o 2), .ref (o 3), .ref (o 4), .ref (o 5), .ref (o 6), .ref (o 7), .ref (o 8), .ref (o 9), .ref (o 10), .int ((r 0).toInt32)])), (o 1, .inl (0, 6, .inl (seF t r))), (o 2, .inl (0, 3, .inl (maF (kickQ t r true true)))), (o 3, .inl (0, 3, .inl (plX r))), (o 4, .inl (0, 3, .inl (plY r))), (o 5, .inl (1, 3, .inr (.inl (va_up (va_up (va_up (va_up (va_up (va_up (moX r) 0 ((r 9) + (gQ t r true true 0 0))) 1 ((r 14) - (gQ t r true true 0 0))) 0 (((r 9) + (gQ t r true true 0 0)) + (gQ t r true true 1 0))) 2 ((r 19) - (gQ t r true true 1 0))) 1 (((r 14) - (gQ t r true true 0 0)) + (gQ t r true true 2 0))) 2 (((r 19) - (gQ t r true true 1 0)) - (gQ t r true true 2 0)))))), (o 6, .inl (1, 3, .inr (.inl (va_up (va_up (va_up (va_up (va_up (va_up (moY r) 0 ((r 10) + (gQ t r true true 0 1))) 1 ((r 15) - (gQ t r true true 0 1))) 0 (((r 10) + (gQ t r true true 0 1)) + (gQ t r true true 1 1))) 2 ((r 20) - (gQ t r true true 1 1))) 1 (((r 15) - (gQ t r true true 0 1)) + (gQ t r true true 2 1))) 2 (((r 20) - (gQ t r true true 1 1)) - (gQ t r true true 2 1))))))]) (fun _ h => h.get 2 rfl) (fun j9 hj9 => by
                  rcases (show j9 = 0 ∨ j9 = 1 ∨ j9 = 2 by omega) with rfl | rfl | rfl
                  · exact congrArg Int64.toInt32 (kkq_6).symm
                  · exact congrArg Int64.toInt32 (kkq_11).symm
                  · exact congrArg Int64.toInt32 (kkq_16).symm) (fun _ h => h.set 2 _ rfl) ?_
              refine rn_cellI (J := xSt F V0 [(o 0, .inr (2, [.ref (o 1), .ref (o 2), .ref (o 3), .ref (o 4), .ref (o 5), .ref (o 6), .ref (o 7), .ref (o 8), .ref (o 9), .ref (o 10), .int ((r 0).toInt32)])), (o 1, .inl (0, 6, .inl (seF t r))), (o 2, .inl (0, 3, .inl (maF (kickQ t r true true)))), (o 3, .inl (0, 3, .inl (plX (kickQ t r true true)))), (o 4, .inl (0, 3, .inl (plY r))), (o 5, .inl (1, 3, .inr (.inl (va_up (va_up (va_up (va_up (va_up (va_up (moX r) 0 ((r 9) + (gQ t r true true 0 0))) 1 ((r 14) - (gQ t r true true 0 0))) 0 (((r 9) + (gQ t r true true 0 0)) + (gQ t r true true 1 0))) 2 ((r 19) - (gQ t r true true 1 0))) 1 (((r 14) - (gQ t r true true 0 0)) + (gQ t r true true 2 0))) 2 (((r 19) - (gQ t r true true 1 0)) - (gQ t r true true 2 0)))))), (o 6, .inl (1, 3, .inr (.inl (va_up (va_up (va_up (va_up (va_up (va_up (moY r) 0 ((r 10) + (gQ t r true true 0 1))) 1 ((r 15) - (gQ t r true true 0 1))) 0 (((r 10) + (gQ t r true true 0 1)) + (gQ t r true true 1 1))) 2 ((r 20) - (gQ t r true true 1 1))) 1 (((r 15) - (gQ t r true true 0 1)) + (gQ t r true true 2 1))) 2 (((r 20) - (gQ t r true true 1 1)) - (gQ t r true true 2 1))))))]) (fun _ h => h.get 3 rfl) (fun j9 hj9 => by
                  rcases (show j9 = 0 ∨ j9 = 1 ∨ j9 = 2 by omega) with rfl | rfl | rfl
                  · exact congrArg Int64.toInt32 (kkq_7).symm
                  · exact congrArg Int64.toInt32 (kkq_12).symm
                  · exact congrArg Int64.toInt32 (kkq_17).symm) (fun _ h => h.set 3 _ rfl) ?_
              refine rn_cellI (J := xSt F V0 [(o 0, .inr (2, [.ref (o 1), .ref (o 2), .ref (o 3), .ref (o 4), .ref (o 5), .ref (o 6), .ref (o 7), .ref (o 8), .ref (o 9), .ref (o 10), .int ((r 0).toInt32)])), (o 1, .inl (0, 6, .inl (seF t r))), (o 2, .inl (0, 3, .inl (maF (kickQ t r true true)))), (o 3, .inl (0, 3, .inl (plX (kickQ t r true true)))), (o 4, .inl (0, 3, .inl (plY (kickQ t r true true)))), (o 5, .inl (1, 3, .inr (.inl (va_up (va_up (va_up (va_up (va_up (va_up (moX r) 0 ((r 9) + (gQ t r true true 0 0))) 1 ((r 14) - (gQ t r true true 0 0))) 0 (((r 9) + (gQ t r true true 0 0)) + (gQ t r true true 1 0))) 2 ((r 19) - (gQ t r true true 1 0))) 1 (((r 14) - (gQ t r true true 0 0)) + (gQ t r true true 2 0))) 2 (((r 19) - (gQ t r true true 1 0)) - (gQ t r true true 2 0)))))), (o 6, .inl (1, 3, .inr (.inl (va_up (va_up (va_up (va_up (va_up (va_up (moY r) 0 ((r 10) + (gQ t r true true 0 1))) 1 ((r 15) - (gQ t r true true 0 1))) 0 (((r 10) + (gQ t r true true 0 1)) + (gQ t r true true 1 1))) 2 ((r 20) - (gQ t r true true 1 1))) 1 (((r 15) - (gQ t r true true 0 1)) + (gQ t r true true 2 1))) 2 (((r 20) - (gQ t r true true 1 1)) - (gQ t r true true 2 1))))))]) (fun _ h => h.get 4 rfl) (fun j9 hj9 => by
                  rcases (show j9 = 0 ∨ j9 = 1 ∨ j9 = 2 by omega) with rfl | rfl | rfl
                  · exact congrArg Int64.toInt32 (kkq_8).symm
                  · exact congrArg Int64.toInt32 (kkq_13).symm
                  · exact congrArg Int64.toInt32 (kkq_18).symm) (fun _ h => h.set 4 _ rfl) ?_
              refine rn_cellJ (J := xSt F V0 [(o 0, .inr (2, [.ref (o 1), .ref (o 2), .ref (o 3), .ref (o 4), .ref (o 5), .ref (o 6), .ref (o 7), .ref (o 8), .ref (o 9), .ref (o 10), .int ((r 0).toInt32)])), (o 1, .inl (0, 6, .inl (seF t r))), (o 2, .inl (0, 3, .inl (maF (kickQ t r true true)))), (o 3, .inl (0, 3, .inl (plX (kickQ t r true true)))), (o 4, .inl (0, 3, .inl (plY (kickQ t r true true)))), (o 5, .inl (1, 3, .inr (.inl (moX (kickQ t r true true))))), (o 6, .inl (1, 3, .inr (.inl (va_up (va_up (va_up (va_up (va_up (va_up (moY r) 0 ((r 10) + (gQ t r true true 0 1))) 1 ((r 15) - (gQ t r true true 0 1))) 0 (((r 10) + (gQ t r true true 0 1)) + (gQ t r true true 1 1))) 2 ((r 20) - (gQ t r true true 1 1))) 1 (((r 15) - (gQ t r true true 0 1)) + (gQ t r true true 2 1))) 2 (((r 20) - (gQ t r true true 1 1)) - (gQ t r true true 2 1))))))]) (fun _ h => h.get 5 rfl) (fun j9 hj9 => by
                  rcases (show j9 = 0 ∨ j9 = 1 ∨ j9 = 2 by omega) with rfl | rfl | rfl
                  · exact ((up_ne (by decide)).trans ((up_ne (by decide)).trans ((up_ne (by decide)).trans (up_same _ _ _)))).trans (kkq_9).symm
                  · exact ((up_ne (by decide)).trans (up_same _ _ _)).trans (kkq_14).symm
                  · exact (up_same _ _ _).trans (kkq_19).symm) (fun _ h => h.set 5 _ rfl) ?_
              refine rn_cellJ (J := xSt F V0 [(o 0, .inr (2, [.ref (o 1), .ref (o 2), .ref (o 3), .ref (o 4), .ref (o 5), .ref (o 6), .ref (o 7), .ref (o 8), .ref (o 9), .ref (o 10), .int ((r 0).toInt32)])), (o 1, .inl (0, 6, .inl (seF t r))), (o 2, .inl (0, 3, .inl (maF (kickQ t r true true)))), (o 3, .inl (0, 3, .inl (plX (kickQ t r true true)))), (o 4, .inl (0, 3, .inl (plY (kickQ t r true true)))), (o 5, .inl (1, 3, .inr (.inl (moX (kickQ t r true true))))), (o 6, .inl (1, 3, .inr (.inl (moY (kickQ t r true true)))))]) (fun _ h => h.get 6 rfl) (fun j9 hj9 => by
                  rcases (show j9 = 0 ∨ j9 = 1 ∨ j9 = 2 by omega) with rfl | rfl | rfl
                  · exact ((up_ne (by decide)).trans ((up_ne (by decide)).trans ((up_ne (by decide)).trans (up_same _ _ _)))).trans (kkq_10).symm
                  · exact ((up_ne (by decide)).trans (up_same _ _ _)).trans (kkq_15).symm
                  · exact (up_same _ _ _).trans (kkq_20).symm) (fun _ h => h.set 6 _ rfl) ?_
              exact r_vret hC (Nat.le_of_ble_eq_true rfl) (Nat.le_of_ble_eq_true rfl) (fun V9 h => hQ _ _ ⟨[(o 0, .inr (2, [.ref (o 1), .ref (o 2), .ref (o 3), .ref (o 4), .ref (o 5), .ref (o 6), .ref (o 7), .ref (o 8), .ref (o 9), .ref (o 10), .int (((kickQ t r true true) 0).toInt32)])), (o 1, .inl (0, 6, .inl (seF t (kickQ t r true true)))), (o 2, .inl (0, 3, .inl (maF (kickQ t r true true)))), (o 3, .inl (0, 3, .inl (plX (kickQ t r true true)))), (o 4, .inl (0, 3, .inl (plY (kickQ t r true true)))), (o 5, .inl (1, 3, .inr (.inl (moX (kickQ t r true true))))), (o 6, .inl (1, 3, .inr (.inl (moY (kickQ t r true true)))))], ⟨rfl, in_t (plR_kick hpl) (by rw [kkq_9]; exact hk13) (by rw [kkq_10]; exact hk14) (by rw [kkq_14]; exact hk15) (by rw [kkq_15]; exact hk16) (by rw [kkq_19]; exact hk17) (by rw [kkq_20]; exact hk18), rfl⟩, by rw [← hV0, ← hF]; exact h⟩) dX3_kick_138
            · skip
              refine xCall.w (wr := [(o 0, .inr (2, [.ref (o 1), .ref (o 2), .ref (o 3), .ref (o 4), .ref (o 5), .ref (o 6), .ref (o 7), .ref (o 8), .ref (o 9), .ref (o 10), .int ((r 0).toInt32)])), (o 1, .inl (0, 6, .inl (seF t r))), (o 2, .inl (0, 3, .inl (maF r))), (o 3, .inl (0, 3, .inl (plX r))), (o 4, .inl (0, 3, .inl (plY r))), (o 5, .inl (1, 3, .inr (.inl u11))), (o 6, .inl (1, 3, .inr (.inl u12)))]) (r_cS hC [.long (((r 20) - (gQ t r true true 1 1)) - (gQ t r true true 2 1)), .long 1000000000] mSX3_check q336 (fun V9 h9 => (metX3_checkB _ _ hG (((r 20) - (gQ t r true true 1 1)) - (gQ t r true true 2 1)) 1000000000 hk18) V9 xIn.nil) ⟨rfl, rfl⟩ (Nat.le_of_ble_eq_true rfl) (Nat.le_of_ble_eq_true rfl) rfl (Nat.le_of_ble_eq_true rfl) dX3_kick_129) [] [0, 1, 2, 3, 4, 5, 6] rfl rfl rfl (by decide) 1 6 132 rfl rfl rfl (fun _ _ h => h.elim) (fun q23 w24 h25 => ?_)
              obtain rfl := h25
              show rx C (xSt F V0 [(o 0, .inr (2, [.ref (o 1), .ref (o 2), .ref (o 3), .ref (o 4), .ref (o 5), .ref (o 6), .ref (o 7), .ref (o 8), .ref (o 9), .ref (o 10), .int ((r 0).toInt32)])), (o 1, .inl (0, 6, .inl (seF t r))), (o 2, .inl (0, 3, .inl (maF r))), (o 3, .inl (0, 3, .inl (plX r))), (o 4, .inl (0, 3, .inl (plY r))), (o 5, .inl (1, 3, .inr (.inl u11))), (o 6, .inl (1, 3, .inr (.inl u12))), (q23, .inr (3, [.null, .null, .null, .null, .null, .int 0]))]) 1 6 129 [(3, .int 2), (6, .long (gQ t r true true 2 1)), (4, .long (gQ t r true true 2 0)), (0, .ref (o 0)), (1, .int (-1)), (2, .int 2)] [] q23
              subst hu12
              subst hu11
              subst hu10
              subst hu9
              subst hu8
              subst hu7
              subst hu6
              subst hu5
              subst hu4
              subst hu3
              subst hu2
              subst hu1
              exact rx_out hC hTab (fun _ h => by cases h) (Nat.le_of_ble_eq_true rfl) (Nat.le_of_ble_eq_true rfl) (fun V9 h => hX _ _ ⟨[(o 0, .inr (2, [.ref (o 1), .ref (o 2), .ref (o 3), .ref (o 4), .ref (o 5), .ref (o 6), .ref (o 7), .ref (o 8), .ref (o 9), .ref (o 10), .int ((r 0).toInt32)])), (o 1, .inl (0, 6, .inl (seF t r))), (o 2, .inl (0, 3, .inl (maF r))), (o 3, .inl (0, 3, .inl (plX r))), (o 4, .inl (0, 3, .inl (plY r))), (o 5, .inl (1, 3, .inr (.inl (va_up (va_up (va_up (va_up (va_up (va_up (moX r) 0 ((r 9) + (gQ t r true true 0 0))) 1 ((r 14) - (gQ t r true true 0 0))) 0 (((r 9) + (gQ t r true true 0 0)) + (gQ t r true true 1 0))) 2 ((r 19) - (gQ t r true true 1 0))) 1 (((r 14) - (gQ t r true true 0 0)) + (gQ t r true true 2 0))) 2 (((r 19) - (gQ t r true true 1 0)) - (gQ t r true true 2 0)))))), (o 6, .inl (1, 3, .inr (.inl (va_up (va_up (va_up (va_up (va_up (va_up (moY r) 0 ((r 10) + (gQ t r true true 0 1))) 1 ((r 15) - (gQ t r true true 0 1))) 0 (((r 10) + (gQ t r true true 0 1)) + (gQ t r true true 1 1))) 2 ((r 20) - (gQ t r true true 1 1))) 1 (((r 15) - (gQ t r true true 0 1)) + (gQ t r true true 2 1))) 2 (((r 20) - (gQ t r true true 1 1)) - (gQ t r true true 2 1)))))), (q23, .inr (3, [.null, .null, .null, .null, .null, .int 0]))], ⟨in_f20 (by rw [kkq_20]; exact hk18), _, _, rfl⟩, by rw [← hV0, ← hF]; exact h⟩)
          · skip
            refine xCall.w (wr := [(o 0, .inr (2, [.ref (o 1), .ref (o 2), .ref (o 3), .ref (o 4), .ref (o 5), .ref (o 6), .ref (o 7), .ref (o 8), .ref (o 9), .ref (o 10), .int ((r 0).toInt32)])), (o 1, .inl (0, 6, .inl (seF t r))), (o 2, .inl (0, 3, .inl (maF r))), (o 3, .inl (0, 3, .inl (plX r))), (o 4, .inl (0, 3, .inl (plY r))), (o 5, .inl (1, 3, .inr (.inl u11))), (o 6, .inl (1, 3, .inr (.inl u12)))]) (r_cS hC [.long (((r 19) - (gQ t r true true 1 0)) - (gQ t r true true 2 0)), .long 1000000000] mSX3_check q336 (fun V9 h9 => (metX3_checkB _ _ hG (((r 19) - (gQ t r true true 1 0)) - (gQ t r true true 2 0)) 1000000000 hk17) V9 xIn.nil) ⟨rfl, rfl⟩ (Nat.le_of_ble_eq_true rfl) (Nat.le_of_ble_eq_true rfl) rfl (Nat.le_of_ble_eq_true rfl) dX3_kick_117) [] [0, 1, 2, 3, 4, 5, 6] rfl rfl rfl (by decide) 1 6 120 rfl rfl rfl (fun _ _ h => h.elim) (fun q30 w31 h32 => ?_)
            obtain rfl := h32
            show rx C (xSt F V0 [(o 0, .inr (2, [.ref (o 1), .ref (o 2), .ref (o 3), .ref (o 4), .ref (o 5), .ref (o 6), .ref (o 7), .ref (o 8), .ref (o 9), .ref (o 10), .int ((r 0).toInt32)])), (o 1, .inl (0, 6, .inl (seF t r))), (o 2, .inl (0, 3, .inl (maF r))), (o 3, .inl (0, 3, .inl (plX r))), (o 4, .inl (0, 3, .inl (plY r))), (o 5, .inl (1, 3, .inr (.inl u11))), (o 6, .inl (1, 3, .inr (.inl u12))), (q30, .inr (3, [.null, .null, .null, .null, .null, .int 0]))]) 1 6 117 [(3, .int 2), (6, .long (gQ t r true true 2 1)), (4, .long (gQ t r true true 2 0)), (0, .ref (o 0)), (1, .int (-1)), (2, .int 2)] [] q30
            subst hu12
            subst hu11
            subst hu10
            subst hu9
            subst hu8
            subst hu7
            subst hu6
            subst hu5
            subst hu4
            subst hu3
            subst hu2
            subst hu1
            exact rx_out hC hTab (fun _ h => by cases h) (Nat.le_of_ble_eq_true rfl) (Nat.le_of_ble_eq_true rfl) (fun V9 h => hX _ _ ⟨[(o 0, .inr (2, [.ref (o 1), .ref (o 2), .ref (o 3), .ref (o 4), .ref (o 5), .ref (o 6), .ref (o 7), .ref (o 8), .ref (o 9), .ref (o 10), .int ((r 0).toInt32)])), (o 1, .inl (0, 6, .inl (seF t r))), (o 2, .inl (0, 3, .inl (maF r))), (o 3, .inl (0, 3, .inl (plX r))), (o 4, .inl (0, 3, .inl (plY r))), (o 5, .inl (1, 3, .inr (.inl (va_up (va_up (va_up (va_up (va_up (va_up (moX r) 0 ((r 9) + (gQ t r true true 0 0))) 1 ((r 14) - (gQ t r true true 0 0))) 0 (((r 9) + (gQ t r true true 0 0)) + (gQ t r true true 1 0))) 2 ((r 19) - (gQ t r true true 1 0))) 1 (((r 14) - (gQ t r true true 0 0)) + (gQ t r true true 2 0))) 2 (((r 19) - (gQ t r true true 1 0)) - (gQ t r true true 2 0)))))), (o 6, .inl (1, 3, .inr (.inl (va_up (va_up (va_up (va_up (va_up (va_up (moY r) 0 ((r 10) + (gQ t r true true 0 1))) 1 ((r 15) - (gQ t r true true 0 1))) 0 (((r 10) + (gQ t r true true 0 1)) + (gQ t r true true 1 1))) 2 ((r 20) - (gQ t r true true 1 1))) 1 (((r 15) - (gQ t r true true 0 1)) + (gQ t r true true 2 1))) 2 (((r 20) - (gQ t r true true 1 1)) - (gQ t r true true 2 1)))))), (q30, .inr (3, [.null, .null, .null, .null, .null, .int 0]))], ⟨in_f19 (by rw [kkq_19]; exact hk17), _, _, rfl⟩, by rw [← hV0, ← hF]; exact h⟩)
        · skip
          refine xCall.w (wr := [(o 0, .inr (2, [.ref (o 1), .ref (o 2), .ref (o 3), .ref (o 4), .ref (o 5), .ref (o 6), .ref (o 7), .ref (o 8), .ref (o 9), .ref (o 10), .int ((r 0).toInt32)])), (o 1, .inl (0, 6, .inl (seF t r))), (o 2, .inl (0, 3, .inl (maF r))), (o 3, .inl (0, 3, .inl (plX r))), (o 4, .inl (0, 3, .inl (plY r))), (o 5, .inl (1, 3, .inr (.inl u11))), (o 6, .inl (1, 3, .inr (.inl u12)))]) (r_cS hC [.long (((r 15) - (gQ t r true true 0 1)) + (gQ t r true true 2 1)), .long 1000000000] mSX3_check q336 (fun V9 h9 => (metX3_checkB _ _ hG (((r 15) - (gQ t r true true 0 1)) + (gQ t r true true 2 1)) 1000000000 hk16) V9 xIn.nil) ⟨rfl, rfl⟩ (Nat.le_of_ble_eq_true rfl) (Nat.le_of_ble_eq_true rfl) rfl (Nat.le_of_ble_eq_true rfl) dX3_kick_129) [] [0, 1, 2, 3, 4, 5, 6] rfl rfl rfl (by decide) 1 6 132 rfl rfl rfl (fun _ _ h => h.elim) (fun q37 w38 h39 => ?_)
          obtain rfl := h39
          show rx C (xSt F V0 [(o 0, .inr (2, [.ref (o 1), .ref (o 2), .ref (o 3), .ref (o 4), .ref (o 5), .ref (o 6), .ref (o 7), .ref (o 8), .ref (o 9), .ref (o 10), .int ((r 0).toInt32)])), (o 1, .inl (0, 6, .inl (seF t r))), (o 2, .inl (0, 3, .inl (maF r))), (o 3, .inl (0, 3, .inl (plX r))), (o 4, .inl (0, 3, .inl (plY r))), (o 5, .inl (1, 3, .inr (.inl u11))), (o 6, .inl (1, 3, .inr (.inl u12))), (q37, .inr (3, [.null, .null, .null, .null, .null, .int 0]))]) 1 6 129 [(3, .int 1), (6, .long (gQ t r true true 2 1)), (4, .long (gQ t r true true 2 0)), (0, .ref (o 0)), (1, .int (-1)), (2, .int 2)] [] q37
          subst hu12
          subst hu11
          subst hu10
          subst hu9
          subst hu8
          subst hu7
          subst hu6
          subst hu5
          subst hu4
          subst hu3
          subst hu2
          subst hu1
          exact rx_out hC hTab (fun _ h => by cases h) (Nat.le_of_ble_eq_true rfl) (Nat.le_of_ble_eq_true rfl) (fun V9 h => hX _ _ ⟨[(o 0, .inr (2, [.ref (o 1), .ref (o 2), .ref (o 3), .ref (o 4), .ref (o 5), .ref (o 6), .ref (o 7), .ref (o 8), .ref (o 9), .ref (o 10), .int ((r 0).toInt32)])), (o 1, .inl (0, 6, .inl (seF t r))), (o 2, .inl (0, 3, .inl (maF r))), (o 3, .inl (0, 3, .inl (plX r))), (o 4, .inl (0, 3, .inl (plY r))), (o 5, .inl (1, 3, .inr (.inl (va_up (va_up (va_up (va_up (va_up (va_up (moX r) 0 ((r 9) + (gQ t r true true 0 0))) 1 ((r 14) - (gQ t r true true 0 0))) 0 (((r 9) + (gQ t r true true 0 0)) + (gQ t r true true 1 0))) 2 ((r 19) - (gQ t r true true 1 0))) 1 (((r 14) - (gQ t r true true 0 0)) + (gQ t r true true 2 0))) 2 (((r 19) - (gQ t r true true 1 0)) - (gQ t r true true 2 0)))))), (o 6, .inl (1, 3, .inr (.inl (va_up (va_up (va_up (va_up (va_up (va_up (moY r) 0 ((r 10) + (gQ t r true true 0 1))) 1 ((r 15) - (gQ t r true true 0 1))) 0 (((r 10) + (gQ t r true true 0 1)) + (gQ t r true true 1 1))) 2 ((r 20) - (gQ t r true true 1 1))) 1 (((r 15) - (gQ t r true true 0 1)) + (gQ t r true true 2 1))) 2 (((r 20) - (gQ t r true true 1 1)) - (gQ t r true true 2 1)))))), (q37, .inr (3, [.null, .null, .null, .null, .null, .int 0]))], ⟨in_f15 (by rw [kkq_15]; exact hk16), _, _, rfl⟩, by rw [← hV0, ← hF]; exact h⟩)
      · skip
        refine xCall.w (wr := [(o 0, .inr (2, [.ref (o 1), .ref (o 2), .ref (o 3), .ref (o 4), .ref (o 5), .ref (o 6), .ref (o 7), .ref (o 8), .ref (o 9), .ref (o 10), .int ((r 0).toInt32)])), (o 1, .inl (0, 6, .inl (seF t r))), (o 2, .inl (0, 3, .inl (maF r))), (o 3, .inl (0, 3, .inl (plX r))), (o 4, .inl (0, 3, .inl (plY r))), (o 5, .inl (1, 3, .inr (.inl u11))), (o 6, .inl (1, 3, .inr (.inl u12)))]) (r_cS hC [.long (((r 14) - (gQ t r true true 0 0)) + (gQ t r true true 2 0)), .long 1000000000] mSX3_check q336 (fun V9 h9 => (metX3_checkB _ _ hG (((r 14) - (gQ t r true true 0 0)) + (gQ t r true true 2 0)) 1000000000 hk15) V9 xIn.nil) ⟨rfl, rfl⟩ (Nat.le_of_ble_eq_true rfl) (Nat.le_of_ble_eq_true rfl) rfl (Nat.le_of_ble_eq_true rfl) dX3_kick_117) [] [0, 1, 2, 3, 4, 5, 6] rfl rfl rfl (by decide) 1 6 120 rfl rfl rfl (fun _ _ h => h.elim) (fun q44 w45 h46 => ?_)
        obtain rfl := h46
        show rx C (xSt F V0 [(o 0, .inr (2, [.ref (o 1), .ref (o 2), .ref (o 3), .ref (o 4), .ref (o 5), .ref (o 6), .ref (o 7), .ref (o 8), .ref (o 9), .ref (o 10), .int ((r 0).toInt32)])), (o 1, .inl (0, 6, .inl (seF t r))), (o 2, .inl (0, 3, .inl (maF r))), (o 3, .inl (0, 3, .inl (plX r))), (o 4, .inl (0, 3, .inl (plY r))), (o 5, .inl (1, 3, .inr (.inl u11))), (o 6, .inl (1, 3, .inr (.inl u12))), (q44, .inr (3, [.null, .null, .null, .null, .null, .int 0]))]) 1 6 117 [(3, .int 1), (6, .long (gQ t r true true 2 1)), (4, .long (gQ t r true true 2 0)), (0, .ref (o 0)), (1, .int (-1)), (2, .int 2)] [] q44
        subst hu12
        subst hu11
        subst hu10
        subst hu9
        subst hu8
        subst hu7
        subst hu6
        subst hu5
        subst hu4
        subst hu3
        subst hu2
        subst hu1
        exact rx_out hC hTab (fun _ h => by cases h) (Nat.le_of_ble_eq_true rfl) (Nat.le_of_ble_eq_true rfl) (fun V9 h => hX _ _ ⟨[(o 0, .inr (2, [.ref (o 1), .ref (o 2), .ref (o 3), .ref (o 4), .ref (o 5), .ref (o 6), .ref (o 7), .ref (o 8), .ref (o 9), .ref (o 10), .int ((r 0).toInt32)])), (o 1, .inl (0, 6, .inl (seF t r))), (o 2, .inl (0, 3, .inl (maF r))), (o 3, .inl (0, 3, .inl (plX r))), (o 4, .inl (0, 3, .inl (plY r))), (o 5, .inl (1, 3, .inr (.inl (va_up (va_up (va_up (va_up (va_up (va_up (moX r) 0 ((r 9) + (gQ t r true true 0 0))) 1 ((r 14) - (gQ t r true true 0 0))) 0 (((r 9) + (gQ t r true true 0 0)) + (gQ t r true true 1 0))) 2 ((r 19) - (gQ t r true true 1 0))) 1 (((r 14) - (gQ t r true true 0 0)) + (gQ t r true true 2 0))) 2 (((r 19) - (gQ t r true true 1 0)) - (gQ t r true true 2 0)))))), (o 6, .inl (1, 3, .inr (.inl (va_up (va_up (va_up (va_up (va_up (va_up (moY r) 0 ((r 10) + (gQ t r true true 0 1))) 1 ((r 15) - (gQ t r true true 0 1))) 0 (((r 10) + (gQ t r true true 0 1)) + (gQ t r true true 1 1))) 2 ((r 20) - (gQ t r true true 1 1))) 1 (((r 15) - (gQ t r true true 0 1)) + (gQ t r true true 2 1))) 2 (((r 20) - (gQ t r true true 1 1)) - (gQ t r true true 2 1)))))), (q44, .inr (3, [.null, .null, .null, .null, .null, .int 0]))], ⟨in_f14 (by rw [kkq_14]; exact hk15), _, _, rfl⟩, by rw [← hV0, ← hF]; exact h⟩)
    · skip
      refine xCall.w (wr := [(o 0, .inr (2, [.ref (o 1), .ref (o 2), .ref (o 3), .ref (o 4), .ref (o 5), .ref (o 6), .ref (o 7), .ref (o 8), .ref (o 9), .ref (o 10), .int ((r 0).toInt32)])), (o 1, .inl (0, 6, .inl (seF t r))), (o 2, .inl (0, 3, .inl (maF r))), (o 3, .inl (0, 3, .inl (plX r))), (o 4, .inl (0, 3, .inl (plY r))), (o 5, .inl (1, 3, .inr (.inl u11))), (o 6, .inl (1, 3, .inr (.inl u12)))]) (r_cS hC [.long (((r 10) + (gQ t r true true 0 1)) + (gQ t r true true 1 1)), .long 1000000000] mSX3_check q336 (fun V9 h9 => (metX3_checkB _ _ hG (((r 10) + (gQ t r true true 0 1)) + (gQ t r true true 1 1)) 1000000000 hk14) V9 xIn.nil) ⟨rfl, rfl⟩ (Nat.le_of_ble_eq_true rfl) (Nat.le_of_ble_eq_true rfl) rfl (Nat.le_of_ble_eq_true rfl) dX3_kick_129) [] [0, 1, 2, 3, 4, 5, 6] rfl rfl rfl (by decide) 1 6 132 rfl rfl rfl (fun _ _ h => h.elim) (fun q51 w52 h53 => ?_)
      obtain rfl := h53
      show rx C (xSt F V0 [(o 0, .inr (2, [.ref (o 1), .ref (o 2), .ref (o 3), .ref (o 4), .ref (o 5), .ref (o 6), .ref (o 7), .ref (o 8), .ref (o 9), .ref (o 10), .int ((r 0).toInt32)])), (o 1, .inl (0, 6, .inl (seF t r))), (o 2, .inl (0, 3, .inl (maF r))), (o 3, .inl (0, 3, .inl (plX r))), (o 4, .inl (0, 3, .inl (plY r))), (o 5, .inl (1, 3, .inr (.inl u11))), (o 6, .inl (1, 3, .inr (.inl u12))), (q51, .inr (3, [.null, .null, .null, .null, .null, .int 0]))]) 1 6 129 [(3, .int 0), (6, .long (gQ t r true true 2 1)), (4, .long (gQ t r true true 2 0)), (0, .ref (o 0)), (1, .int (-1)), (2, .int 2)] [] q51
      subst hu12
      subst hu11
      subst hu10
      subst hu9
      subst hu8
      subst hu7
      subst hu6
      subst hu5
      subst hu4
      subst hu3
      subst hu2
      subst hu1
      exact rx_out hC hTab (fun _ h => by cases h) (Nat.le_of_ble_eq_true rfl) (Nat.le_of_ble_eq_true rfl) (fun V9 h => hX _ _ ⟨[(o 0, .inr (2, [.ref (o 1), .ref (o 2), .ref (o 3), .ref (o 4), .ref (o 5), .ref (o 6), .ref (o 7), .ref (o 8), .ref (o 9), .ref (o 10), .int ((r 0).toInt32)])), (o 1, .inl (0, 6, .inl (seF t r))), (o 2, .inl (0, 3, .inl (maF r))), (o 3, .inl (0, 3, .inl (plX r))), (o 4, .inl (0, 3, .inl (plY r))), (o 5, .inl (1, 3, .inr (.inl (va_up (va_up (va_up (va_up (va_up (va_up (moX r) 0 ((r 9) + (gQ t r true true 0 0))) 1 ((r 14) - (gQ t r true true 0 0))) 0 (((r 9) + (gQ t r true true 0 0)) + (gQ t r true true 1 0))) 2 ((r 19) - (gQ t r true true 1 0))) 1 (((r 14) - (gQ t r true true 0 0)) + (gQ t r true true 2 0))) 2 (((r 19) - (gQ t r true true 1 0)) - (gQ t r true true 2 0)))))), (o 6, .inl (1, 3, .inr (.inl (va_up (va_up (va_up (va_up (va_up (va_up (moY r) 0 ((r 10) + (gQ t r true true 0 1))) 1 ((r 15) - (gQ t r true true 0 1))) 0 (((r 10) + (gQ t r true true 0 1)) + (gQ t r true true 1 1))) 2 ((r 20) - (gQ t r true true 1 1))) 1 (((r 15) - (gQ t r true true 0 1)) + (gQ t r true true 2 1))) 2 (((r 20) - (gQ t r true true 1 1)) - (gQ t r true true 2 1)))))), (q51, .inr (3, [.null, .null, .null, .null, .null, .int 0]))], ⟨in_f10 (by rw [kkq_10]; exact hk14), _, _, rfl⟩, by rw [← hV0, ← hF]; exact h⟩)
  · skip
    refine xCall.w (wr := [(o 0, .inr (2, [.ref (o 1), .ref (o 2), .ref (o 3), .ref (o 4), .ref (o 5), .ref (o 6), .ref (o 7), .ref (o 8), .ref (o 9), .ref (o 10), .int ((r 0).toInt32)])), (o 1, .inl (0, 6, .inl (seF t r))), (o 2, .inl (0, 3, .inl (maF r))), (o 3, .inl (0, 3, .inl (plX r))), (o 4, .inl (0, 3, .inl (plY r))), (o 5, .inl (1, 3, .inr (.inl u11))), (o 6, .inl (1, 3, .inr (.inl u12)))]) (r_cS hC [.long (((r 9) + (gQ t r true true 0 0)) + (gQ t r true true 1 0)), .long 1000000000] mSX3_check q336 (fun V9 h9 => (metX3_checkB _ _ hG (((r 9) + (gQ t r true true 0 0)) + (gQ t r true true 1 0)) 1000000000 hk13) V9 xIn.nil) ⟨rfl, rfl⟩ (Nat.le_of_ble_eq_true rfl) (Nat.le_of_ble_eq_true rfl) rfl (Nat.le_of_ble_eq_true rfl) dX3_kick_117) [] [0, 1, 2, 3, 4, 5, 6] rfl rfl rfl (by decide) 1 6 120 rfl rfl rfl (fun _ _ h => h.elim) (fun q58 w59 h60 => ?_)
    obtain rfl := h60
    show rx C (xSt F V0 [(o 0, .inr (2, [.ref (o 1), .ref (o 2), .ref (o 3), .ref (o 4), .ref (o 5), .ref (o 6), .ref (o 7), .ref (o 8), .ref (o 9), .ref (o 10), .int ((r 0).toInt32)])), (o 1, .inl (0, 6, .inl (seF t r))), (o 2, .inl (0, 3, .inl (maF r))), (o 3, .inl (0, 3, .inl (plX r))), (o 4, .inl (0, 3, .inl (plY r))), (o 5, .inl (1, 3, .inr (.inl u11))), (o 6, .inl (1, 3, .inr (.inl u12))), (q58, .inr (3, [.null, .null, .null, .null, .null, .int 0]))]) 1 6 117 [(3, .int 0), (6, .long (gQ t r true true 2 1)), (4, .long (gQ t r true true 2 0)), (0, .ref (o 0)), (1, .int (-1)), (2, .int 2)] [] q58
    subst hu12
    subst hu11
    subst hu10
    subst hu9
    subst hu8
    subst hu7
    subst hu6
    subst hu5
    subst hu4
    subst hu3
    subst hu2
    subst hu1
    exact rx_out hC hTab (fun _ h => by cases h) (Nat.le_of_ble_eq_true rfl) (Nat.le_of_ble_eq_true rfl) (fun V9 h => hX _ _ ⟨[(o 0, .inr (2, [.ref (o 1), .ref (o 2), .ref (o 3), .ref (o 4), .ref (o 5), .ref (o 6), .ref (o 7), .ref (o 8), .ref (o 9), .ref (o 10), .int ((r 0).toInt32)])), (o 1, .inl (0, 6, .inl (seF t r))), (o 2, .inl (0, 3, .inl (maF r))), (o 3, .inl (0, 3, .inl (plX r))), (o 4, .inl (0, 3, .inl (plY r))), (o 5, .inl (1, 3, .inr (.inl (va_up (va_up (va_up (va_up (va_up (va_up (moX r) 0 ((r 9) + (gQ t r true true 0 0))) 1 ((r 14) - (gQ t r true true 0 0))) 0 (((r 9) + (gQ t r true true 0 0)) + (gQ t r true true 1 0))) 2 ((r 19) - (gQ t r true true 1 0))) 1 (((r 14) - (gQ t r true true 0 0)) + (gQ t r true true 2 0))) 2 (((r 19) - (gQ t r true true 1 0)) - (gQ t r true true 2 0)))))), (o 6, .inl (1, 3, .inr (.inl (va_up (va_up (va_up (va_up (va_up (va_up (moY r) 0 ((r 10) + (gQ t r true true 0 1))) 1 ((r 15) - (gQ t r true true 0 1))) 0 (((r 10) + (gQ t r true true 0 1)) + (gQ t r true true 1 1))) 2 ((r 20) - (gQ t r true true 1 1))) 1 (((r 15) - (gQ t r true true 0 1)) + (gQ t r true true 2 1))) 2 (((r 20) - (gQ t r true true 1 1)) - (gQ t r true true 2 1)))))), (q58, .inr (3, [.null, .null, .null, .null, .null, .int 0]))], ⟨in_f9 (by rw [kkq_9]; exact hk13), _, _, rfl⟩, by rw [← hV0, ← hF]; exact h⟩)
set_option maxHeartbeats 4000000 in
set_option maxRecDepth 100000 in
theorem metX3_kick11S (l : Launch) (G : xG) (hG : xGood G) (o : Nat → Nat) (t r : Nat → Int64) (hpl : plR r) (ht : tOK t) (hm : mOK r) (hin : isInQ (kickQ t r true true) = true) : xWm l G yX3_kick (Cond.code yX3_kick cX3_kick 8 none) { frames := 4, locals := 98, cells := 0, slots := 0 } [.ref (o 0), .int (-1), .int 2] [(o 0, .inr (2, [.ref (o 1), .ref (o 2), .ref (o 3), .ref (o 4), .ref (o 5), .ref (o 6), .ref (o 7), .ref (o 8), .ref (o 9), .ref (o 10), .int ((r 0).toInt32)])), (o 1, .inl (0, 6, .inl (seF t r))), (o 2, .inl (0, 3, .inl (maF r))), (o 3, .inl (0, 3, .inl (plX r))), (o 4, .inl (0, 3, .inl (plY r))), (o 5, .inl (1, 3, .inr (.inl (moX r)))), (o 6, .inl (1, 3, .inr (.inl (moY r))))] (fun v w' => v = none ∧ isInQ (kickQ t r true true) = true ∧ w' = [(o 0, .inr (2, [.ref (o 1), .ref (o 2), .ref (o 3), .ref (o 4), .ref (o 5), .ref (o 6), .ref (o 7), .ref (o 8), .ref (o 9), .ref (o 10), .int (((kickQ t r true true) 0).toInt32)])), (o 1, .inl (0, 6, .inl (seF t (kickQ t r true true)))), (o 2, .inl (0, 3, .inl (maF (kickQ t r true true)))), (o 3, .inl (0, 3, .inl (plX (kickQ t r true true)))), (o 4, .inl (0, 3, .inl (plY (kickQ t r true true)))), (o 5, .inl (1, 3, .inr (.inl (moX (kickQ t r true true))))), (o 6, .inl (1, 3, .inr (.inl (moY (kickQ t r true true)))))]) (fun _ _ => False) := by
  intro V hV
  refine xMet_ofT RX3 hG rfl (by decide) (Nat.le_of_ble_eq_true rfl) fun C hC hQ hX hl hg _ hTab => ?_
  subst hl hg
  obtain ⟨tONE, hzONE, htONE⟩ := za_ONE hG
  obtain ⟨tOTH, hzOTH, htOTH⟩ := za_OTH hG
  obtain ⟨V0, hV0⟩ : ∃ V0, V0 = V := ⟨_, rfl⟩
  obtain ⟨F, hF⟩ : ∃ F, F = xF [(o 0, .inr (2, [.ref (o 1), .ref (o 2), .ref (o 3), .ref (o 4), .ref (o 5), .ref (o 6), .ref (o 7), .ref (o 8), .ref (o 9), .ref (o 10), .int ((r 0).toInt32)])), (o 1, .inl (0, 6, .inl (seF t r))), (o 2, .inl (0, 3, .inl (maF r))), (o 3, .inl (0, 3, .inl (plX r))), (o 4, .inl (0, 3, .inl (plY r))), (o 5, .inl (1, 3, .inr (.inl (moX r)))), (o 6, .inl (1, 3, .inr (.inl (moY r))))] := ⟨_, rfl⟩
  refine rn.mono (J := xSt F V0 [(o 0, .inr (2, [.ref (o 1), .ref (o 2), .ref (o 3), .ref (o 4), .ref (o 5), .ref (o 6), .ref (o 7), .ref (o 8), .ref (o 9), .ref (o 10), .int ((r 0).toInt32)])), (o 1, .inl (0, 6, .inl (seF t r))), (o 2, .inl (0, 3, .inl (maF r))), (o 3, .inl (0, 3, .inl (plX r))), (o 4, .inl (0, 3, .inl (plY r))), (o 5, .inl (1, 3, .inr (.inl (moX r)))), (o 6, .inl (1, 3, .inr (.inl (moY r))))]) (fun V9 h => by rw [h, hV0, hF]; exact hV.st) ?_
  show rn C (xSt F V0 [(o 0, .inr (2, [.ref (o 1), .ref (o 2), .ref (o 3), .ref (o 4), .ref (o 5), .ref (o 6), .ref (o 7), .ref (o 8), .ref (o 9), .ref (o 10), .int ((r 0).toInt32)])), (o 1, .inl (0, 6, .inl (seF t r))), (o 2, .inl (0, 3, .inl (maF r))), (o 3, .inl (0, 3, .inl (plX r))), (o 4, .inl (0, 3, .inl (plY r))), (o 5, .inl (1, 3, .inr (.inl (moX r)))), (o 6, .inl (1, 3, .inr (.inl (moY r))))]) 0 0 0 [(0, .ref (o 0)), (1, .int (-1)), (2, .int 2)] []
  refine r_iconst hC 0 dX3_kick_0 ic_0 1 rfl ?_
  refine r_istore_n hC 3 [(3, .int 0), (0, .ref (o 0)), (1, .int (-1)), (2, .int 2)] dX3_kick_1 rfl (Nat.le_of_ble_eq_true rfl) rfl 2 rfl ?_
  refine r_iload_n hC 0 dX3_kick_2 rfl 3 rfl ?_
  refine r_iconst hC 3 dX3_kick_3 ic_3 4 rfl ?_
  refine r_icge hC 101 dX3_kick_4 (by decide) 7 rfl (fun h => absurd h (by decide)) (fun _ => ?_)
  refine r_iload_n hC 2 dX3_kick_7 rfl 8 rfl ?_
  refine r_i2l hC (-1) dX3_kick_8 (by decide) 9 rfl ?_
  refine r_aload_n hC 1 dX3_kick_9 rfl 10 rfl ?_
  refine r_iload_n hC 0 dX3_kick_10 rfl 11 rfl ?_
  refine r_iconst hC 0 dX3_kick_11 ic_0 12 rfl ?_
  refine xCall.r (r := some (.long (impQ t r 0 0))) (r_cV hC kX3 (o 0) [.int 0, .int 0] mVX3_impulse q331 (fun _ h => ⟨_, h.get 0 rfl⟩) (fun V9 h9 => (metX3_impulse0 _ _ hG o t r 0 (Nat.le_of_ble_eq_true rfl) hpl ht hm) V9 (h9.in.sub [0, 1, 2, 3, 4] rfl rfl)) ⟨rfl, rfl⟩ (Nat.le_of_ble_eq_true rfl) (Nat.le_of_ble_eq_true rfl) rfl (Nat.le_of_ble_eq_true rfl) dX3_kick_12) 0 0 15 rfl rfl rfl ?_
  refine r_iload_n hC 3 dX3_kick_15 rfl 16 rfl ?_
  refine r_i2l hC 2 dX3_kick_16 (by decide) 17 rfl ?_
  refine r_ldiv hC ((impQ t r 0 0) / 2) dX3_kick_17 (by decide) (rfl) 18 rfl ?_
  refine r_lmul hC ((-1) * ((impQ t r 0 0) / 2)) dX3_kick_18  (rfl) 19 rfl ?_
  refine r_eql (y := gQ t r true true 0 0) (g11 _) ?_
  refine r_lstore hC 4 [(4, .long (gQ t r true true 0 0)), (3, .int 0), (0, .ref (o 0)), (1, .int (-1)), (2, .int 2)] dX3_kick_19 (Nat.le_of_ble_eq_true rfl) rfl 21 rfl ?_
  refine r_iload_n hC 3 dX3_kick_21 rfl 22 rfl ?_
  refine r_i2l hC (-1) dX3_kick_22 (by decide) 23 rfl ?_
  refine r_aload_n hC 2 dX3_kick_23 rfl 24 rfl ?_
  refine r_iload_n hC 1 dX3_kick_24 rfl 25 rfl ?_
  refine r_iconst hC 1 dX3_kick_25 ic_1 26 rfl ?_
  refine xCall.r (r := some (.long (impQ t r 0 1))) (r_cV hC kX3 (o 0) [.int 0, .int 1] mVX3_impulse q331 (fun _ h => ⟨_, h.get 0 rfl⟩) (fun V9 h9 => (metX3_impulse1 _ _ hG o t r 0 (Nat.le_of_ble_eq_true rfl) hpl ht hm) V9 (h9.in.sub [0, 1, 2, 3, 4] rfl rfl)) ⟨rfl, rfl⟩ (Nat.le_of_ble_eq_true rfl) (Nat.le_of_ble_eq_true rfl) rfl (Nat.le_of_ble_eq_true rfl) dX3_kick_26) 0 0 29 rfl rfl rfl ?_
  refine r_iload_n hC 4 dX3_kick_29 rfl 30 rfl ?_
  refine r_i2l hC 2 dX3_kick_30 (by decide) 31 rfl ?_
  refine r_ldiv hC ((impQ t r 0 1) / 2) dX3_kick_31 (by decide) (rfl) 32 rfl ?_
  refine r_lmul hC ((-1) * ((impQ t r 0 1) / 2)) dX3_kick_32  (rfl) 33 rfl ?_
  refine r_eql (y := gQ t r true true 0 1) (g11 _) ?_
  refine r_lstore hC 6 [(6, .long (gQ t r true true 0 1)), (4, .long (gQ t r true true 0 0)), (3, .int 0), (0, .ref (o 0)), (1, .int (-1)), (2, .int 2)] dX3_kick_33 (Nat.le_of_ble_eq_true rfl) rfl 35 rfl ?_
  refine r_aload_n hC 3 dX3_kick_35 rfl 36 rfl ?_
  refine r_get (v := .ref (o 5)) hC kX3 4 rfl q188 (fun _ h => h.get 0 rfl) rfl dX3_kick_36 39 rfl ?_
  refine r_getsN hC hG hzONE q271 dX3_kick_39 42 rfl ?_
  refine r_iload_n hC 2 dX3_kick_42 rfl 43 rfl ?_
  refine r_ialdT hC htONE 0 (xix_n 0 (Nat.le_of_ble_eq_true rfl) (Nat.le_of_ble_eq_true rfl)) 0 rfl dX3_kick_43 44 rfl ?_
  refine r_dup2 hC dX3_kick_44 rfl rfl 45 rfl ?_
  refine r_lald hC 0 (xix_n 0 (Nat.le_of_ble_eq_true rfl) (Nat.le_of_ble_eq_true rfl)) (fun _ h => h.get 5 rfl) (moX r 0) (rfl) dX3_kick_45 46 rfl ?_
  refine r_eql (y := r 9) (rfl) ?_
  refine r_lload hC 1 dX3_kick_46 rfl 48 rfl ?_
  refine r_ladd hC ((r 9) + (gQ t r true true 0 0)) dX3_kick_48  (rfl) 49 rfl ?_
  refine r_last (J := xSt F V0 [(o 0, .inr (2, [.ref (o 1), .ref (o 2), .ref (o 3), .ref (o 4), .ref (o 5), .ref (o 6), .ref (o 7), .ref (o 8), .ref (o 9), .ref (o 10), .int ((r 0).toInt32)])), (o 1, .inl (0, 6, .inl (seF t r))), (o 2, .inl (0, 3, .inl (maF r))), (o 3, .inl (0, 3, .inl (plX r))), (o 4, .inl (0, 3, .inl (plY r))), (o 5, .inl (1, 3, .inr (.inl (va_up (moX r) 0 ((r 9) + (gQ t r true true 0 0)))))), (o 6, .inl (1, 3, .inr (.inl (moY r))))]) hC 0 (xix_n 0 (Nat.le_of_ble_eq_true rfl) (Nat.le_of_ble_eq_true rfl)) (fun _ h => h.get 5 rfl) dX3_kick_49 (fun _ h => h.set 5 _ rfl) 50 rfl ?_
  generalize hu1 : va_up (moX r) 0 ((r 9) + (gQ t r true true 0 0)) = u1
  refine r_aload_n hC 3 dX3_kick_50 rfl 51 rfl ?_
  refine r_get (v := .ref (o 6)) hC kX3 5 rfl q191 (fun _ h => h.get 0 rfl) rfl dX3_kick_51 54 rfl ?_
  refine r_getsN hC hG hzONE q271 dX3_kick_54 57 rfl ?_
  refine r_iload_n hC 2 dX3_kick_57 rfl 58 rfl ?_
  refine r_ialdT hC htONE 0 (xix_n 0 (Nat.le_of_ble_eq_true rfl) (Nat.le_of_ble_eq_true rfl)) 0 rfl dX3_kick_58 59 rfl ?_
  refine r_dup2 hC dX3_kick_59 rfl rfl 60 rfl ?_
  refine r_lald hC 0 (xix_n 0 (Nat.le_of_ble_eq_true rfl) (Nat.le_of_ble_eq_true rfl)) (fun _ h => h.get 6 rfl) (moY r 0) (rfl) dX3_kick_60 61 rfl ?_
  refine r_eql (y := r 10) (rfl) ?_
  refine r_lload hC 0 dX3_kick_61 rfl 63 rfl ?_
  refine r_ladd hC ((r 10) + (gQ t r true true 0 1)) dX3_kick_63  (rfl) 64 rfl ?_
  refine r_last (J := xSt F V0 [(o 0, .inr (2, [.ref (o 1), .ref (o 2), .ref (o 3), .ref (o 4), .ref (o 5), .ref (o 6), .ref (o 7), .ref (o 8), .ref (o 9), .ref (o 10), .int ((r 0).toInt32)])), (o 1, .inl (0, 6, .inl (seF t r))), (o 2, .inl (0, 3, .inl (maF r))), (o 3, .inl (0, 3, .inl (plX r))), (o 4, .inl (0, 3, .inl (plY r))), (o 5, .inl (1, 3, .inr (.inl u1))), (o 6, .inl (1, 3, .inr (.inl (va_up (moY r) 0 ((r 10) + (gQ t r true true 0 1))))))]) hC 0 (xix_n 0 (Nat.le_of_ble_eq_true rfl) (Nat.le_of_ble_eq_true rfl)) (fun _ h => h.get 6 rfl) dX3_kick_64 (fun _ h => h.set 6 _ rfl) 65 rfl ?_
  generalize hu2 : va_up (moY r) 0 ((r 10) + (gQ t r true true 0 1)) = u2
  refine r_aload_n hC 3 dX3_kick_65 rfl 66 rfl ?_
  refine r_get (v := .ref (o 5)) hC kX3 4 rfl q188 (fun _ h => h.get 0 rfl) rfl dX3_kick_66 69 rfl ?_
  refine r_getsN hC hG hzOTH q273 dX3_kick_69 72 rfl ?_
  refine r_iload_n hC 2 dX3_kick_72 rfl 73 rfl ?_
  refine r_ialdT hC htOTH 0 (xix_n 0 (Nat.le_of_ble_eq_true rfl) (Nat.le_of_ble_eq_true rfl)) 1 rfl dX3_kick_73 74 rfl ?_
  refine r_dup2 hC dX3_kick_74 rfl rfl 75 rfl ?_
  refine r_lald hC 1 (xix_n 1 (Nat.le_of_ble_eq_true rfl) (Nat.le_of_ble_eq_true rfl)) (fun _ h => h.get 5 rfl) (moX r 1) (by rw [← hu1]; rfl) dX3_kick_75 76 rfl ?_
  refine r_eql (y := r 14) (rfl) ?_
  refine r_lload hC 1 dX3_kick_76 rfl 78 rfl ?_
  refine r_lsub hC ((r 14) - (gQ t r true true 0 0)) dX3_kick_78  (rfl) 79 rfl ?_
  refine r_last (J := xSt F V0 [(o 0, .inr (2, [.ref (o 1), .ref (o 2), .ref (o 3), .ref (o 4), .ref (o 5), .ref (o 6), .ref (o 7), .ref (o 8), .ref (o 9), .ref (o 10), .int ((r 0).toInt32)])), (o 1, .inl (0, 6, .inl (seF t r))), (o 2, .inl (0, 3, .inl (maF r))), (o 3, .inl (0, 3, .inl (plX r))), (o 4, .inl (0, 3, .inl (plY r))), (o 5, .inl (1, 3, .inr (.inl (va_up u1 1 ((r 14) - (gQ t r true true 0 0)))))), (o 6, .inl (1, 3, .inr (.inl u2)))]) hC 1 (xix_n 1 (Nat.le_of_ble_eq_true rfl) (Nat.le_of_ble_eq_true rfl)) (fun _ h => h.get 5 rfl) dX3_kick_79 (fun _ h => h.set 5 _ rfl) 80 rfl ?_
  generalize hu3 : va_up u1 1 ((r 14) - (gQ t r true true 0 0)) = u3
  refine r_aload_n hC 3 dX3_kick_80 rfl 81 rfl ?_
  refine r_get (v := .ref (o 6)) hC kX3 5 rfl q191 (fun _ h => h.get 0 rfl) rfl dX3_kick_81 84 rfl ?_
  refine r_getsN hC hG hzOTH q273 dX3_kick_84 87 rfl ?_
  refine r_iload_n hC 2 dX3_kick_87 rfl 88 rfl ?_
  refine r_ialdT hC htOTH 0 (xix_n 0 (Nat.le_of_ble_eq_true rfl) (Nat.le_of_ble_eq_true rfl)) 1 rfl dX3_kick_88 89 rfl ?_
  refine r_dup2 hC dX3_kick_89 rfl rfl 90 rfl ?_
  refine r_lald hC 1 (xix_n 1 (Nat.le_of_ble_eq_true rfl) (Nat.le_of_ble_eq_true rfl)) (fun _ h => h.get 6 rfl) (moY r 1) (by rw [← hu2]; rfl) dX3_kick_90 91 rfl ?_
  refine r_eql (y := r 15) (rfl) ?_
  refine r_lload hC 0 dX3_kick_91 rfl 93 rfl ?_
  refine r_lsub hC ((r 15) - (gQ t r true true 0 1)) dX3_kick_93  (rfl) 94 rfl ?_
  refine r_last (J := xSt F V0 [(o 0, .inr (2, [.ref (o 1), .ref (o 2), .ref (o 3), .ref (o 4), .ref (o 5), .ref (o 6), .ref (o 7), .ref (o 8), .ref (o 9), .ref (o 10), .int ((r 0).toInt32)])), (o 1, .inl (0, 6, .inl (seF t r))), (o 2, .inl (0, 3, .inl (maF r))), (o 3, .inl (0, 3, .inl (plX r))), (o 4, .inl (0, 3, .inl (plY r))), (o 5, .inl (1, 3, .inr (.inl u3))), (o 6, .inl (1, 3, .inr (.inl (va_up u2 1 ((r 15) - (gQ t r true true 0 1))))))]) hC 1 (xix_n 1 (Nat.le_of_ble_eq_true rfl) (Nat.le_of_ble_eq_true rfl)) (fun _ h => h.get 6 rfl) dX3_kick_94 (fun _ h => h.set 6 _ rfl) 95 rfl ?_
  generalize hu4 : va_up u2 1 ((r 15) - (gQ t r true true 0 1)) = u4
  refine r_iinc hC 1 3 2 [(3, .int 1), (6, .long (gQ t r true true 0 1)), (4, .long (gQ t r true true 0 0)), (0, .ref (o 0)), (1, .int (-1)), (2, .int 2)] dX3_kick_95 rfl (by decide) (Nat.le_of_ble_eq_true rfl) rfl 98 rfl ?_
  refine r_goto hC 2 dX3_kick_98 (by decide) ?_
  refine r_iload_n hC 0 dX3_kick_2 rfl 3 rfl ?_
  refine r_iconst hC 3 dX3_kick_3 ic_3 4 rfl ?_
  refine r_icge hC 101 dX3_kick_4 (by decide) 7 rfl (fun h => absurd h (by decide)) (fun _ => ?_)
  refine r_iload_n hC 4 dX3_kick_7 rfl 8 rfl ?_
  refine r_i2l hC (-1) dX3_kick_8 (by decide) 9 rfl ?_
  refine r_aload_n hC 3 dX3_kick_9 rfl 10 rfl ?_
  refine r_iload_n hC 0 dX3_kick_10 rfl 11 rfl ?_
  refine r_iconst hC 0 dX3_kick_11 ic_0 12 rfl ?_
  refine xCall.r (r := some (.long (impQ t r 1 0))) (r_cV hC kX3 (o 0) [.int 1, .int 0] mVX3_impulse q331 (fun _ h => ⟨_, h.get 0 rfl⟩) (fun V9 h9 => (metX3_impulse0 _ _ hG o t r 1 (Nat.le_of_ble_eq_true rfl) hpl ht hm) V9 (h9.in.sub [0, 1, 2, 3, 4] rfl rfl)) ⟨rfl, rfl⟩ (Nat.le_of_ble_eq_true rfl) (Nat.le_of_ble_eq_true rfl) rfl (Nat.le_of_ble_eq_true rfl) dX3_kick_12) 0 0 15 rfl rfl rfl ?_
  refine r_iload_n hC 5 dX3_kick_15 rfl 16 rfl ?_
  refine r_i2l hC 2 dX3_kick_16 (by decide) 17 rfl ?_
  refine r_ldiv hC ((impQ t r 1 0) / 2) dX3_kick_17 (by decide) (rfl) 18 rfl ?_
  refine r_lmul hC ((-1) * ((impQ t r 1 0) / 2)) dX3_kick_18  (rfl) 19 rfl ?_
  refine r_eql (y := gQ t r true true 1 0) (g11 _) ?_
  refine r_lstore hC 4 [(4, .long (gQ t r true true 1 0)), (3, .int 1), (6, .long (gQ t r true true 0 1)), (0, .ref (o 0)), (1, .int (-1)), (2, .int 2)] dX3_kick_19 (Nat.le_of_ble_eq_true rfl) rfl 21 rfl ?_
  refine r_iload_n hC 4 dX3_kick_21 rfl 22 rfl ?_
  refine r_i2l hC (-1) dX3_kick_22 (by decide) 23 rfl ?_
  refine r_aload_n hC 3 dX3_kick_23 rfl 24 rfl ?_
  refine r_iload_n hC 1 dX3_kick_24 rfl 25 rfl ?_
  refine r_iconst hC 1 dX3_kick_25 ic_1 26 rfl ?_
  refine xCall.r (r := some (.long (impQ t r 1 1))) (r_cV hC kX3 (o 0) [.int 1, .int 1] mVX3_impulse q331 (fun _ h => ⟨_, h.get 0 rfl⟩) (fun V9 h9 => (metX3_impulse1 _ _ hG o t r 1 (Nat.le_of_ble_eq_true rfl) hpl ht hm) V9 (h9.in.sub [0, 1, 2, 3, 4] rfl rfl)) ⟨rfl, rfl⟩ (Nat.le_of_ble_eq_true rfl) (Nat.le_of_ble_eq_true rfl) rfl (Nat.le_of_ble_eq_true rfl) dX3_kick_26) 0 0 29 rfl rfl rfl ?_
  refine r_iload_n hC 5 dX3_kick_29 rfl 30 rfl ?_
  refine r_i2l hC 2 dX3_kick_30 (by decide) 31 rfl ?_
  refine r_ldiv hC ((impQ t r 1 1) / 2) dX3_kick_31 (by decide) (rfl) 32 rfl ?_
  refine r_lmul hC ((-1) * ((impQ t r 1 1) / 2)) dX3_kick_32  (rfl) 33 rfl ?_
  refine r_eql (y := gQ t r true true 1 1) (g11 _) ?_
  refine r_lstore hC 6 [(6, .long (gQ t r true true 1 1)), (4, .long (gQ t r true true 1 0)), (3, .int 1), (0, .ref (o 0)), (1, .int (-1)), (2, .int 2)] dX3_kick_33 (Nat.le_of_ble_eq_true rfl) rfl 35 rfl ?_
  refine r_aload_n hC 3 dX3_kick_35 rfl 36 rfl ?_
  refine r_get (v := .ref (o 5)) hC kX3 4 rfl q188 (fun _ h => h.get 0 rfl) rfl dX3_kick_36 39 rfl ?_
  refine r_getsN hC hG hzONE q271 dX3_kick_39 42 rfl ?_
  refine r_iload_n hC 2 dX3_kick_42 rfl 43 rfl ?_
  refine r_ialdT hC htONE 1 (xix_n 1 (Nat.le_of_ble_eq_true rfl) (Nat.le_of_ble_eq_true rfl)) 0 rfl dX3_kick_43 44 rfl ?_
  refine r_dup2 hC dX3_kick_44 rfl rfl 45 rfl ?_
  refine r_lald hC 0 (xix_n 0 (Nat.le_of_ble_eq_true rfl) (Nat.le_of_ble_eq_true rfl)) (fun _ h => h.get 5 rfl) ((r 9) + (gQ t r true true 0 0)) (by rw [← hu3, ← hu1]; rfl) dX3_kick_45 46 rfl ?_
  refine r_lload hC 1 dX3_kick_46 rfl 48 rfl ?_
  refine r_ladd hC (((r 9) + (gQ t r true true 0 0)) + (gQ t r true true 1 0)) dX3_kick_48  (rfl) 49 rfl ?_
  refine r_last (J := xSt F V0 [(o 0, .inr (2, [.ref (o 1), .ref (o 2), .ref (o 3), .ref (o 4), .ref (o 5), .ref (o 6), .ref (o 7), .ref (o 8), .ref (o 9), .ref (o 10), .int ((r 0).toInt32)])), (o 1, .inl (0, 6, .inl (seF t r))), (o 2, .inl (0, 3, .inl (maF r))), (o 3, .inl (0, 3, .inl (plX r))), (o 4, .inl (0, 3, .inl (plY r))), (o 5, .inl (1, 3, .inr (.inl (va_up u3 0 (((r 9) + (gQ t r true true 0 0)) + (gQ t r true true 1 0)))))), (o 6, .inl (1, 3, .inr (.inl u4)))]) hC 0 (xix_n 0 (Nat.le_of_ble_eq_true rfl) (Nat.le_of_ble_eq_true rfl)) (fun _ h => h.get 5 rfl) dX3_kick_49 (fun _ h => h.set 5 _ rfl) 50 rfl ?_
  generalize hu5 : va_up u3 0 (((r 9) + (gQ t r true true 0 0)) + (gQ t r true true 1 0)) = u5
  refine r_aload_n hC 3 dX3_kick_50 rfl 51 rfl ?_
  refine r_get (v := .ref (o 6)) hC kX3 5 rfl q191 (fun _ h => h.get 0 rfl) rfl dX3_kick_51 54 rfl ?_
  refine r_getsN hC hG hzONE q271 dX3_kick_54 57 rfl ?_
  refine r_iload_n hC 2 dX3_kick_57 rfl 58 rfl ?_
  refine r_ialdT hC htONE 1 (xix_n 1 (Nat.le_of_ble_eq_true rfl) (Nat.le_of_ble_eq_true rfl)) 0 rfl dX3_kick_58 59 rfl ?_
  refine r_dup2 hC dX3_kick_59 rfl rfl 60 rfl ?_
  refine r_lald hC 0 (xix_n 0 (Nat.le_of_ble_eq_true rfl) (Nat.le_of_ble_eq_true rfl)) (fun _ h => h.get 6 rfl) ((r 10) + (gQ t r true true 0 1)) (by rw [← hu4, ← hu2]; rfl) dX3_kick_60 61 rfl ?_
  refine r_lload hC 0 dX3_kick_61 rfl 63 rfl ?_
  refine r_ladd hC (((r 10) + (gQ t r true true 0 1)) + (gQ t r true true 1 1)) dX3_kick_63  (rfl) 64 rfl ?_
  refine r_last (J := xSt F V0 [(o 0, .inr (2, [.ref (o 1), .ref (o 2), .ref (o 3), .ref (o 4), .ref (o 5), .ref (o 6), .ref (o 7), .ref (o 8), .ref (o 9), .ref (o 10), .int ((r 0).toInt32)])), (o 1, .inl (0, 6, .inl (seF t r))), (o 2, .inl (0, 3, .inl (maF r))), (o 3, .inl (0, 3, .inl (plX r))), (o 4, .inl (0, 3, .inl (plY r))), (o 5, .inl (1, 3, .inr (.inl u5))), (o 6, .inl (1, 3, .inr (.inl (va_up u4 0 (((r 10) + (gQ t r true true 0 1)) + (gQ t r true true 1 1))))))]) hC 0 (xix_n 0 (Nat.le_of_ble_eq_true rfl) (Nat.le_of_ble_eq_true rfl)) (fun _ h => h.get 6 rfl) dX3_kick_64 (fun _ h => h.set 6 _ rfl) 65 rfl ?_
  generalize hu6 : va_up u4 0 (((r 10) + (gQ t r true true 0 1)) + (gQ t r true true 1 1)) = u6
  refine r_aload_n hC 3 dX3_kick_65 rfl 66 rfl ?_
  refine r_get (v := .ref (o 5)) hC kX3 4 rfl q188 (fun _ h => h.get 0 rfl) rfl dX3_kick_66 69 rfl ?_
  refine r_getsN hC hG hzOTH q273 dX3_kick_69 72 rfl ?_
  refine r_iload_n hC 2 dX3_kick_72 rfl 73 rfl ?_
  refine r_ialdT hC htOTH 1 (xix_n 1 (Nat.le_of_ble_eq_true rfl) (Nat.le_of_ble_eq_true rfl)) 2 rfl dX3_kick_73 74 rfl ?_
  refine r_dup2 hC dX3_kick_74 rfl rfl 75 rfl ?_
  refine r_lald hC 2 (xix_n 2 (Nat.le_of_ble_eq_true rfl) (Nat.le_of_ble_eq_true rfl)) (fun _ h => h.get 5 rfl) (moX r 2) (by rw [← hu5, ← hu3, ← hu1]; rfl) dX3_kick_75 76 rfl ?_
  refine r_eql (y := r 19) (rfl) ?_
  refine r_lload hC 1 dX3_kick_76 rfl 78 rfl ?_
  refine r_lsub hC ((r 19) - (gQ t r true true 1 0)) dX3_kick_78  (rfl) 79 rfl ?_
  refine r_last (J := xSt F V0 [(o 0, .inr (2, [.ref (o 1), .ref (o 2), .ref (o 3), .ref (o 4), .ref (o 5), .ref (o 6), .ref (o 7), .ref (o 8), .ref (o 9), .ref (o 10), .int ((r 0).toInt32)])), (o 1, .inl (0, 6, .inl (seF t r))), (o 2, .inl (0, 3, .inl (maF r))), (o 3, .inl (0, 3, .inl (plX r))), (o 4, .inl (0, 3, .inl (plY r))), (o 5, .inl (1, 3, .inr (.inl (va_up u5 2 ((r 19) - (gQ t r true true 1 0)))))), (o 6, .inl (1, 3, .inr (.inl u6)))]) hC 2 (xix_n 2 (Nat.le_of_ble_eq_true rfl) (Nat.le_of_ble_eq_true rfl)) (fun _ h => h.get 5 rfl) dX3_kick_79 (fun _ h => h.set 5 _ rfl) 80 rfl ?_
  generalize hu7 : va_up u5 2 ((r 19) - (gQ t r true true 1 0)) = u7
  refine r_aload_n hC 3 dX3_kick_80 rfl 81 rfl ?_
  refine r_get (v := .ref (o 6)) hC kX3 5 rfl q191 (fun _ h => h.get 0 rfl) rfl dX3_kick_81 84 rfl ?_
  refine r_getsN hC hG hzOTH q273 dX3_kick_84 87 rfl ?_
  refine r_iload_n hC 2 dX3_kick_87 rfl 88 rfl ?_
  refine r_ialdT hC htOTH 1 (xix_n 1 (Nat.le_of_ble_eq_true rfl) (Nat.le_of_ble_eq_true rfl)) 2 rfl dX3_kick_88 89 rfl ?_
  refine r_dup2 hC dX3_kick_89 rfl rfl 90 rfl ?_
  refine r_lald hC 2 (xix_n 2 (Nat.le_of_ble_eq_true rfl) (Nat.le_of_ble_eq_true rfl)) (fun _ h => h.get 6 rfl) (moY r 2) (by rw [← hu6, ← hu4, ← hu2]; rfl) dX3_kick_90 91 rfl ?_
  refine r_eql (y := r 20) (rfl) ?_
  refine r_lload hC 0 dX3_kick_91 rfl 93 rfl ?_
  refine r_lsub hC ((r 20) - (gQ t r true true 1 1)) dX3_kick_93  (rfl) 94 rfl ?_
  refine r_last (J := xSt F V0 [(o 0, .inr (2, [.ref (o 1), .ref (o 2), .ref (o 3), .ref (o 4), .ref (o 5), .ref (o 6), .ref (o 7), .ref (o 8), .ref (o 9), .ref (o 10), .int ((r 0).toInt32)])), (o 1, .inl (0, 6, .inl (seF t r))), (o 2, .inl (0, 3, .inl (maF r))), (o 3, .inl (0, 3, .inl (plX r))), (o 4, .inl (0, 3, .inl (plY r))), (o 5, .inl (1, 3, .inr (.inl u7))), (o 6, .inl (1, 3, .inr (.inl (va_up u6 2 ((r 20) - (gQ t r true true 1 1))))))]) hC 2 (xix_n 2 (Nat.le_of_ble_eq_true rfl) (Nat.le_of_ble_eq_true rfl)) (fun _ h => h.get 6 rfl) dX3_kick_94 (fun _ h => h.set 6 _ rfl) 95 rfl ?_
  generalize hu8 : va_up u6 2 ((r 20) - (gQ t r true true 1 1)) = u8
  refine r_iinc hC 2 3 2 [(3, .int 2), (6, .long (gQ t r true true 1 1)), (4, .long (gQ t r true true 1 0)), (0, .ref (o 0)), (1, .int (-1)), (2, .int 2)] dX3_kick_95 rfl (by decide) (Nat.le_of_ble_eq_true rfl) rfl 98 rfl ?_
  refine r_goto hC 2 dX3_kick_98 (by decide) ?_
  refine r_iload_n hC 0 dX3_kick_2 rfl 3 rfl ?_
  refine r_iconst hC 3 dX3_kick_3 ic_3 4 rfl ?_
  refine r_icge hC 101 dX3_kick_4 (by decide) 7 rfl (fun h => absurd h (by decide)) (fun _ => ?_)
  refine r_iload_n hC 4 dX3_kick_7 rfl 8 rfl ?_
  refine r_i2l hC (-1) dX3_kick_8 (by decide) 9 rfl ?_
  refine r_aload_n hC 3 dX3_kick_9 rfl 10 rfl ?_
  refine r_iload_n hC 0 dX3_kick_10 rfl 11 rfl ?_
  refine r_iconst hC 0 dX3_kick_11 ic_0 12 rfl ?_
  refine xCall.r (r := some (.long (impQ t r 2 0))) (r_cV hC kX3 (o 0) [.int 2, .int 0] mVX3_impulse q331 (fun _ h => ⟨_, h.get 0 rfl⟩) (fun V9 h9 => (metX3_impulse0 _ _ hG o t r 2 (Nat.le_of_ble_eq_true rfl) hpl ht hm) V9 (h9.in.sub [0, 1, 2, 3, 4] rfl rfl)) ⟨rfl, rfl⟩ (Nat.le_of_ble_eq_true rfl) (Nat.le_of_ble_eq_true rfl) rfl (Nat.le_of_ble_eq_true rfl) dX3_kick_12) 0 0 15 rfl rfl rfl ?_
  refine r_iload_n hC 5 dX3_kick_15 rfl 16 rfl ?_
  refine r_i2l hC 2 dX3_kick_16 (by decide) 17 rfl ?_
  refine r_ldiv hC ((impQ t r 2 0) / 2) dX3_kick_17 (by decide) (rfl) 18 rfl ?_
  refine r_lmul hC ((-1) * ((impQ t r 2 0) / 2)) dX3_kick_18  (rfl) 19 rfl ?_
  refine r_eql (y := gQ t r true true 2 0) (g11 _) ?_
  refine r_lstore hC 4 [(4, .long (gQ t r true true 2 0)), (3, .int 2), (6, .long (gQ t r true true 1 1)), (0, .ref (o 0)), (1, .int (-1)), (2, .int 2)] dX3_kick_19 (Nat.le_of_ble_eq_true rfl) rfl 21 rfl ?_
  refine r_iload_n hC 4 dX3_kick_21 rfl 22 rfl ?_
  refine r_i2l hC (-1) dX3_kick_22 (by decide) 23 rfl ?_
  refine r_aload_n hC 3 dX3_kick_23 rfl 24 rfl ?_
  refine r_iload_n hC 1 dX3_kick_24 rfl 25 rfl ?_
  refine r_iconst hC 1 dX3_kick_25 ic_1 26 rfl ?_
  refine xCall.r (r := some (.long (impQ t r 2 1))) (r_cV hC kX3 (o 0) [.int 2, .int 1] mVX3_impulse q331 (fun _ h => ⟨_, h.get 0 rfl⟩) (fun V9 h9 => (metX3_impulse1 _ _ hG o t r 2 (Nat.le_of_ble_eq_true rfl) hpl ht hm) V9 (h9.in.sub [0, 1, 2, 3, 4] rfl rfl)) ⟨rfl, rfl⟩ (Nat.le_of_ble_eq_true rfl) (Nat.le_of_ble_eq_true rfl) rfl (Nat.le_of_ble_eq_true rfl) dX3_kick_26) 0 0 29 rfl rfl rfl ?_
  refine r_iload_n hC 5 dX3_kick_29 rfl 30 rfl ?_
  refine r_i2l hC 2 dX3_kick_30 (by decide) 31 rfl ?_
  refine r_ldiv hC ((impQ t r 2 1) / 2) dX3_kick_31 (by decide) (rfl) 32 rfl ?_
  refine r_lmul hC ((-1) * ((impQ t r 2 1) / 2)) dX3_kick_32  (rfl) 33 rfl ?_
  refine r_eql (y := gQ t r true true 2 1) (g11 _) ?_
  refine r_lstore hC 6 [(6, .long (gQ t r true true 2 1)), (4, .long (gQ t r true true 2 0)), (3, .int 2), (0, .ref (o 0)), (1, .int (-1)), (2, .int 2)] dX3_kick_33 (Nat.le_of_ble_eq_true rfl) rfl 35 rfl ?_
  refine r_aload_n hC 3 dX3_kick_35 rfl 36 rfl ?_
  refine r_get (v := .ref (o 5)) hC kX3 4 rfl q188 (fun _ h => h.get 0 rfl) rfl dX3_kick_36 39 rfl ?_
  refine r_getsN hC hG hzONE q271 dX3_kick_39 42 rfl ?_
  refine r_iload_n hC 2 dX3_kick_42 rfl 43 rfl ?_
  refine r_ialdT hC htONE 2 (xix_n 2 (Nat.le_of_ble_eq_true rfl) (Nat.le_of_ble_eq_true rfl)) 1 rfl dX3_kick_43 44 rfl ?_
  refine r_dup2 hC dX3_kick_44 rfl rfl 45 rfl ?_
  refine r_lald hC 1 (xix_n 1 (Nat.le_of_ble_eq_true rfl) (Nat.le_of_ble_eq_true rfl)) (fun _ h => h.get 5 rfl) ((r 14) - (gQ t r true true 0 0)) (by rw [← hu7, ← hu5, ← hu3]; rfl) dX3_kick_45 46 rfl ?_
  refine r_lload hC 1 dX3_kick_46 rfl 48 rfl ?_
  refine r_ladd hC (((r 14) - (gQ t r true true 0 0)) + (gQ t r true true 2 0)) dX3_kick_48  (rfl) 49 rfl ?_
  refine r_last (J := xSt F V0 [(o 0, .inr (2, [.ref (o 1), .ref (o 2), .ref (o 3), .ref (o 4), .ref (o 5), .ref (o 6), .ref (o 7), .ref (o 8), .ref (o 9), .ref (o 10), .int ((r 0).toInt32)])), (o 1, .inl (0, 6, .inl (seF t r))), (o 2, .inl (0, 3, .inl (maF r))), (o 3, .inl (0, 3, .inl (plX r))), (o 4, .inl (0, 3, .inl (plY r))), (o 5, .inl (1, 3, .inr (.inl (va_up u7 1 (((r 14) - (gQ t r true true 0 0)) + (gQ t r true true 2 0)))))), (o 6, .inl (1, 3, .inr (.inl u8)))]) hC 1 (xix_n 1 (Nat.le_of_ble_eq_true rfl) (Nat.le_of_ble_eq_true rfl)) (fun _ h => h.get 5 rfl) dX3_kick_49 (fun _ h => h.set 5 _ rfl) 50 rfl ?_
  generalize hu9 : va_up u7 1 (((r 14) - (gQ t r true true 0 0)) + (gQ t r true true 2 0)) = u9
  refine r_aload_n hC 3 dX3_kick_50 rfl 51 rfl ?_
  refine r_get (v := .ref (o 6)) hC kX3 5 rfl q191 (fun _ h => h.get 0 rfl) rfl dX3_kick_51 54 rfl ?_
  refine r_getsN hC hG hzONE q271 dX3_kick_54 57 rfl ?_
  refine r_iload_n hC 2 dX3_kick_57 rfl 58 rfl ?_
  refine r_ialdT hC htONE 2 (xix_n 2 (Nat.le_of_ble_eq_true rfl) (Nat.le_of_ble_eq_true rfl)) 1 rfl dX3_kick_58 59 rfl ?_
  refine r_dup2 hC dX3_kick_59 rfl rfl 60 rfl ?_
  refine r_lald hC 1 (xix_n 1 (Nat.le_of_ble_eq_true rfl) (Nat.le_of_ble_eq_true rfl)) (fun _ h => h.get 6 rfl) ((r 15) - (gQ t r true true 0 1)) (by rw [← hu8, ← hu6, ← hu4]; rfl) dX3_kick_60 61 rfl ?_
  refine r_lload hC 0 dX3_kick_61 rfl 63 rfl ?_
  refine r_ladd hC (((r 15) - (gQ t r true true 0 1)) + (gQ t r true true 2 1)) dX3_kick_63  (rfl) 64 rfl ?_
  refine r_last (J := xSt F V0 [(o 0, .inr (2, [.ref (o 1), .ref (o 2), .ref (o 3), .ref (o 4), .ref (o 5), .ref (o 6), .ref (o 7), .ref (o 8), .ref (o 9), .ref (o 10), .int ((r 0).toInt32)])), (o 1, .inl (0, 6, .inl (seF t r))), (o 2, .inl (0, 3, .inl (maF r))), (o 3, .inl (0, 3, .inl (plX r))), (o 4, .inl (0, 3, .inl (plY r))), (o 5, .inl (1, 3, .inr (.inl u9))), (o 6, .inl (1, 3, .inr (.inl (va_up u8 1 (((r 15) - (gQ t r true true 0 1)) + (gQ t r true true 2 1))))))]) hC 1 (xix_n 1 (Nat.le_of_ble_eq_true rfl) (Nat.le_of_ble_eq_true rfl)) (fun _ h => h.get 6 rfl) dX3_kick_64 (fun _ h => h.set 6 _ rfl) 65 rfl ?_
  generalize hu10 : va_up u8 1 (((r 15) - (gQ t r true true 0 1)) + (gQ t r true true 2 1)) = u10
  refine r_aload_n hC 3 dX3_kick_65 rfl 66 rfl ?_
  refine r_get (v := .ref (o 5)) hC kX3 4 rfl q188 (fun _ h => h.get 0 rfl) rfl dX3_kick_66 69 rfl ?_
  refine r_getsN hC hG hzOTH q273 dX3_kick_69 72 rfl ?_
  refine r_iload_n hC 2 dX3_kick_72 rfl 73 rfl ?_
  refine r_ialdT hC htOTH 2 (xix_n 2 (Nat.le_of_ble_eq_true rfl) (Nat.le_of_ble_eq_true rfl)) 2 rfl dX3_kick_73 74 rfl ?_
  refine r_dup2 hC dX3_kick_74 rfl rfl 75 rfl ?_
  refine r_lald hC 2 (xix_n 2 (Nat.le_of_ble_eq_true rfl) (Nat.le_of_ble_eq_true rfl)) (fun _ h => h.get 5 rfl) ((r 19) - (gQ t r true true 1 0)) (by rw [← hu9, ← hu7]; rfl) dX3_kick_75 76 rfl ?_
  refine r_lload hC 1 dX3_kick_76 rfl 78 rfl ?_
  refine r_lsub hC (((r 19) - (gQ t r true true 1 0)) - (gQ t r true true 2 0)) dX3_kick_78  (rfl) 79 rfl ?_
  refine r_last (J := xSt F V0 [(o 0, .inr (2, [.ref (o 1), .ref (o 2), .ref (o 3), .ref (o 4), .ref (o 5), .ref (o 6), .ref (o 7), .ref (o 8), .ref (o 9), .ref (o 10), .int ((r 0).toInt32)])), (o 1, .inl (0, 6, .inl (seF t r))), (o 2, .inl (0, 3, .inl (maF r))), (o 3, .inl (0, 3, .inl (plX r))), (o 4, .inl (0, 3, .inl (plY r))), (o 5, .inl (1, 3, .inr (.inl (va_up u9 2 (((r 19) - (gQ t r true true 1 0)) - (gQ t r true true 2 0)))))), (o 6, .inl (1, 3, .inr (.inl u10)))]) hC 2 (xix_n 2 (Nat.le_of_ble_eq_true rfl) (Nat.le_of_ble_eq_true rfl)) (fun _ h => h.get 5 rfl) dX3_kick_79 (fun _ h => h.set 5 _ rfl) 80 rfl ?_
  generalize hu11 : va_up u9 2 (((r 19) - (gQ t r true true 1 0)) - (gQ t r true true 2 0)) = u11
  refine r_aload_n hC 3 dX3_kick_80 rfl 81 rfl ?_
  refine r_get (v := .ref (o 6)) hC kX3 5 rfl q191 (fun _ h => h.get 0 rfl) rfl dX3_kick_81 84 rfl ?_
  refine r_getsN hC hG hzOTH q273 dX3_kick_84 87 rfl ?_
  refine r_iload_n hC 2 dX3_kick_87 rfl 88 rfl ?_
  refine r_ialdT hC htOTH 2 (xix_n 2 (Nat.le_of_ble_eq_true rfl) (Nat.le_of_ble_eq_true rfl)) 2 rfl dX3_kick_88 89 rfl ?_
  refine r_dup2 hC dX3_kick_89 rfl rfl 90 rfl ?_
  refine r_lald hC 2 (xix_n 2 (Nat.le_of_ble_eq_true rfl) (Nat.le_of_ble_eq_true rfl)) (fun _ h => h.get 6 rfl) ((r 20) - (gQ t r true true 1 1)) (by rw [← hu10, ← hu8]; rfl) dX3_kick_90 91 rfl ?_
  refine r_lload hC 0 dX3_kick_91 rfl 93 rfl ?_
  refine r_lsub hC (((r 20) - (gQ t r true true 1 1)) - (gQ t r true true 2 1)) dX3_kick_93  (rfl) 94 rfl ?_
  refine r_last (J := xSt F V0 [(o 0, .inr (2, [.ref (o 1), .ref (o 2), .ref (o 3), .ref (o 4), .ref (o 5), .ref (o 6), .ref (o 7), .ref (o 8), .ref (o 9), .ref (o 10), .int ((r 0).toInt32)])), (o 1, .inl (0, 6, .inl (seF t r))), (o 2, .inl (0, 3, .inl (maF r))), (o 3, .inl (0, 3, .inl (plX r))), (o 4, .inl (0, 3, .inl (plY r))), (o 5, .inl (1, 3, .inr (.inl u11))), (o 6, .inl (1, 3, .inr (.inl (va_up u10 2 (((r 20) - (gQ t r true true 1 1)) - (gQ t r true true 2 1))))))]) hC 2 (xix_n 2 (Nat.le_of_ble_eq_true rfl) (Nat.le_of_ble_eq_true rfl)) (fun _ h => h.get 6 rfl) dX3_kick_94 (fun _ h => h.set 6 _ rfl) 95 rfl ?_
  generalize hu12 : va_up u10 2 (((r 20) - (gQ t r true true 1 1)) - (gQ t r true true 2 1)) = u12
  refine r_iinc hC 3 3 2 [(3, .int 3), (6, .long (gQ t r true true 2 1)), (4, .long (gQ t r true true 2 0)), (0, .ref (o 0)), (1, .int (-1)), (2, .int 2)] dX3_kick_95 rfl (by decide) (Nat.le_of_ble_eq_true rfl) rfl 98 rfl ?_
  refine r_goto hC 2 dX3_kick_98 (by decide) ?_
  refine r_iload_n hC 0 dX3_kick_2 rfl 3 rfl ?_
  refine r_iconst hC 3 dX3_kick_3 ic_3 4 rfl ?_
  refine r_icge hC 101 dX3_kick_4 (by decide) 7 rfl (fun _ => ?_) (fun h => absurd h (by decide))
  refine r_iconst hC 0 dX3_kick_101 ic_0 102 rfl ?_
  refine r_istore_n hC 3 [(3, .int 0), (6, .long (gQ t r true true 2 1)), (4, .long (gQ t r true true 2 0)), (0, .ref (o 0)), (1, .int (-1)), (2, .int 2)] dX3_kick_102 rfl (Nat.le_of_ble_eq_true rfl) rfl 103 rfl ?_
  refine r_iload_n hC 0 dX3_kick_103 rfl 104 rfl ?_
  refine r_iconst hC 3 dX3_kick_104 ic_3 105 rfl ?_
  refine r_icge hC 138 dX3_kick_105 (by decide) 108 rfl (fun h => absurd h (by decide)) (fun _ => ?_)
  refine r_aload_n hC 3 dX3_kick_108 rfl 109 rfl ?_
  refine r_get (v := .ref (o 5)) hC kX3 4 rfl q188 (fun _ h => h.get 0 rfl) rfl dX3_kick_109 112 rfl ?_
  refine r_iload_n hC 0 dX3_kick_112 rfl 113 rfl ?_
  refine r_lald hC 0 (xix_n 0 (Nat.le_of_ble_eq_true rfl) (Nat.le_of_ble_eq_true rfl)) (fun _ h => h.get 5 rfl) (((r 9) + (gQ t r true true 0 0)) + (gQ t r true true 1 0)) (by rw [← hu11, ← hu9, ← hu7, ← hu5]; rfl) dX3_kick_113 114 rfl ?_
  refine r_ldc2 hC q335 dX3_kick_114 117 rfl ?_
  have hk13 : m_in (((r 9) + (gQ t r true true 0 0)) + (gQ t r true true 1 0)) (-1000000000) 1000000000 = true := by have h9 := in_y9 hin; rw [kkq_9] at h9; exact h9
  refine xCall.r (r := none) (r_cS hC [.long (((r 9) + (gQ t r true true 0 0)) + (gQ t r true true 1 0)), .long 1000000000] mSX3_check q336 (fun V9 h9 => (metX3_checkG _ _ hG (((r 9) + (gQ t r true true 0 0)) + (gQ t r true true 1 0)) 1000000000 hk13) V9 xIn.nil) ⟨rfl, rfl⟩ (Nat.le_of_ble_eq_true rfl) (Nat.le_of_ble_eq_true rfl) rfl (Nat.le_of_ble_eq_true rfl) dX3_kick_117) 0 0 120 rfl rfl rfl ?_
  refine r_aload_n hC 3 dX3_kick_120 rfl 121 rfl ?_
  refine r_get (v := .ref (o 6)) hC kX3 5 rfl q191 (fun _ h => h.get 0 rfl) rfl dX3_kick_121 124 rfl ?_
  refine r_iload_n hC 0 dX3_kick_124 rfl 125 rfl ?_
  refine r_lald hC 0 (xix_n 0 (Nat.le_of_ble_eq_true rfl) (Nat.le_of_ble_eq_true rfl)) (fun _ h => h.get 6 rfl) (((r 10) + (gQ t r true true 0 1)) + (gQ t r true true 1 1)) (by rw [← hu12, ← hu10, ← hu8, ← hu6]; rfl) dX3_kick_125 126 rfl ?_
  refine r_ldc2 hC q335 dX3_kick_126 129 rfl ?_
  have hk14 : m_in (((r 10) + (gQ t r true true 0 1)) + (gQ t r true true 1 1)) (-1000000000) 1000000000 = true := by have h9 := in_y10 hin; rw [kkq_10] at h9; exact h9
  refine xCall.r (r := none) (r_cS hC [.long (((r 10) + (gQ t r true true 0 1)) + (gQ t r true true 1 1)), .long 1000000000] mSX3_check q336 (fun V9 h9 => (metX3_checkG _ _ hG (((r 10) + (gQ t r true true 0 1)) + (gQ t r true true 1 1)) 1000000000 hk14) V9 xIn.nil) ⟨rfl, rfl⟩ (Nat.le_of_ble_eq_true rfl) (Nat.le_of_ble_eq_true rfl) rfl (Nat.le_of_ble_eq_true rfl) dX3_kick_129) 0 0 132 rfl rfl rfl ?_
  refine r_iinc hC 1 3 0 [(3, .int 1), (6, .long (gQ t r true true 2 1)), (4, .long (gQ t r true true 2 0)), (0, .ref (o 0)), (1, .int (-1)), (2, .int 2)] dX3_kick_132 rfl (by decide) (Nat.le_of_ble_eq_true rfl) rfl 135 rfl ?_
  refine r_goto hC 103 dX3_kick_135 (by decide) ?_
  refine r_iload_n hC 0 dX3_kick_103 rfl 104 rfl ?_
  refine r_iconst hC 3 dX3_kick_104 ic_3 105 rfl ?_
  refine r_icge hC 138 dX3_kick_105 (by decide) 108 rfl (fun h => absurd h (by decide)) (fun _ => ?_)
  refine r_aload_n hC 3 dX3_kick_108 rfl 109 rfl ?_
  refine r_get (v := .ref (o 5)) hC kX3 4 rfl q188 (fun _ h => h.get 0 rfl) rfl dX3_kick_109 112 rfl ?_
  refine r_iload_n hC 0 dX3_kick_112 rfl 113 rfl ?_
  refine r_lald hC 1 (xix_n 1 (Nat.le_of_ble_eq_true rfl) (Nat.le_of_ble_eq_true rfl)) (fun _ h => h.get 5 rfl) (((r 14) - (gQ t r true true 0 0)) + (gQ t r true true 2 0)) (by rw [← hu11, ← hu9]; rfl) dX3_kick_113 114 rfl ?_
  refine r_ldc2 hC q335 dX3_kick_114 117 rfl ?_
  have hk15 : m_in (((r 14) - (gQ t r true true 0 0)) + (gQ t r true true 2 0)) (-1000000000) 1000000000 = true := by have h9 := in_y14 hin; rw [kkq_14] at h9; exact h9
  refine xCall.r (r := none) (r_cS hC [.long (((r 14) - (gQ t r true true 0 0)) + (gQ t r true true 2 0)), .long 1000000000] mSX3_check q336 (fun V9 h9 => (metX3_checkG _ _ hG (((r 14) - (gQ t r true true 0 0)) + (gQ t r true true 2 0)) 1000000000 hk15) V9 xIn.nil) ⟨rfl, rfl⟩ (Nat.le_of_ble_eq_true rfl) (Nat.le_of_ble_eq_true rfl) rfl (Nat.le_of_ble_eq_true rfl) dX3_kick_117) 0 0 120 rfl rfl rfl ?_
  refine r_aload_n hC 3 dX3_kick_120 rfl 121 rfl ?_
  refine r_get (v := .ref (o 6)) hC kX3 5 rfl q191 (fun _ h => h.get 0 rfl) rfl dX3_kick_121 124 rfl ?_
  refine r_iload_n hC 0 dX3_kick_124 rfl 125 rfl ?_
  refine r_lald hC 1 (xix_n 1 (Nat.le_of_ble_eq_true rfl) (Nat.le_of_ble_eq_true rfl)) (fun _ h => h.get 6 rfl) (((r 15) - (gQ t r true true 0 1)) + (gQ t r true true 2 1)) (by rw [← hu12, ← hu10]; rfl) dX3_kick_125 126 rfl ?_
  refine r_ldc2 hC q335 dX3_kick_126 129 rfl ?_
  have hk16 : m_in (((r 15) - (gQ t r true true 0 1)) + (gQ t r true true 2 1)) (-1000000000) 1000000000 = true := by have h9 := in_y15 hin; rw [kkq_15] at h9; exact h9
  refine xCall.r (r := none) (r_cS hC [.long (((r 15) - (gQ t r true true 0 1)) + (gQ t r true true 2 1)), .long 1000000000] mSX3_check q336 (fun V9 h9 => (metX3_checkG _ _ hG (((r 15) - (gQ t r true true 0 1)) + (gQ t r true true 2 1)) 1000000000 hk16) V9 xIn.nil) ⟨rfl, rfl⟩ (Nat.le_of_ble_eq_true rfl) (Nat.le_of_ble_eq_true rfl) rfl (Nat.le_of_ble_eq_true rfl) dX3_kick_129) 0 0 132 rfl rfl rfl ?_
  refine r_iinc hC 2 3 0 [(3, .int 2), (6, .long (gQ t r true true 2 1)), (4, .long (gQ t r true true 2 0)), (0, .ref (o 0)), (1, .int (-1)), (2, .int 2)] dX3_kick_132 rfl (by decide) (Nat.le_of_ble_eq_true rfl) rfl 135 rfl ?_
  refine r_goto hC 103 dX3_kick_135 (by decide) ?_
  refine r_iload_n hC 0 dX3_kick_103 rfl 104 rfl ?_
  refine r_iconst hC 3 dX3_kick_104 ic_3 105 rfl ?_
  refine r_icge hC 138 dX3_kick_105 (by decide) 108 rfl (fun h => absurd h (by decide)) (fun _ => ?_)
  refine r_aload_n hC 3 dX3_kick_108 rfl 109 rfl ?_
  refine r_get (v := .ref (o 5)) hC kX3 4 rfl q188 (fun _ h => h.get 0 rfl) rfl dX3_kick_109 112 rfl ?_
  refine r_iload_n hC 0 dX3_kick_112 rfl 113 rfl ?_
  refine r_lald hC 2 (xix_n 2 (Nat.le_of_ble_eq_true rfl) (Nat.le_of_ble_eq_true rfl)) (fun _ h => h.get 5 rfl) (((r 19) - (gQ t r true true 1 0)) - (gQ t r true true 2 0)) (by rw [← hu11]; rfl) dX3_kick_113 114 rfl ?_
  refine r_ldc2 hC q335 dX3_kick_114 117 rfl ?_
  have hk17 : m_in (((r 19) - (gQ t r true true 1 0)) - (gQ t r true true 2 0)) (-1000000000) 1000000000 = true := by have h9 := in_y19 hin; rw [kkq_19] at h9; exact h9
  refine xCall.r (r := none) (r_cS hC [.long (((r 19) - (gQ t r true true 1 0)) - (gQ t r true true 2 0)), .long 1000000000] mSX3_check q336 (fun V9 h9 => (metX3_checkG _ _ hG (((r 19) - (gQ t r true true 1 0)) - (gQ t r true true 2 0)) 1000000000 hk17) V9 xIn.nil) ⟨rfl, rfl⟩ (Nat.le_of_ble_eq_true rfl) (Nat.le_of_ble_eq_true rfl) rfl (Nat.le_of_ble_eq_true rfl) dX3_kick_117) 0 0 120 rfl rfl rfl ?_
  refine r_aload_n hC 3 dX3_kick_120 rfl 121 rfl ?_
  refine r_get (v := .ref (o 6)) hC kX3 5 rfl q191 (fun _ h => h.get 0 rfl) rfl dX3_kick_121 124 rfl ?_
  refine r_iload_n hC 0 dX3_kick_124 rfl 125 rfl ?_
  refine r_lald hC 2 (xix_n 2 (Nat.le_of_ble_eq_true rfl) (Nat.le_of_ble_eq_true rfl)) (fun _ h => h.get 6 rfl) (((r 20) - (gQ t r true true 1 1)) - (gQ t r true true 2 1)) (by rw [← hu12]; rfl) dX3_kick_125 126 rfl ?_
  refine r_ldc2 hC q335 dX3_kick_126 129 rfl ?_
  have hk18 : m_in (((r 20) - (gQ t r true true 1 1)) - (gQ t r true true 2 1)) (-1000000000) 1000000000 = true := by have h9 := in_y20 hin; rw [kkq_20] at h9; exact h9
  refine xCall.r (r := none) (r_cS hC [.long (((r 20) - (gQ t r true true 1 1)) - (gQ t r true true 2 1)), .long 1000000000] mSX3_check q336 (fun V9 h9 => (metX3_checkG _ _ hG (((r 20) - (gQ t r true true 1 1)) - (gQ t r true true 2 1)) 1000000000 hk18) V9 xIn.nil) ⟨rfl, rfl⟩ (Nat.le_of_ble_eq_true rfl) (Nat.le_of_ble_eq_true rfl) rfl (Nat.le_of_ble_eq_true rfl) dX3_kick_129) 0 0 132 rfl rfl rfl ?_
  refine r_iinc hC 3 3 0 [(3, .int 3), (6, .long (gQ t r true true 2 1)), (4, .long (gQ t r true true 2 0)), (0, .ref (o 0)), (1, .int (-1)), (2, .int 2)] dX3_kick_132 rfl (by decide) (Nat.le_of_ble_eq_true rfl) rfl 135 rfl ?_
  refine r_goto hC 103 dX3_kick_135 (by decide) ?_
  refine r_iload_n hC 0 dX3_kick_103 rfl 104 rfl ?_
  refine r_iconst hC 3 dX3_kick_104 ic_3 105 rfl ?_
  refine r_icge hC 138 dX3_kick_105 (by decide) 108 rfl (fun _ => ?_) (fun h => absurd h (by decide))
  subst hu12
  subst hu11
  subst hu10
  subst hu9
  subst hu8
  subst hu7
  subst hu6
  subst hu5
  subst hu4
  subst hu3
  subst hu2
  subst hu1
  refine rn_cellI (J := xSt F V0 [(o 0, .inr (2, [.ref (o 1), .ref (o 2), .ref (o 3), .ref (o 4), .ref (o 5), .ref (o 6), .ref (o 7), .ref (o 8), .ref (o 9), .ref (o 10), .int ((r 0).toInt32)])), (o 1, .inl (0, 6, .inl (seF t r))), (o 2, .inl (0, 3, .inl (maF (kickQ t r true true)))), (o 3, .inl (0, 3, .inl (plX r))), (o 4, .inl (0, 3, .inl (plY r))), (o 5, .inl (1, 3, .inr (.inl (va_up (va_up (va_up (va_up (va_up (va_up (moX r) 0 ((r 9) + (gQ t r true true 0 0))) 1 ((r 14) - (gQ t r true true 0 0))) 0 (((r 9) + (gQ t r true true 0 0)) + (gQ t r true true 1 0))) 2 ((r 19) - (gQ t r true true 1 0))) 1 (((r 14) - (gQ t r true true 0 0)) + (gQ t r true true 2 0))) 2 (((r 19) - (gQ t r true true 1 0)) - (gQ t r true true 2 0)))))), (o 6, .inl (1, 3, .inr (.inl (va_up (va_up (va_up (va_up (va_up (va_up (moY r) 0 ((r 10) + (gQ t r true true 0 1))) 1 ((r 15) - (gQ t r true true 0 1))) 0 (((r 10) + (gQ t r true true 0 1)) + (gQ t r true true 1 1))) 2 ((r 20) - (gQ t r true true 1 1))) 1 (((r 15) - (gQ t r true true 0 1)) + (gQ t r true true 2 1))) 2 (((r 20) - (gQ t r true true 1 1)) - (gQ t r true true 2 1))))))]) (fun _ h => h.get 2 rfl) (fun j9 hj9 => by
      rcases (show j9 = 0 ∨ j9 = 1 ∨ j9 = 2 by omega) with rfl | rfl | rfl
      · exact congrArg Int64.toInt32 (kkq_6).symm
      · exact congrArg Int64.toInt32 (kkq_11).symm
      · exact congrArg Int64.toInt32 (kkq_16).symm) (fun _ h => h.set 2 _ rfl) ?_
  refine rn_cellI (J := xSt F V0 [(o 0, .inr (2, [.ref (o 1), .ref (o 2), .ref (o 3), .ref (o 4), .ref (o 5), .ref (o 6), .ref (o 7), .ref (o 8), .ref (o 9), .ref (o 10), .int ((r 0).toInt32)])), (o 1, .inl (0, 6, .inl (seF t r))), (o 2, .inl (0, 3, .inl (maF (kickQ t r true true)))), (o 3, .inl (0, 3, .inl (plX (kickQ t r true true)))), (o 4, .inl (0, 3, .inl (plY r))), (o 5, .inl (1, 3, .inr (.inl (va_up (va_up (va_up (va_up (va_up (va_up (moX r) 0 ((r 9) + (gQ t r true true 0 0))) 1 ((r 14) - (gQ t r true true 0 0))) 0 (((r 9) + (gQ t r true true 0 0)) + (gQ t r true true 1 0))) 2 ((r 19) - (gQ t r true true 1 0))) 1 (((r 14) - (gQ t r true true 0 0)) + (gQ t r true true 2 0))) 2 (((r 19) - (gQ t r true true 1 0)) - (gQ t r true true 2 0)))))), (o 6, .inl (1, 3, .inr (.inl (va_up (va_up (va_up (va_up (va_up (va_up (moY r) 0 ((r 10) + (gQ t r true true 0 1))) 1 ((r 15) - (gQ t r true true 0 1))) 0 (((r 10) + (gQ t r true true 0 1)) + (gQ t r true true 1 1))) 2 ((r 20) - (gQ t r true true 1 1))) 1 (((r 15) - (gQ t r true true 0 1)) + (gQ t r true true 2 1))) 2 (((r 20) - (gQ t r true true 1 1)) - (gQ t r true true 2 1))))))]) (fun _ h => h.get 3 rfl) (fun j9 hj9 => by
      rcases (show j9 = 0 ∨ j9 = 1 ∨ j9 = 2 by omega) with rfl | rfl | rfl
      · exact congrArg Int64.toInt32 (kkq_7).symm
      · exact congrArg Int64.toInt32 (kkq_12).symm
      · exact congrArg Int64.toInt32 (kkq_17).symm) (fun _ h => h.set 3 _ rfl) ?_
  refine rn_cellI (J := xSt F V0 [(o 0, .inr (2, [.ref (o 1), .ref (o 2), .ref (o 3), .ref (o 4), .ref (o 5), .ref (o 6), .ref (o 7), .ref (o 8), .ref (o 9), .ref (o 10), .int ((r 0).toInt32)])), (o 1, .inl (0, 6, .inl (seF t r))), (o 2, .inl (0, 3, .inl (maF (kickQ t r true true)))), (o 3, .inl (0, 3, .inl (plX (kickQ t r true true)))), (o 4, .inl (0, 3, .inl (plY (kickQ t r true true)))), (o 5, .inl (1, 3, .inr (.inl (va_up (va_up (va_up (va_up (va_up (va_up (moX r) 0 ((r 9) + (gQ t r true true 0 0))) 1 ((r 14) - (gQ t r true true 0 0))) 0 (((r 9) + (gQ t r true true 0 0)) + (gQ t r true true 1 0))) 2 ((r 19) - (gQ t r true true 1 0))) 1 (((r 14) - (gQ t r true true 0 0)) + (gQ t r true true 2 0))) 2 (((r 19) - (gQ t r true true 1 0)) - (gQ t r true true 2 0)))))), (o 6, .inl (1, 3, .inr (.inl (va_up (va_up (va_up (va_up (va_up (va_up (moY r) 0 ((r 10) + (gQ t r true true 0 1))) 1 ((r 15) - (gQ t r true true 0 1))) 0 (((r 10) + (gQ t r true true 0 1)) + (gQ t r true true 1 1))) 2 ((r 20) - (gQ t r true true 1 1))) 1 (((r 15) - (gQ t r true true 0 1)) + (gQ t r true true 2 1))) 2 (((r 20) - (gQ t r true true 1 1)) - (gQ t r true true 2 1))))))]) (fun _ h => h.get 4 rfl) (fun j9 hj9 => by
      rcases (show j9 = 0 ∨ j9 = 1 ∨ j9 = 2 by omega) with rfl | rfl | rfl
      · exact congrArg Int64.toInt32 (kkq_8).symm
      · exact congrArg Int64.toInt32 (kkq_13).symm
      · exact congrArg Int64.toInt32 (kkq_18).symm) (fun _ h => h.set 4 _ rfl) ?_
  refine rn_cellJ (J := xSt F V0 [(o 0, .inr (2, [.ref (o 1), .ref (o 2), .ref (o 3), .ref (o 4), .ref (o 5), .ref (o 6), .ref (o 7), .ref (o 8), .ref (o 9), .ref (o 10), .int ((r 0).toInt32)])), (o 1, .inl (0, 6, .inl (seF t r))), (o 2, .inl (0, 3, .inl (maF (kickQ t r true true)))), (o 3, .inl (0, 3, .inl (plX (kickQ t r true true)))), (o 4, .inl (0, 3, .inl (plY (kickQ t r true true)))), (o 5, .inl (1, 3, .inr (.inl (moX (kickQ t r true true))))), (o 6, .inl (1, 3, .inr (.inl (va_up (va_up (va_up (va_up (va_up (va_up (moY r) 0 ((r 10) + (gQ t r true true 0 1))) 1 ((r 15) - (gQ t r true true 0 1))) 0 (((r 10) + (gQ t r true true 0 1)) + (gQ t r true true 1 1))) 2 ((r 20) - (gQ t r true true 1 1))) 1 (((r 15) - (gQ t r true true 0 1)) + (gQ t r true true 2 1))) 2 (((r 20) - (gQ t r true true 1 1)) - (gQ t r true true 2 1))))))]) (fun _ h => h.get 5 rfl) (fun j9 hj9 => by
      rcases (show j9 = 0 ∨ j9 = 1 ∨ j9 = 2 by omega) with rfl | rfl | rfl
      · exact ((up_ne (by decide)).trans ((up_ne (by decide)).trans ((up_ne (by decide)).trans (up_same _ _ _)))).trans (kkq_9).symm
      · exact ((up_ne (by decide)).trans (up_same _ _ _)).trans (kkq_14).symm
      · exact (up_same _ _ _).trans (kkq_19).symm) (fun _ h => h.set 5 _ rfl) ?_
  refine rn_cellJ (J := xSt F V0 [(o 0, .inr (2, [.ref (o 1), .ref (o 2), .ref (o 3), .ref (o 4), .ref (o 5), .ref (o 6), .ref (o 7), .ref (o 8), .ref (o 9), .ref (o 10), .int ((r 0).toInt32)])), (o 1, .inl (0, 6, .inl (seF t r))), (o 2, .inl (0, 3, .inl (maF (kickQ t r true true)))), (o 3, .inl (0, 3, .inl (plX (kickQ t r true true)))), (o 4, .inl (0, 3, .inl (plY (kickQ t r true true)))), (o 5, .inl (1, 3, .inr (.inl (moX (kickQ t r true true))))), (o 6, .inl (1, 3, .inr (.inl (moY (kickQ t r true true)))))]) (fun _ h => h.get 6 rfl) (fun j9 hj9 => by
      rcases (show j9 = 0 ∨ j9 = 1 ∨ j9 = 2 by omega) with rfl | rfl | rfl
      · exact ((up_ne (by decide)).trans ((up_ne (by decide)).trans ((up_ne (by decide)).trans (up_same _ _ _)))).trans (kkq_10).symm
      · exact ((up_ne (by decide)).trans (up_same _ _ _)).trans (kkq_15).symm
      · exact (up_same _ _ _).trans (kkq_20).symm) (fun _ h => h.set 6 _ rfl) ?_
  exact r_vret hC (Nat.le_of_ble_eq_true rfl) (Nat.le_of_ble_eq_true rfl) (fun V9 h => hQ _ _ ⟨[(o 0, .inr (2, [.ref (o 1), .ref (o 2), .ref (o 3), .ref (o 4), .ref (o 5), .ref (o 6), .ref (o 7), .ref (o 8), .ref (o 9), .ref (o 10), .int (((kickQ t r true true) 0).toInt32)])), (o 1, .inl (0, 6, .inl (seF t (kickQ t r true true)))), (o 2, .inl (0, 3, .inl (maF (kickQ t r true true)))), (o 3, .inl (0, 3, .inl (plX (kickQ t r true true)))), (o 4, .inl (0, 3, .inl (plY (kickQ t r true true)))), (o 5, .inl (1, 3, .inr (.inl (moX (kickQ t r true true))))), (o 6, .inl (1, 3, .inr (.inl (moY (kickQ t r true true)))))], ⟨rfl, in_t (plR_kick hpl) (by rw [kkq_9]; exact hk13) (by rw [kkq_10]; exact hk14) (by rw [kkq_14]; exact hk15) (by rw [kkq_15]; exact hk16) (by rw [kkq_19]; exact hk17) (by rw [kkq_20]; exact hk18), rfl⟩, by rw [← hV0, ← hF]; exact h⟩) dX3_kick_138
