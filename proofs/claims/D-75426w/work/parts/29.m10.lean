/-! ===== the reference: paths, errors ===== -/
set_option maxRecDepth 100000
/-- a path: how many steps, the row behind them, the places laid -/
def pathL (t : Nat → Int64) : Nat → Nat → (Nat → Int64) → (Nat → Int64) → Nat × (Nat → Int64) × (Nat → Int64)
  | 0, _, r, pa => (0, r, pa)
  | f + 1, c, r, pa => match stepQ t r false with
    | none => (0, r, pa)
    | some r1 => ((pathL t f (c + 1) r1 (layP pa r1 (c + 1))).1 + 1, (pathL t f (c + 1) r1 (layP pa r1 (c + 1))).2)
theorem pathL_le {t : Nat → Int64} : ∀ {f c : Nat} {r pa : Nat → Int64}, (pathL t f c r pa).1 ≤ f := by
  intro f
  induction f with
  | zero => intro c r pa; exact Nat.le_refl 0
  | succ f ih =>
    intro c r pa
    rw [pathL]
    split
    · exact Nat.zero_le _
    · exact Nat.succ_le_succ ih
def pathQ (t r pa : Nat → Int64) (N : Nat) : Nat × (Nat → Int64) × (Nat → Int64) := pathL t N 0 r (layP pa r 0)
def m_greater (a b : Int64) : Int64 := if a ≤ b then b else a
def m_gap (dx dy : Int64) : Int64 := m_greater (m_size dx) (m_size dy)
set_option maxHeartbeats 4000000 in
set_option maxRecDepth 100000 in
theorem lpX6_laysPath {C : xC} {F : Nat → Prop} {V0 : xV} {k n : Nat} (hG : xGood (xGG C)) (hC : xCtx C RX6 cX6_laysPath 4 (some .int) { frames := 7, locals := 178, cells := 0, slots := 0 }) (hk0 : k = 0) (hn0 : n = 0) (N : Nat) (hN : N ≤ 300) (b : Nat → Nat) (i : Nat → Int32) (j : Nat → Int64) (a : Nat) (fr : Nat → Int64) (t : Nat → Int64) (ht : tOK t) : ∀ (f c : Nat) (r g h0 pa : Nat → Int64), c + f = N → mOK r → (∀ g' h' : Nat → Int64, rn C (xSt F V0 [(b 0, .inr (5, mF b i j)), (b 7, .inl (1, 5, .inr (.inl t))), (b 2, .inl (1, 111, .inr (.inl ((pathL t f c r pa).2.1)))), (b 23, .inl (1, 6, .inr (.inl g'))), (b 24, .inl (1, 21, .inr (.inl h'))), (b 25, .inl (1, 1806, .inr (.inl ((pathL t f c r pa).2.2)))), (a, .inl (1, 111, .inr (.inl fr)))]) k n 51 [(3, .int (nI (c + (pathL t f c r pa).1)))] []) → rn C (xSt F V0 [(b 0, .inr (5, mF b i j)), (b 7, .inl (1, 5, .inr (.inl t))), (b 2, .inl (1, 111, .inr (.inl r))), (b 23, .inl (1, 6, .inr (.inl g))), (b 24, .inl (1, 21, .inr (.inl h0))), (b 25, .inl (1, 1806, .inr (.inl pa))), (a, .inl (1, 111, .inr (.inl fr)))]) k n 19 [(3, .int (nI c)), (0, .ref (b 0)), (2, .int (nI N))] [] := by
  subst hk0 hn0
  intro f
  induction f with
  | zero =>
    intro c r g h0 pa hc hm kx
    have hc : c = N := by omega
    subst hc
    refine r_iload_n hC 0 dX6_laysPath_19 rfl 20 rfl ?_
    refine r_iload_n hC 2 dX6_laysPath_20 rfl 21 rfl ?_
    refine r_icge hC 51 dX6_laysPath_21 (by decide) 24 rfl (fun _ => ?_) (fun h => absurd (Int32.le_refl _) h)
    refine rn.sub (lv' := [(3, .int (nI c))]) [0] rfl ?_
    exact kx _ _
  | succ f ih =>
    intro c r g h0 pa hc hm kx
    refine r_iload_n hC 0 dX6_laysPath_19 rfl 20 rfl ?_
    refine r_iload_n hC 2 dX6_laysPath_20 rfl 21 rfl ?_
    refine r_icge hC 51 dX6_laysPath_21 (by decide) 24 rfl (fun h => absurd h (nI_ge (by omega) (by omega))) (fun _ => ?_)
    refine r_aload_n hC 1 dX6_laysPath_24 rfl 25 rfl ?_
    refine r_aload_n hC 1 dX6_laysPath_25 rfl 26 rfl ?_
    refine r_get (v := .ref (b 2)) hC kX6 2 rfl q2755 (fun _ h => h.get 0 rfl) rfl dX6_laysPath_26 29 rfl ?_
    refine r_iconst hC 0 dX6_laysPath_29 ic_0 30 rfl ?_
    cases ho : stepQ t r false with
    | none =>
      refine r_invVw hC kX6 (b 0) [.ref (b 2), .int 0] [(b 25, .inl (1, 1806, .inr (.inl pa))), (a, .inl (1, 111, .inr (.inl fr)))] mVX6_steps q3078 0 rfl (metX6_steps0N _ _ hG b _ _ _ (b 2) _ _ _ ht hm ho) [0, 1, 2, 3, 4] [5, 6] rfl rfl rfl rfl (by decide) ⟨rfl, rfl⟩ 0 0 rfl rfl (Nat.le_of_ble_eq_true rfl) (Nat.le_of_ble_eq_true rfl) rfl (Nat.le_of_ble_eq_true rfl) dX6_laysPath_30 33 rfl (fun v3 w4 h5 => ?_) (fun _ _ h => h.elim)
      obtain ⟨g1, h2, rfl, rfl⟩ := h5
      show rn C (xSt F V0 [(b 25, .inl (1, 1806, .inr (.inl pa))), (a, .inl (1, 111, .inr (.inl fr))), (b 0, .inr (5, mF b i j)), (b 7, .inl (1, 5, .inr (.inl t))), (b 2, .inl (1, 111, .inr (.inl r))), (b 23, .inl (1, 6, .inr (.inl g1))), (b 24, .inl (1, 21, .inr (.inl h2)))]) 0 0 33 [(3, .int (nI c)), (0, .ref (b 0)), (2, .int (nI N))] [.int 0]
      refine r_ifeq hC 51 dX6_laysPath_33 (by decide) 36 rfl (fun _ => ?_) (fun h => absurd h (by decide))
      refine rn.sub (lv' := [(3, .int (nI c))]) [0] rfl ?_
      refine rn.mono (J := xSt F V0 [(b 0, .inr (5, mF b i j)), (b 7, .inl (1, 5, .inr (.inl t))), (b 2, .inl (1, 111, .inr (.inl r))), (b 23, .inl (1, 6, .inr (.inl g1))), (b 24, .inl (1, 21, .inr (.inl h2))), (b 25, .inl (1, 1806, .inr (.inl pa))), (a, .inl (1, 111, .inr (.inl fr)))]) (fun _ h => h.sub [2, 3, 4, 5, 6, 0, 1] rfl rfl) ?_
      have hrl : pathL t (f + 1) c r pa = (0, r, pa) := by rw [pathL, ho]
      rw [hrl] at kx
      exact kx _ _
    | some r1 =>
      refine r_invVw hC kX6 (b 0) [.ref (b 2), .int 0] [(b 25, .inl (1, 1806, .inr (.inl pa))), (a, .inl (1, 111, .inr (.inl fr)))] mVX6_steps q3078 0 rfl (metX6_steps0S _ _ hG b _ _ _ (b 2) _ _ _ ht hm r1 ho) [0, 1, 2, 3, 4] [5, 6] rfl rfl rfl rfl (by decide) ⟨rfl, rfl⟩ 0 0 rfl rfl (Nat.le_of_ble_eq_true rfl) (Nat.le_of_ble_eq_true rfl) rfl (Nat.le_of_ble_eq_true rfl) dX6_laysPath_30 33 rfl (fun v8 w9 h10 => ?_) (fun _ _ h => h.elim)
      obtain ⟨g6, h7, rfl, rfl⟩ := h10
      show rn C (xSt F V0 [(b 25, .inl (1, 1806, .inr (.inl pa))), (a, .inl (1, 111, .inr (.inl fr))), (b 0, .inr (5, mF b i j)), (b 7, .inl (1, 5, .inr (.inl t))), (b 2, .inl (1, 111, .inr (.inl r1))), (b 23, .inl (1, 6, .inr (.inl g6))), (b 24, .inl (1, 21, .inr (.inl h7)))]) 0 0 33 [(3, .int (nI c)), (0, .ref (b 0)), (2, .int (nI N))] [.int 1]
      refine r_ifeq hC 51 dX6_laysPath_33 (by decide) 36 rfl (fun h => absurd h (by decide)) (fun _ => ?_)
      refine r_iinc hC (nI (c + 1)) 3 0 [(3, .int (nI (c + 1))), (0, .ref (b 0)), (2, .int (nI N))] dX6_laysPath_36 rfl (nI_add c 1) (Nat.le_of_ble_eq_true rfl) rfl 39 rfl ?_
      refine r_aload_n hC 1 dX6_laysPath_39 rfl 40 rfl ?_
      refine r_aload_n hC 1 dX6_laysPath_40 rfl 41 rfl ?_
      refine r_get (v := .ref (b 2)) hC kX6 2 rfl q2755 (fun _ h => h.get 2 rfl) rfl dX6_laysPath_41 44 rfl ?_
      refine r_iload_n hC 0 dX6_laysPath_44 rfl 45 rfl ?_
      refine r_invVw hC kX6 (b 0) [.ref (b 2), .int (nI (c + 1))] [(a, .inl (1, 111, .inr (.inl fr))), (b 7, .inl (1, 5, .inr (.inl t))), (b 23, .inl (1, 6, .inr (.inl g6))), (b 24, .inl (1, 21, .inr (.inl h7)))] mVX6_laysPlaces q3186 2 rfl (metX6_laysPlaces _ _ hG b _ _ (b 2) _ _ (c + 1) (by omega)) [2, 4, 0] [1, 3, 5, 6] rfl rfl rfl rfl (by decide) ⟨rfl, rfl⟩ 0 0 rfl rfl (Nat.le_of_ble_eq_true rfl) (Nat.le_of_ble_eq_true rfl) rfl (Nat.le_of_ble_eq_true rfl) dX6_laysPath_45 48 rfl (fun v11 w12 h13 => ?_) (fun _ _ h => h.elim)
      obtain ⟨rfl, rfl⟩ := h13
      show rn C (xSt F V0 [(a, .inl (1, 111, .inr (.inl fr))), (b 7, .inl (1, 5, .inr (.inl t))), (b 23, .inl (1, 6, .inr (.inl g6))), (b 24, .inl (1, 21, .inr (.inl h7))), (b 0, .inr (5, mF b i j)), (b 2, .inl (1, 111, .inr (.inl r1))), (b 25, .inl (1, 1806, .inr (.inl (layP pa r1 (c + 1)))))]) 0 0 48 [(3, .int (nI (c + 1))), (0, .ref (b 0)), (2, .int (nI N))] []
      refine r_goto hC 19 dX6_laysPath_48 (by decide) ?_
      refine rn.sub (lv' := [(3, .int (nI (c + 1))), (0, .ref (b 0)), (2, .int (nI N))]) [0, 1, 2] rfl ?_
      refine rn.mono (J := xSt F V0 [(b 0, .inr (5, mF b i j)), (b 7, .inl (1, 5, .inr (.inl t))), (b 2, .inl (1, 111, .inr (.inl r1))), (b 23, .inl (1, 6, .inr (.inl g6))), (b 24, .inl (1, 21, .inr (.inl h7))), (b 25, .inl (1, 1806, .inr (.inl (layP pa r1 (c + 1))))), (a, .inl (1, 111, .inr (.inl fr)))]) (fun _ h => h.sub [4, 1, 5, 2, 3, 6, 0] rfl rfl) ?_
      have hrl : pathL t (f + 1) c r pa = ((pathL t f (c + 1) r1 (layP pa r1 (c + 1))).1 + 1, (pathL t f (c + 1) r1 (layP pa r1 (c + 1))).2) := by rw [pathL, ho]
      rw [hrl] at kx
      refine ih (c + 1) r1 _ _ _ (by omega) (stepQ_mOK hm ho) (fun g9 h9 => ?_)
      have := kx g9 h9
      rw [show c + ((pathL t f (c + 1) r1 (layP pa r1 (c + 1))).1 + 1) = c + 1 + (pathL t f (c + 1) r1 (layP pa r1 (c + 1))).1 by omega] at this
      exact this
set_option maxHeartbeats 4000000 in
set_option maxRecDepth 100000 in
theorem metX6_laysPath (l : Launch) (G : xG) (hG : xGood G) (b : Nat → Nat) (i : Nat → Int32) (j : Nat → Int64) (a : Nat) (t fr th g h0 pa : Nat → Int64) (N : Nat) (ht : tOK t) (hm : mOK fr) (hN : N ≤ 300) : xWm l G yX6_laysPath (Cond.code yX6_laysPath cX6_laysPath 4 (some .int)) { frames := 7, locals := 178, cells := 0, slots := 0 } [.ref (b 0), .ref a, .int (nI N)] [(b 0, .inr (5, mF b i j)), (b 7, .inl (1, 5, .inr (.inl t))), (b 2, .inl (1, 111, .inr (.inl th))), (b 23, .inl (1, 6, .inr (.inl g))), (b 24, .inl (1, 21, .inr (.inl h0))), (b 25, .inl (1, 1806, .inr (.inl pa))), (a, .inl (1, 111, .inr (.inl fr)))] (fun v w' => ∃ th' g' h' : Nat → Int64, v = some (.int (nI (pathQ t fr pa N).1)) ∧ w' = [(b 0, .inr (5, mF b i j)), (b 7, .inl (1, 5, .inr (.inl t))), (b 2, .inl (1, 111, .inr (.inl th'))), (b 23, .inl (1, 6, .inr (.inl g'))), (b 24, .inl (1, 21, .inr (.inl h'))), (b 25, .inl (1, 1806, .inr (.inl ((pathQ t fr pa N).2.2)))), (a, .inl (1, 111, .inr (.inl fr)))]) (fun _ _ => False) := by
  intro V hV
  refine xMet_of RX6 hG rfl (by decide) (Nat.le_of_ble_eq_true rfl) fun C hC hQ hX hl hg _ => ?_
  subst hl hg
  obtain ⟨V0, hV0⟩ : ∃ V0, V0 = V := ⟨_, rfl⟩
  obtain ⟨F, hF⟩ : ∃ F, F = xF [(b 0, .inr (5, mF b i j)), (b 7, .inl (1, 5, .inr (.inl t))), (b 2, .inl (1, 111, .inr (.inl th))), (b 23, .inl (1, 6, .inr (.inl g))), (b 24, .inl (1, 21, .inr (.inl h0))), (b 25, .inl (1, 1806, .inr (.inl pa))), (a, .inl (1, 111, .inr (.inl fr)))] := ⟨_, rfl⟩
  refine rn.mono (J := xSt F V0 [(b 0, .inr (5, mF b i j)), (b 7, .inl (1, 5, .inr (.inl t))), (b 2, .inl (1, 111, .inr (.inl th))), (b 23, .inl (1, 6, .inr (.inl g))), (b 24, .inl (1, 21, .inr (.inl h0))), (b 25, .inl (1, 1806, .inr (.inl pa))), (a, .inl (1, 111, .inr (.inl fr)))]) (fun V9 h => by rw [h, hV0, hF]; exact hV.st) ?_
  show rn C (xSt F V0 [(b 0, .inr (5, mF b i j)), (b 7, .inl (1, 5, .inr (.inl t))), (b 2, .inl (1, 111, .inr (.inl th))), (b 23, .inl (1, 6, .inr (.inl g))), (b 24, .inl (1, 21, .inr (.inl h0))), (b 25, .inl (1, 1806, .inr (.inl pa))), (a, .inl (1, 111, .inr (.inl fr)))]) 0 0 0 [(0, .ref (b 0)), (1, .ref a), (2, .int (nI N))] []
  refine r_aload_n hC 1 dX6_laysPath_0 rfl 1 rfl ?_
  refine r_aload_n hC 0 dX6_laysPath_1 rfl 2 rfl ?_
  refine r_get (v := .ref (b 2)) hC kX6 2 rfl q2755 (fun _ h => h.get 0 rfl) rfl dX6_laysPath_2 5 rfl ?_
  refine r_invSw hC [.ref a, .ref (b 2)] [(b 0, .inr (5, mF b i j)), (b 7, .inl (1, 5, .inr (.inl t))), (b 23, .inl (1, 6, .inr (.inl g))), (b 24, .inl (1, 21, .inr (.inl h0))), (b 25, .inl (1, 1806, .inr (.inl pa)))] mSX6_copy q2718 (metX6_copy _ _ hG a (b 2) _ _) [6, 2] [0, 1, 3, 4, 5] rfl rfl rfl rfl (by decide) ⟨rfl, rfl⟩ 0 0 rfl rfl (Nat.le_of_ble_eq_true rfl) (Nat.le_of_ble_eq_true rfl) rfl (Nat.le_of_ble_eq_true rfl) dX6_laysPath_5 8 rfl (fun v1 w2 h3 => ?_) (fun _ _ h => h.elim)
  obtain ⟨rfl, rfl⟩ := h3
  show rn C (xSt F V0 [(b 0, .inr (5, mF b i j)), (b 7, .inl (1, 5, .inr (.inl t))), (b 23, .inl (1, 6, .inr (.inl g))), (b 24, .inl (1, 21, .inr (.inl h0))), (b 25, .inl (1, 1806, .inr (.inl pa))), (a, .inl (1, 111, .inr (.inl fr))), (b 2, .inl (1, 111, .inr (.inl fr)))]) 0 0 8 [(0, .ref (b 0)), (1, .ref a), (2, .int (nI N))] []
  refine r_aload_n hC 0 dX6_laysPath_8 rfl 9 rfl ?_
  refine r_aload_n hC 0 dX6_laysPath_9 rfl 10 rfl ?_
  refine r_get (v := .ref (b 2)) hC kX6 2 rfl q2755 (fun _ h => h.get 0 rfl) rfl dX6_laysPath_10 13 rfl ?_
  refine r_iconst hC 0 dX6_laysPath_13 ic_0 14 rfl ?_
  refine r_invVw hC kX6 (b 0) [.ref (b 2), .int 0] [(b 7, .inl (1, 5, .inr (.inl t))), (b 23, .inl (1, 6, .inr (.inl g))), (b 24, .inl (1, 21, .inr (.inl h0))), (a, .inl (1, 111, .inr (.inl fr)))] mVX6_laysPlaces q3186 0 rfl (metX6_laysPlaces _ _ hG b _ _ (b 2) _ _ 0 (by omega)) [0, 6, 4] [1, 2, 3, 5] rfl rfl rfl rfl (by decide) ⟨rfl, rfl⟩ 0 0 rfl rfl (Nat.le_of_ble_eq_true rfl) (Nat.le_of_ble_eq_true rfl) rfl (Nat.le_of_ble_eq_true rfl) dX6_laysPath_14 17 rfl (fun v4 w5 h6 => ?_) (fun _ _ h => h.elim)
  obtain ⟨rfl, rfl⟩ := h6
  show rn C (xSt F V0 [(b 7, .inl (1, 5, .inr (.inl t))), (b 23, .inl (1, 6, .inr (.inl g))), (b 24, .inl (1, 21, .inr (.inl h0))), (a, .inl (1, 111, .inr (.inl fr))), (b 0, .inr (5, mF b i j)), (b 2, .inl (1, 111, .inr (.inl fr))), (b 25, .inl (1, 1806, .inr (.inl (layP pa fr 0))))]) 0 0 17 [(0, .ref (b 0)), (1, .ref a), (2, .int (nI N))] []
  refine r_iconst hC 0 dX6_laysPath_17 ic_0 18 rfl ?_
  refine r_istore_n hC 3 [(3, .int 0), (0, .ref (b 0)), (1, .ref a), (2, .int (nI N))] dX6_laysPath_18 rfl (Nat.le_of_ble_eq_true rfl) rfl 19 rfl ?_
  refine rn.mono (J := xSt F V0 [(b 0, .inr (5, mF b i j)), (b 7, .inl (1, 5, .inr (.inl t))), (b 2, .inl (1, 111, .inr (.inl fr))), (b 23, .inl (1, 6, .inr (.inl g))), (b 24, .inl (1, 21, .inr (.inl h0))), (b 25, .inl (1, 1806, .inr (.inl (layP pa fr 0)))), (a, .inl (1, 111, .inr (.inl fr)))]) (fun _ h => h.sub [4, 0, 5, 1, 2, 6, 3] rfl rfl) ?_
  refine rn.sub (lv' := [(3, .int 0), (0, .ref (b 0)), (2, .int (nI N))]) [0, 1, 3] rfl ?_
  refine lpX6_laysPath hG hC rfl rfl N hN b i j a fr t ht N 0 fr g h0 (layP pa fr 0) (by omega) hm (fun g9 h9 => ?_)
  rw [Nat.zero_add]
  show rn C (xSt F V0 [(b 0, .inr (5, mF b i j)), (b 7, .inl (1, 5, .inr (.inl t))), (b 2, .inl (1, 111, .inr (.inl ((pathQ t fr pa N).2.1)))), (b 23, .inl (1, 6, .inr (.inl g9))), (b 24, .inl (1, 21, .inr (.inl h9))), (b 25, .inl (1, 1806, .inr (.inl ((pathQ t fr pa N).2.2)))), (a, .inl (1, 111, .inr (.inl fr)))]) 0 0 51 [(3, .int (nI ((pathQ t fr pa N).1)))] []
  refine r_iload_n hC 0 dX6_laysPath_51 rfl 52 rfl ?_
  exact r_iret hC (Nat.le_of_ble_eq_true rfl) (Nat.le_of_ble_eq_true rfl) (fun V9 h => hQ _ _ ⟨[(b 0, .inr (5, mF b i j)), (b 7, .inl (1, 5, .inr (.inl t))), (b 2, .inl (1, 111, .inr (.inl ((pathQ t fr pa N).2.1)))), (b 23, .inl (1, 6, .inr (.inl g9))), (b 24, .inl (1, 21, .inr (.inl h9))), (b 25, .inl (1, 1806, .inr (.inl ((pathQ t fr pa N).2.2)))), (a, .inl (1, 111, .inr (.inl fr)))], ⟨(pathQ t fr pa N).2.1, g9, h9, rfl, rfl⟩, by rw [← hV0, ← hF]; exact h⟩) dX6_laysPath_52
set_option maxHeartbeats 4000000 in
set_option maxRecDepth 100000 in
theorem metX6_px (l : Launch) (G : xG) (hG : xGood G) (b : Nat → Nat) (i : Nat → Int32) (j : Nat → Int64) (pa : Nat → Int64) (c q : Nat) (hc : c ≤ 300) (hq : q < 3) : xRm l G yX6_px (Cond.code yX6_px cX6_px 3 (some .long)) { frames := 0, locals := 0, cells := 0, slots := 0 } [.ref (b 0), .int (nI c), .int (nI q)] [(b 0, .inr (5, mF b i j)), (b 25, .inl (1, 1806, .inr (.inl pa)))] (some (.long (pa (6 * c + 2 * q)))) := by
  intro V hV
  refine xMet_of RX6 hG rfl (by decide) (Nat.le_of_ble_eq_true rfl) fun C hC hQ hX hl hg _ => ?_
  subst hl hg
  refine rn.mono (J := xRo [(b 0, .inr (5, mF b i j)), (b 25, .inl (1, 1806, .inr (.inl pa)))] V) (fun V9 h => ⟨h, hV⟩) ?_
  show rn C (xRo [(b 0, .inr (5, mF b i j)), (b 25, .inl (1, 1806, .inr (.inl pa)))] V) 0 0 0 [(0, .ref (b 0)), (1, .int (nI c)), (2, .int (nI q))] []
  refine r_aload_n hC 0 dX6_px_0 rfl 1 rfl ?_
  refine r_get (v := .ref (b 25)) hC kX6 25 rfl q2778 (fun _ h => h.get 0 rfl) rfl dX6_px_1 4 rfl ?_
  refine r_bipush hC 6 dX6_px_4 bp_6 6 rfl ?_
  refine r_iload_n hC 1 dX6_px_6 rfl 7 rfl ?_
  refine r_imul hC (nI (6 * c)) dX6_px_7  (pk_mul 6 c) 8 rfl ?_
  refine r_iconst hC 2 dX6_px_8 ic_2 9 rfl ?_
  refine r_iload_n hC 2 dX6_px_9 rfl 10 rfl ?_
  refine r_imul hC (nI (2 * q)) dX6_px_10  (pk_mul 2 q) 11 rfl ?_
  refine r_iadd hC (nI (6 * c + 2 * q)) dX6_px_11  (nI_add (6 * c) (2 * q)) 12 rfl ?_
  refine r_lald hC (6 * c + 2 * q) (xix_n (6 * c + 2 * q) (by omega) (Nat.le_of_ble_eq_true rfl)) (fun _ h => h.get 1 rfl) (pa (6 * c + 2 * q)) (rfl) dX6_px_12 13 rfl ?_
  exact r_lret hC (Nat.le_of_ble_eq_true rfl) (Nat.le_of_ble_eq_true rfl) (fun V9 h => hQ _ _ ⟨rfl, h.1⟩) dX6_px_13
set_option maxHeartbeats 4000000 in
set_option maxRecDepth 100000 in
theorem metX6_py (l : Launch) (G : xG) (hG : xGood G) (b : Nat → Nat) (i : Nat → Int32) (j : Nat → Int64) (pa : Nat → Int64) (c q : Nat) (hc : c ≤ 300) (hq : q < 3) : xRm l G yX6_py (Cond.code yX6_py cX6_py 3 (some .long)) { frames := 0, locals := 0, cells := 0, slots := 0 } [.ref (b 0), .int (nI c), .int (nI q)] [(b 0, .inr (5, mF b i j)), (b 25, .inl (1, 1806, .inr (.inl pa)))] (some (.long (pa (6 * c + 2 * q + 1)))) := by
  intro V hV
  refine xMet_of RX6 hG rfl (by decide) (Nat.le_of_ble_eq_true rfl) fun C hC hQ hX hl hg _ => ?_
  subst hl hg
  refine rn.mono (J := xRo [(b 0, .inr (5, mF b i j)), (b 25, .inl (1, 1806, .inr (.inl pa)))] V) (fun V9 h => ⟨h, hV⟩) ?_
  show rn C (xRo [(b 0, .inr (5, mF b i j)), (b 25, .inl (1, 1806, .inr (.inl pa)))] V) 0 0 0 [(0, .ref (b 0)), (1, .int (nI c)), (2, .int (nI q))] []
  refine r_aload_n hC 0 dX6_py_0 rfl 1 rfl ?_
  refine r_get (v := .ref (b 25)) hC kX6 25 rfl q2778 (fun _ h => h.get 0 rfl) rfl dX6_py_1 4 rfl ?_
  refine r_bipush hC 6 dX6_py_4 bp_6 6 rfl ?_
  refine r_iload_n hC 1 dX6_py_6 rfl 7 rfl ?_
  refine r_imul hC (nI (6 * c)) dX6_py_7  (pk_mul 6 c) 8 rfl ?_
  refine r_iconst hC 2 dX6_py_8 ic_2 9 rfl ?_
  refine r_iload_n hC 2 dX6_py_9 rfl 10 rfl ?_
  refine r_imul hC (nI (2 * q)) dX6_py_10  (pk_mul 2 q) 11 rfl ?_
  refine r_iadd hC (nI (6 * c + 2 * q)) dX6_py_11  (nI_add (6 * c) (2 * q)) 12 rfl ?_
  refine r_iconst hC 1 dX6_py_12 ic_1 13 rfl ?_
  refine r_iadd hC (nI (6 * c + 2 * q + 1)) dX6_py_13  (nI_add (6 * c + 2 * q) 1) 14 rfl ?_
  refine r_lald hC (6 * c + 2 * q + 1) (xix_n (6 * c + 2 * q + 1) (by omega) (Nat.le_of_ble_eq_true rfl)) (fun _ h => h.get 1 rfl) (pa (6 * c + 2 * q + 1)) (rfl) dX6_py_14 15 rfl ?_
  exact r_lret hC (Nat.le_of_ble_eq_true rfl) (Nat.le_of_ble_eq_true rfl) (fun V9 h => hQ _ _ ⟨rfl, h.1⟩) dX6_py_15
set_option maxHeartbeats 4000000 in
set_option maxRecDepth 100000 in
theorem metX6_greater (l : Launch) (G : xG) (hG : xGood G) (x y : Int64) : xRm l G yX6_greater (Cond.code yX6_greater cX6_greater 4 (some .long)) { frames := 0, locals := 0, cells := 0, slots := 0 } [.long x, .long y] [] (some (.long (m_greater x y))) := by
  intro V hV
  refine xMet_of RX6 hG rfl (by decide) (Nat.le_of_ble_eq_true rfl) fun C hC hQ hX hl hg _ => ?_
  subst hl hg
  refine rn.mono (J := xRo [] V) (fun V9 h => ⟨h, hV⟩) ?_
  show rn C (xRo [] V) 0 0 0 [(0, .long x), (2, .long y)] []
  refine r_lload_n hC 0 dX6_greater_0 rfl 1 rfl ?_
  refine r_lload_n hC 1 dX6_greater_1 rfl 2 rfl ?_
  refine r_lcle hC 10 dX6_greater_2 dX6_greater_3 (by decide) 6 rfl (fun c1 => ?_) (fun c1 => ?_)
  · skip
    refine r_lload_n hC 1 dX6_greater_10 rfl 11 rfl ?_
    exact r_lret hC (Nat.le_of_ble_eq_true rfl) (Nat.le_of_ble_eq_true rfl) (fun V9 h => hQ _ _ ⟨by rw [m_greater, if_pos c1], h.1⟩) dX6_greater_11
  · skip
    refine r_lload_n hC 0 dX6_greater_6 rfl 7 rfl ?_
    refine r_goto hC 11 dX6_greater_7 (by decide) ?_
    exact r_lret hC (Nat.le_of_ble_eq_true rfl) (Nat.le_of_ble_eq_true rfl) (fun V9 h => hQ _ _ ⟨by rw [m_greater, if_neg c1], h.1⟩) dX6_greater_11
set_option maxHeartbeats 4000000 in
set_option maxRecDepth 100000 in
theorem metX6_gap (l : Launch) (G : xG) (hG : xGood G) (x y : Int64) : xRm l G yX6_gap (Cond.code yX6_gap cX6_gap 4 (some .long)) { frames := 1, locals := 23, cells := 0, slots := 0 } [.long x, .long y] [] (some (.long (m_gap x y))) := by
  intro V hV
  refine xMet_of RX6 hG rfl (by decide) (Nat.le_of_ble_eq_true rfl) fun C hC hQ hX hl hg _ => ?_
  subst hl hg
  refine rn.mono (J := xRo [] V) (fun V9 h => ⟨h, hV⟩) ?_
  show rn C (xRo [] V) 0 0 0 [(0, .long x), (2, .long y)] []
  refine r_lload_n hC 0 dX6_gap_0 rfl 1 rfl ?_
  refine r_invSr hC [.long x] (.long (m_size x)) mSX6_size q3209 (metX6_size _ _ hG x) (fun _ _ => xIn.nil) ⟨rfl, rfl⟩ 0 0 rfl rfl (Nat.le_of_ble_eq_true rfl) (Nat.le_of_ble_eq_true rfl) rfl (Nat.le_of_ble_eq_true rfl) dX6_gap_1 4 rfl ?_
  refine r_lload_n hC 1 dX6_gap_4 rfl 5 rfl ?_
  refine r_invSr hC [.long y] (.long (m_size y)) mSX6_size q3209 (metX6_size _ _ hG y) (fun _ _ => xIn.nil) ⟨rfl, rfl⟩ 0 0 rfl rfl (Nat.le_of_ble_eq_true rfl) (Nat.le_of_ble_eq_true rfl) rfl (Nat.le_of_ble_eq_true rfl) dX6_gap_5 8 rfl ?_
  refine r_invSr hC [.long (m_size x), .long (m_size y)] (.long (m_greater (m_size x) (m_size y))) mSX6_greater q3212 (metX6_greater _ _ hG (m_size x) (m_size y)) (fun _ _ => xIn.nil) ⟨rfl, rfl⟩ 0 0 rfl rfl (Nat.le_of_ble_eq_true rfl) (Nat.le_of_ble_eq_true rfl) rfl (Nat.le_of_ble_eq_true rfl) dX6_gap_8 11 rfl ?_
  exact r_lret hC (Nat.le_of_ble_eq_true rfl) (Nat.le_of_ble_eq_true rfl) (fun V9 h => hQ _ _ ⟨rfl, h.1⟩) dX6_gap_11
def pxQ (pa : Nat → Int64) (c q : Nat) : Int64 := pa (6 * c + 2 * q)
def pyQ (pa : Nat → Int64) (c q : Nat) : Int64 := pa (6 * c + 2 * q + 1)
/-- rounds k, k + 1, .. of an error that grows by one round's gap -/
def errL (one : Nat → Int64 → Int64) : Nat → Nat → Int64 → Int64
  | 0, _, e => e
  | f + 1, c, e => errL one f (c + 1) (one c e)
def chase1 (pa : Nat → Int64) (N c : Nat) (e : Int64) : Int64 :=
  m_greater (m_greater e (m_gap (pa (6 * c + 2 * 1) - pa (6 * ((c + 1 * (N / 3)) % N) + 2 * 0)) (pa (6 * c + 2 * 1 + 1) - pa (6 * ((c + 1 * (N / 3)) % N) + 2 * 0 + 1))))
    (m_gap (pa (6 * c + 2 * 2) - pa (6 * ((c + 2 * (N / 3)) % N) + 2 * 0)) (pa (6 * c + 2 * 2 + 1) - pa (6 * ((c + 2 * (N / 3)) % N) + 2 * 0 + 1)))
def centre1 (pa : Nat → Int64) (N c : Nat) (e : Int64) : Int64 :=
  m_greater (m_greater (m_greater e (m_gap (pa (6 * ((c + N / 2) % N) + 2 * 0) + pa (6 * c + 2 * 0)) (pa (6 * ((c + N / 2) % N) + 2 * 0 + 1) + pa (6 * c + 2 * 0 + 1))))
    (m_gap (pa (6 * ((c + N / 2) % N) + 2 * 1) + pa (6 * c + 2 * 1)) (pa (6 * ((c + N / 2) % N) + 2 * 1 + 1) + pa (6 * c + 2 * 1 + 1))))
    (m_gap (pa (6 * ((c + N / 2) % N) + 2 * 2) + pa (6 * c + 2 * 2)) (pa (6 * ((c + N / 2) % N) + 2 * 2 + 1) + pa (6 * c + 2 * 2 + 1)))
def mirror1 (pa : Nat → Int64) (N c : Nat) (e : Int64) : Int64 :=
  m_greater (m_greater (m_greater e (m_gap (pa (6 * ((N - c) % N) + 2 * 0) - pa (6 * c + 2 * 0)) (pa (6 * ((N - c) % N) + 2 * 0 + 1) + pa (6 * c + 2 * 0 + 1))))
    (m_gap (pa (6 * ((N - c) % N) + 2 * 1) - pa (6 * c + 2 * 1)) (pa (6 * ((N - c) % N) + 2 * 1 + 1) + pa (6 * c + 2 * 1 + 1))))
    (m_gap (pa (6 * ((N - c) % N) + 2 * 2) - pa (6 * c + 2 * 2)) (pa (6 * ((N - c) % N) + 2 * 2 + 1) + pa (6 * c + 2 * 2 + 1)))
def chaseQ (pa : Nat → Int64) (N : Nat) : Int64 := errL (chase1 pa N) N 0 0
def centreQ (pa : Nat → Int64) (N : Nat) : Int64 := errL (centre1 pa N) N 0 0
def mirrorQ (pa : Nat → Int64) (N : Nat) : Int64 := errL (mirror1 pa N) N 0 0
def returnQ (pa : Nat → Int64) (N : Nat) : Int64 :=
  m_greater (m_greater (m_greater 0 (m_gap (pa (6 * N + 2 * 0) - pa (6 * 0 + 2 * 0)) (pa (6 * N + 2 * 0 + 1) - pa (6 * 0 + 2 * 0 + 1))))
    (m_gap (pa (6 * N + 2 * 1) - pa (6 * 0 + 2 * 1)) (pa (6 * N + 2 * 1 + 1) - pa (6 * 0 + 2 * 1 + 1))))
    (m_gap (pa (6 * N + 2 * 2) - pa (6 * 0 + 2 * 2)) (pa (6 * N + 2 * 2 + 1) - pa (6 * 0 + 2 * 2 + 1)))
set_option maxHeartbeats 4000000 in
set_option maxRecDepth 100000 in
theorem metX6_returnError (l : Launch) (G : xG) (hG : xGood G) (b : Nat → Nat) (i : Nat → Int32) (j : Nat → Int64) (pa : Nat → Int64) (N : Nat) (hN : N ≤ 300) (hN0 : 0 < N) : xRm l G yX6_returnError (Cond.code yX6_returnError cX6_returnError 5 (some .long)) { frames := 2, locals := 46, cells := 0, slots := 0 } [.ref (b 0), .int (nI N)] [(b 0, .inr (5, mF b i j)), (b 25, .inl (1, 1806, .inr (.inl pa)))] (some (.long (returnQ pa N))) := by
  intro V hV
  refine xMet_of RX6 hG rfl (by decide) (Nat.le_of_ble_eq_true rfl) fun C hC hQ hX hl hg _ => ?_
  subst hl hg
  refine rn.mono (J := xRo [(b 0, .inr (5, mF b i j)), (b 25, .inl (1, 1806, .inr (.inl pa)))] V) (fun V9 h => ⟨h, hV⟩) ?_
  show rn C (xRo [(b 0, .inr (5, mF b i j)), (b 25, .inl (1, 1806, .inr (.inl pa)))] V) 0 0 0 [(0, .ref (b 0)), (1, .int (nI N))] []
  refine r_lconst hC 0 dX6_returnError_0 lc_0 1 rfl ?_
  refine r_lstore_n hC 2 [(2, .long 0), (0, .ref (b 0)), (1, .int (nI N))] dX6_returnError_1 rfl (Nat.le_of_ble_eq_true rfl) rfl 2 rfl ?_
  refine r_iconst hC 0 dX6_returnError_2 ic_0 3 rfl ?_
  refine r_istore hC 4 [(4, .int 0), (2, .long 0), (0, .ref (b 0)), (1, .int (nI N))] dX6_returnError_3 (Nat.le_of_ble_eq_true rfl) rfl 5 rfl ?_
  refine r_iload hC 0 dX6_returnError_5 rfl 7 rfl ?_
  refine r_iconst hC 3 dX6_returnError_7 ic_3 8 rfl ?_
  refine r_icge hC 55 dX6_returnError_8 (by decide) 11 rfl (fun h => absurd h (by decide)) (fun _ => ?_)
  refine r_lload_n hC 1 dX6_returnError_11 rfl 12 rfl ?_
  refine r_aload_n hC 2 dX6_returnError_12 rfl 13 rfl ?_
  refine r_iload_n hC 3 dX6_returnError_13 rfl 14 rfl ?_
  refine r_iload hC 0 dX6_returnError_14 rfl 16 rfl ?_
  refine r_invVr hC kX6 (b 0) [.int (nI N), .int 0] (.long (pa (6 * N + 2 * 0))) mVX6_px q3198 (fun _ h => h.get 0 rfl) (metX6_px _ _ hG b _ _ _ N 0 (by omega) (Nat.le_of_ble_eq_true rfl)) (fun _ h => h.in.sub [0, 1] rfl rfl) ⟨rfl, rfl⟩ 0 0 rfl rfl (Nat.le_of_ble_eq_true rfl) (Nat.le_of_ble_eq_true rfl) rfl (Nat.le_of_ble_eq_true rfl) dX6_returnError_16 19 rfl ?_
  refine r_aload_n hC 2 dX6_returnError_19 rfl 20 rfl ?_
  refine r_iconst hC 0 dX6_returnError_20 ic_0 21 rfl ?_
  refine r_iload hC 0 dX6_returnError_21 rfl 23 rfl ?_
  refine r_invVr hC kX6 (b 0) [.int 0, .int 0] (.long (pa (6 * 0 + 2 * 0))) mVX6_px q3198 (fun _ h => h.get 0 rfl) (metX6_px _ _ hG b _ _ _ 0 0 (by omega) (Nat.le_of_ble_eq_true rfl)) (fun _ h => h.in.sub [0, 1] rfl rfl) ⟨rfl, rfl⟩ 0 0 rfl rfl (Nat.le_of_ble_eq_true rfl) (Nat.le_of_ble_eq_true rfl) rfl (Nat.le_of_ble_eq_true rfl) dX6_returnError_23 26 rfl ?_
  refine r_lsub hC ((pa (6 * N + 2 * 0)) - (pa (6 * 0 + 2 * 0))) dX6_returnError_26  (rfl) 27 rfl ?_
  refine r_aload_n hC 2 dX6_returnError_27 rfl 28 rfl ?_
  refine r_iload_n hC 3 dX6_returnError_28 rfl 29 rfl ?_
  refine r_iload hC 0 dX6_returnError_29 rfl 31 rfl ?_
  refine r_invVr hC kX6 (b 0) [.int (nI N), .int 0] (.long (pa (6 * N + 2 * 0 + 1))) mVX6_py q3202 (fun _ h => h.get 0 rfl) (metX6_py _ _ hG b _ _ _ N 0 (by omega) (Nat.le_of_ble_eq_true rfl)) (fun _ h => h.in.sub [0, 1] rfl rfl) ⟨rfl, rfl⟩ 0 0 rfl rfl (Nat.le_of_ble_eq_true rfl) (Nat.le_of_ble_eq_true rfl) rfl (Nat.le_of_ble_eq_true rfl) dX6_returnError_31 34 rfl ?_
  refine r_aload_n hC 2 dX6_returnError_34 rfl 35 rfl ?_
  refine r_iconst hC 0 dX6_returnError_35 ic_0 36 rfl ?_
  refine r_iload hC 0 dX6_returnError_36 rfl 38 rfl ?_
  refine r_invVr hC kX6 (b 0) [.int 0, .int 0] (.long (pa (6 * 0 + 2 * 0 + 1))) mVX6_py q3202 (fun _ h => h.get 0 rfl) (metX6_py _ _ hG b _ _ _ 0 0 (by omega) (Nat.le_of_ble_eq_true rfl)) (fun _ h => h.in.sub [0, 1] rfl rfl) ⟨rfl, rfl⟩ 0 0 rfl rfl (Nat.le_of_ble_eq_true rfl) (Nat.le_of_ble_eq_true rfl) rfl (Nat.le_of_ble_eq_true rfl) dX6_returnError_38 41 rfl ?_
  refine r_lsub hC ((pa (6 * N + 2 * 0 + 1)) - (pa (6 * 0 + 2 * 0 + 1))) dX6_returnError_41  (rfl) 42 rfl ?_
  refine r_invSr hC [.long ((pa (6 * N + 2 * 0)) - (pa (6 * 0 + 2 * 0))), .long ((pa (6 * N + 2 * 0 + 1)) - (pa (6 * 0 + 2 * 0 + 1)))] (.long (m_gap ((pa (6 * N + 2 * 0)) - (pa (6 * 0 + 2 * 0))) ((pa (6 * N + 2 * 0 + 1)) - (pa (6 * 0 + 2 * 0 + 1))))) mSX6_gap q3206 (metX6_gap _ _ hG ((pa (6 * N + 2 * 0)) - (pa (6 * 0 + 2 * 0))) ((pa (6 * N + 2 * 0 + 1)) - (pa (6 * 0 + 2 * 0 + 1)))) (fun _ _ => xIn.nil) ⟨rfl, rfl⟩ 0 0 rfl rfl (Nat.le_of_ble_eq_true rfl) (Nat.le_of_ble_eq_true rfl) rfl (Nat.le_of_ble_eq_true rfl) dX6_returnError_42 45 rfl ?_
  refine r_invSr hC [.long 0, .long (m_gap ((pa (6 * N + 2 * 0)) - (pa (6 * 0 + 2 * 0))) ((pa (6 * N + 2 * 0 + 1)) - (pa (6 * 0 + 2 * 0 + 1))))] (.long (m_greater 0 (m_gap ((pa (6 * N + 2 * 0)) - (pa (6 * 0 + 2 * 0))) ((pa (6 * N + 2 * 0 + 1)) - (pa (6 * 0 + 2 * 0 + 1)))))) mSX6_greater q3212 (metX6_greater _ _ hG 0 (m_gap ((pa (6 * N + 2 * 0)) - (pa (6 * 0 + 2 * 0))) ((pa (6 * N + 2 * 0 + 1)) - (pa (6 * 0 + 2 * 0 + 1))))) (fun _ _ => xIn.nil) ⟨rfl, rfl⟩ 0 0 rfl rfl (Nat.le_of_ble_eq_true rfl) (Nat.le_of_ble_eq_true rfl) rfl (Nat.le_of_ble_eq_true rfl) dX6_returnError_45 48 rfl ?_
  refine r_lstore_n hC 2 [(2, .long (m_greater 0 (m_gap ((pa (6 * N + 2 * 0)) - (pa (6 * 0 + 2 * 0))) ((pa (6 * N + 2 * 0 + 1)) - (pa (6 * 0 + 2 * 0 + 1)))))), (4, .int 0), (0, .ref (b 0)), (1, .int (nI N))] dX6_returnError_48 rfl (Nat.le_of_ble_eq_true rfl) rfl 49 rfl ?_
  refine r_iinc hC 1 4 1 [(4, .int 1), (2, .long (m_greater 0 (m_gap ((pa (6 * N + 2 * 0)) - (pa (6 * 0 + 2 * 0))) ((pa (6 * N + 2 * 0 + 1)) - (pa (6 * 0 + 2 * 0 + 1)))))), (0, .ref (b 0)), (1, .int (nI N))] dX6_returnError_49 rfl (by decide) (Nat.le_of_ble_eq_true rfl) rfl 52 rfl ?_
  refine r_goto hC 5 dX6_returnError_52 (by decide) ?_
  refine r_iload hC 0 dX6_returnError_5 rfl 7 rfl ?_
  refine r_iconst hC 3 dX6_returnError_7 ic_3 8 rfl ?_
  refine r_icge hC 55 dX6_returnError_8 (by decide) 11 rfl (fun h => absurd h (by decide)) (fun _ => ?_)
  refine r_lload_n hC 1 dX6_returnError_11 rfl 12 rfl ?_
  refine r_aload_n hC 2 dX6_returnError_12 rfl 13 rfl ?_
  refine r_iload_n hC 3 dX6_returnError_13 rfl 14 rfl ?_
  refine r_iload hC 0 dX6_returnError_14 rfl 16 rfl ?_
  refine r_invVr hC kX6 (b 0) [.int (nI N), .int 1] (.long (pa (6 * N + 2 * 1))) mVX6_px q3198 (fun _ h => h.get 0 rfl) (metX6_px _ _ hG b _ _ _ N 1 (by omega) (Nat.le_of_ble_eq_true rfl)) (fun _ h => h.in.sub [0, 1] rfl rfl) ⟨rfl, rfl⟩ 0 0 rfl rfl (Nat.le_of_ble_eq_true rfl) (Nat.le_of_ble_eq_true rfl) rfl (Nat.le_of_ble_eq_true rfl) dX6_returnError_16 19 rfl ?_
  refine r_aload_n hC 2 dX6_returnError_19 rfl 20 rfl ?_
  refine r_iconst hC 0 dX6_returnError_20 ic_0 21 rfl ?_
  refine r_iload hC 0 dX6_returnError_21 rfl 23 rfl ?_
  refine r_invVr hC kX6 (b 0) [.int 0, .int 1] (.long (pa (6 * 0 + 2 * 1))) mVX6_px q3198 (fun _ h => h.get 0 rfl) (metX6_px _ _ hG b _ _ _ 0 1 (by omega) (Nat.le_of_ble_eq_true rfl)) (fun _ h => h.in.sub [0, 1] rfl rfl) ⟨rfl, rfl⟩ 0 0 rfl rfl (Nat.le_of_ble_eq_true rfl) (Nat.le_of_ble_eq_true rfl) rfl (Nat.le_of_ble_eq_true rfl) dX6_returnError_23 26 rfl ?_
  refine r_lsub hC ((pa (6 * N + 2 * 1)) - (pa (6 * 0 + 2 * 1))) dX6_returnError_26  (rfl) 27 rfl ?_
  refine r_aload_n hC 2 dX6_returnError_27 rfl 28 rfl ?_
  refine r_iload_n hC 3 dX6_returnError_28 rfl 29 rfl ?_
  refine r_iload hC 0 dX6_returnError_29 rfl 31 rfl ?_
  refine r_invVr hC kX6 (b 0) [.int (nI N), .int 1] (.long (pa (6 * N + 2 * 1 + 1))) mVX6_py q3202 (fun _ h => h.get 0 rfl) (metX6_py _ _ hG b _ _ _ N 1 (by omega) (Nat.le_of_ble_eq_true rfl)) (fun _ h => h.in.sub [0, 1] rfl rfl) ⟨rfl, rfl⟩ 0 0 rfl rfl (Nat.le_of_ble_eq_true rfl) (Nat.le_of_ble_eq_true rfl) rfl (Nat.le_of_ble_eq_true rfl) dX6_returnError_31 34 rfl ?_
  refine r_aload_n hC 2 dX6_returnError_34 rfl 35 rfl ?_
  refine r_iconst hC 0 dX6_returnError_35 ic_0 36 rfl ?_
  refine r_iload hC 0 dX6_returnError_36 rfl 38 rfl ?_
  refine r_invVr hC kX6 (b 0) [.int 0, .int 1] (.long (pa (6 * 0 + 2 * 1 + 1))) mVX6_py q3202 (fun _ h => h.get 0 rfl) (metX6_py _ _ hG b _ _ _ 0 1 (by omega) (Nat.le_of_ble_eq_true rfl)) (fun _ h => h.in.sub [0, 1] rfl rfl) ⟨rfl, rfl⟩ 0 0 rfl rfl (Nat.le_of_ble_eq_true rfl) (Nat.le_of_ble_eq_true rfl) rfl (Nat.le_of_ble_eq_true rfl) dX6_returnError_38 41 rfl ?_
  refine r_lsub hC ((pa (6 * N + 2 * 1 + 1)) - (pa (6 * 0 + 2 * 1 + 1))) dX6_returnError_41  (rfl) 42 rfl ?_
  refine r_invSr hC [.long ((pa (6 * N + 2 * 1)) - (pa (6 * 0 + 2 * 1))), .long ((pa (6 * N + 2 * 1 + 1)) - (pa (6 * 0 + 2 * 1 + 1)))] (.long (m_gap ((pa (6 * N + 2 * 1)) - (pa (6 * 0 + 2 * 1))) ((pa (6 * N + 2 * 1 + 1)) - (pa (6 * 0 + 2 * 1 + 1))))) mSX6_gap q3206 (metX6_gap _ _ hG ((pa (6 * N + 2 * 1)) - (pa (6 * 0 + 2 * 1))) ((pa (6 * N + 2 * 1 + 1)) - (pa (6 * 0 + 2 * 1 + 1)))) (fun _ _ => xIn.nil) ⟨rfl, rfl⟩ 0 0 rfl rfl (Nat.le_of_ble_eq_true rfl) (Nat.le_of_ble_eq_true rfl) rfl (Nat.le_of_ble_eq_true rfl) dX6_returnError_42 45 rfl ?_
  refine r_invSr hC [.long (m_greater 0 (m_gap ((pa (6 * N + 2 * 0)) - (pa (6 * 0 + 2 * 0))) ((pa (6 * N + 2 * 0 + 1)) - (pa (6 * 0 + 2 * 0 + 1))))), .long (m_gap ((pa (6 * N + 2 * 1)) - (pa (6 * 0 + 2 * 1))) ((pa (6 * N + 2 * 1 + 1)) - (pa (6 * 0 + 2 * 1 + 1))))] (.long (m_greater (m_greater 0 (m_gap ((pa (6 * N + 2 * 0)) - (pa (6 * 0 + 2 * 0))) ((pa (6 * N + 2 * 0 + 1)) - (pa (6 * 0 + 2 * 0 + 1))))) (m_gap ((pa (6 * N + 2 * 1)) - (pa (6 * 0 + 2 * 1))) ((pa (6 * N + 2 * 1 + 1)) - (pa (6 * 0 + 2 * 1 + 1)))))) mSX6_greater q3212 (metX6_greater _ _ hG (m_greater 0 (m_gap ((pa (6 * N + 2 * 0)) - (pa (6 * 0 + 2 * 0))) ((pa (6 * N + 2 * 0 + 1)) - (pa (6 * 0 + 2 * 0 + 1))))) (m_gap ((pa (6 * N + 2 * 1)) - (pa (6 * 0 + 2 * 1))) ((pa (6 * N + 2 * 1 + 1)) - (pa (6 * 0 + 2 * 1 + 1))))) (fun _ _ => xIn.nil) ⟨rfl, rfl⟩ 0 0 rfl rfl (Nat.le_of_ble_eq_true rfl) (Nat.le_of_ble_eq_true rfl) rfl (Nat.le_of_ble_eq_true rfl) dX6_returnError_45 48 rfl ?_
  refine r_lstore_n hC 2 [(2, .long (m_greater (m_greater 0 (m_gap ((pa (6 * N + 2 * 0)) - (pa (6 * 0 + 2 * 0))) ((pa (6 * N + 2 * 0 + 1)) - (pa (6 * 0 + 2 * 0 + 1))))) (m_gap ((pa (6 * N + 2 * 1)) - (pa (6 * 0 + 2 * 1))) ((pa (6 * N + 2 * 1 + 1)) - (pa (6 * 0 + 2 * 1 + 1)))))), (4, .int 1), (0, .ref (b 0)), (1, .int (nI N))] dX6_returnError_48 rfl (Nat.le_of_ble_eq_true rfl) rfl 49 rfl ?_
  refine r_iinc hC 2 4 1 [(4, .int 2), (2, .long (m_greater (m_greater 0 (m_gap ((pa (6 * N + 2 * 0)) - (pa (6 * 0 + 2 * 0))) ((pa (6 * N + 2 * 0 + 1)) - (pa (6 * 0 + 2 * 0 + 1))))) (m_gap ((pa (6 * N + 2 * 1)) - (pa (6 * 0 + 2 * 1))) ((pa (6 * N + 2 * 1 + 1)) - (pa (6 * 0 + 2 * 1 + 1)))))), (0, .ref (b 0)), (1, .int (nI N))] dX6_returnError_49 rfl (by decide) (Nat.le_of_ble_eq_true rfl) rfl 52 rfl ?_
  refine r_goto hC 5 dX6_returnError_52 (by decide) ?_
  refine r_iload hC 0 dX6_returnError_5 rfl 7 rfl ?_
  refine r_iconst hC 3 dX6_returnError_7 ic_3 8 rfl ?_
  refine r_icge hC 55 dX6_returnError_8 (by decide) 11 rfl (fun h => absurd h (by decide)) (fun _ => ?_)
  refine r_lload_n hC 1 dX6_returnError_11 rfl 12 rfl ?_
  refine r_aload_n hC 2 dX6_returnError_12 rfl 13 rfl ?_
  refine r_iload_n hC 3 dX6_returnError_13 rfl 14 rfl ?_
  refine r_iload hC 0 dX6_returnError_14 rfl 16 rfl ?_
  refine r_invVr hC kX6 (b 0) [.int (nI N), .int 2] (.long (pa (6 * N + 2 * 2))) mVX6_px q3198 (fun _ h => h.get 0 rfl) (metX6_px _ _ hG b _ _ _ N 2 (by omega) (Nat.le_of_ble_eq_true rfl)) (fun _ h => h.in.sub [0, 1] rfl rfl) ⟨rfl, rfl⟩ 0 0 rfl rfl (Nat.le_of_ble_eq_true rfl) (Nat.le_of_ble_eq_true rfl) rfl (Nat.le_of_ble_eq_true rfl) dX6_returnError_16 19 rfl ?_
  refine r_aload_n hC 2 dX6_returnError_19 rfl 20 rfl ?_
  refine r_iconst hC 0 dX6_returnError_20 ic_0 21 rfl ?_
  refine r_iload hC 0 dX6_returnError_21 rfl 23 rfl ?_
  refine r_invVr hC kX6 (b 0) [.int 0, .int 2] (.long (pa (6 * 0 + 2 * 2))) mVX6_px q3198 (fun _ h => h.get 0 rfl) (metX6_px _ _ hG b _ _ _ 0 2 (by omega) (Nat.le_of_ble_eq_true rfl)) (fun _ h => h.in.sub [0, 1] rfl rfl) ⟨rfl, rfl⟩ 0 0 rfl rfl (Nat.le_of_ble_eq_true rfl) (Nat.le_of_ble_eq_true rfl) rfl (Nat.le_of_ble_eq_true rfl) dX6_returnError_23 26 rfl ?_
  refine r_lsub hC ((pa (6 * N + 2 * 2)) - (pa (6 * 0 + 2 * 2))) dX6_returnError_26  (rfl) 27 rfl ?_
  refine r_aload_n hC 2 dX6_returnError_27 rfl 28 rfl ?_
  refine r_iload_n hC 3 dX6_returnError_28 rfl 29 rfl ?_
  refine r_iload hC 0 dX6_returnError_29 rfl 31 rfl ?_
  refine r_invVr hC kX6 (b 0) [.int (nI N), .int 2] (.long (pa (6 * N + 2 * 2 + 1))) mVX6_py q3202 (fun _ h => h.get 0 rfl) (metX6_py _ _ hG b _ _ _ N 2 (by omega) (Nat.le_of_ble_eq_true rfl)) (fun _ h => h.in.sub [0, 1] rfl rfl) ⟨rfl, rfl⟩ 0 0 rfl rfl (Nat.le_of_ble_eq_true rfl) (Nat.le_of_ble_eq_true rfl) rfl (Nat.le_of_ble_eq_true rfl) dX6_returnError_31 34 rfl ?_
  refine r_aload_n hC 2 dX6_returnError_34 rfl 35 rfl ?_
  refine r_iconst hC 0 dX6_returnError_35 ic_0 36 rfl ?_
  refine r_iload hC 0 dX6_returnError_36 rfl 38 rfl ?_
  refine r_invVr hC kX6 (b 0) [.int 0, .int 2] (.long (pa (6 * 0 + 2 * 2 + 1))) mVX6_py q3202 (fun _ h => h.get 0 rfl) (metX6_py _ _ hG b _ _ _ 0 2 (by omega) (Nat.le_of_ble_eq_true rfl)) (fun _ h => h.in.sub [0, 1] rfl rfl) ⟨rfl, rfl⟩ 0 0 rfl rfl (Nat.le_of_ble_eq_true rfl) (Nat.le_of_ble_eq_true rfl) rfl (Nat.le_of_ble_eq_true rfl) dX6_returnError_38 41 rfl ?_
  refine r_lsub hC ((pa (6 * N + 2 * 2 + 1)) - (pa (6 * 0 + 2 * 2 + 1))) dX6_returnError_41  (rfl) 42 rfl ?_
  refine r_invSr hC [.long ((pa (6 * N + 2 * 2)) - (pa (6 * 0 + 2 * 2))), .long ((pa (6 * N + 2 * 2 + 1)) - (pa (6 * 0 + 2 * 2 + 1)))] (.long (m_gap ((pa (6 * N + 2 * 2)) - (pa (6 * 0 + 2 * 2))) ((pa (6 * N + 2 * 2 + 1)) - (pa (6 * 0 + 2 * 2 + 1))))) mSX6_gap q3206 (metX6_gap _ _ hG ((pa (6 * N + 2 * 2)) - (pa (6 * 0 + 2 * 2))) ((pa (6 * N + 2 * 2 + 1)) - (pa (6 * 0 + 2 * 2 + 1)))) (fun _ _ => xIn.nil) ⟨rfl, rfl⟩ 0 0 rfl rfl (Nat.le_of_ble_eq_true rfl) (Nat.le_of_ble_eq_true rfl) rfl (Nat.le_of_ble_eq_true rfl) dX6_returnError_42 45 rfl ?_
  refine r_invSr hC [.long (m_greater (m_greater 0 (m_gap ((pa (6 * N + 2 * 0)) - (pa (6 * 0 + 2 * 0))) ((pa (6 * N + 2 * 0 + 1)) - (pa (6 * 0 + 2 * 0 + 1))))) (m_gap ((pa (6 * N + 2 * 1)) - (pa (6 * 0 + 2 * 1))) ((pa (6 * N + 2 * 1 + 1)) - (pa (6 * 0 + 2 * 1 + 1))))), .long (m_gap ((pa (6 * N + 2 * 2)) - (pa (6 * 0 + 2 * 2))) ((pa (6 * N + 2 * 2 + 1)) - (pa (6 * 0 + 2 * 2 + 1))))] (.long (m_greater (m_greater (m_greater 0 (m_gap ((pa (6 * N + 2 * 0)) - (pa (6 * 0 + 2 * 0))) ((pa (6 * N + 2 * 0 + 1)) - (pa (6 * 0 + 2 * 0 + 1))))) (m_gap ((pa (6 * N + 2 * 1)) - (pa (6 * 0 + 2 * 1))) ((pa (6 * N + 2 * 1 + 1)) - (pa (6 * 0 + 2 * 1 + 1))))) (m_gap ((pa (6 * N + 2 * 2)) - (pa (6 * 0 + 2 * 2))) ((pa (6 * N + 2 * 2 + 1)) - (pa (6 * 0 + 2 * 2 + 1)))))) mSX6_greater q3212 (metX6_greater _ _ hG (m_greater (m_greater 0 (m_gap ((pa (6 * N + 2 * 0)) - (pa (6 * 0 + 2 * 0))) ((pa (6 * N + 2 * 0 + 1)) - (pa (6 * 0 + 2 * 0 + 1))))) (m_gap ((pa (6 * N + 2 * 1)) - (pa (6 * 0 + 2 * 1))) ((pa (6 * N + 2 * 1 + 1)) - (pa (6 * 0 + 2 * 1 + 1))))) (m_gap ((pa (6 * N + 2 * 2)) - (pa (6 * 0 + 2 * 2))) ((pa (6 * N + 2 * 2 + 1)) - (pa (6 * 0 + 2 * 2 + 1))))) (fun _ _ => xIn.nil) ⟨rfl, rfl⟩ 0 0 rfl rfl (Nat.le_of_ble_eq_true rfl) (Nat.le_of_ble_eq_true rfl) rfl (Nat.le_of_ble_eq_true rfl) dX6_returnError_45 48 rfl ?_
  refine r_lstore_n hC 2 [(2, .long (m_greater (m_greater (m_greater 0 (m_gap ((pa (6 * N + 2 * 0)) - (pa (6 * 0 + 2 * 0))) ((pa (6 * N + 2 * 0 + 1)) - (pa (6 * 0 + 2 * 0 + 1))))) (m_gap ((pa (6 * N + 2 * 1)) - (pa (6 * 0 + 2 * 1))) ((pa (6 * N + 2 * 1 + 1)) - (pa (6 * 0 + 2 * 1 + 1))))) (m_gap ((pa (6 * N + 2 * 2)) - (pa (6 * 0 + 2 * 2))) ((pa (6 * N + 2 * 2 + 1)) - (pa (6 * 0 + 2 * 2 + 1)))))), (4, .int 2), (0, .ref (b 0)), (1, .int (nI N))] dX6_returnError_48 rfl (Nat.le_of_ble_eq_true rfl) rfl 49 rfl ?_
  refine r_iinc hC 3 4 1 [(4, .int 3), (2, .long (m_greater (m_greater (m_greater 0 (m_gap ((pa (6 * N + 2 * 0)) - (pa (6 * 0 + 2 * 0))) ((pa (6 * N + 2 * 0 + 1)) - (pa (6 * 0 + 2 * 0 + 1))))) (m_gap ((pa (6 * N + 2 * 1)) - (pa (6 * 0 + 2 * 1))) ((pa (6 * N + 2 * 1 + 1)) - (pa (6 * 0 + 2 * 1 + 1))))) (m_gap ((pa (6 * N + 2 * 2)) - (pa (6 * 0 + 2 * 2))) ((pa (6 * N + 2 * 2 + 1)) - (pa (6 * 0 + 2 * 2 + 1)))))), (0, .ref (b 0)), (1, .int (nI N))] dX6_returnError_49 rfl (by decide) (Nat.le_of_ble_eq_true rfl) rfl 52 rfl ?_
  refine r_goto hC 5 dX6_returnError_52 (by decide) ?_
  refine r_iload hC 0 dX6_returnError_5 rfl 7 rfl ?_
  refine r_iconst hC 3 dX6_returnError_7 ic_3 8 rfl ?_
  refine r_icge hC 55 dX6_returnError_8 (by decide) 11 rfl (fun _ => ?_) (fun h => absurd h (by decide))
  refine r_lload_n hC 1 dX6_returnError_55 rfl 56 rfl ?_
  exact r_lret hC (Nat.le_of_ble_eq_true rfl) (Nat.le_of_ble_eq_true rfl) (fun V9 h => hQ _ _ ⟨rfl, h.1⟩) dX6_returnError_56
set_option maxHeartbeats 4000000 in
set_option maxRecDepth 100000 in
theorem lpX6_chaseError {C : xC} {V : xV} {k n : Nat} (hG : xGood (xGG C)) (hC : xCtx C RX6 cX6_chaseError 7 (some .long) { frames := 2, locals := 46, cells := 0, slots := 0 }) (hk0 : k = 0) (hn0 : n = 0) (b : Nat → Nat) (i : Nat → Int32) (j : Nat → Int64) (pa : Nat → Int64) (N : Nat) (hN : N ≤ 300) (hN0 : 0 < N) : ∀ (f c : Nat) (e : Int64), c + f = N → (rn C (xRo [(b 0, .inr (5, mF b i j)), (b 25, .inl (1, 1806, .inr (.inl pa)))] V) k n 85 [(2, .long (errL (chase1 pa N) f c e))] []) → rn C (xRo [(b 0, .inr (5, mF b i j)), (b 25, .inl (1, 1806, .inr (.inl pa)))] V) k n 5 [(4, .int (nI c)), (2, .long e), (0, .ref (b 0)), (1, .int (nI N))] [] := by
  subst hk0 hn0
  intro f
  induction f with
  | zero =>
    intro c e hc kx
    have hc : c = N := by omega
    subst hc
    refine r_iload hC 0 dX6_chaseError_5 rfl 7 rfl ?_
    refine r_iload_n hC 3 dX6_chaseError_7 rfl 8 rfl ?_
    refine r_icge hC 85 dX6_chaseError_8 (by decide) 11 rfl (fun _ => ?_) (fun h => absurd (Int32.le_refl _) h)
    refine rn.sub (lv' := [(2, .long e)]) [1] rfl ?_
    exact kx
  | succ f ih =>
    intro c e hc kx
    have kx : rn C (xRo [(b 0, .inr (5, mF b i j)), (b 25, .inl (1, 1806, .inr (.inl pa)))] V) 0 0 85 [(2, .long (errL (chase1 pa N) f (c + 1) (chase1 pa N c e)))] [] := kx
    refine r_iload hC 0 dX6_chaseError_5 rfl 7 rfl ?_
    refine r_iload_n hC 3 dX6_chaseError_7 rfl 8 rfl ?_
    refine r_icge hC 85 dX6_chaseError_8 (by decide) 11 rfl (fun h => absurd h (nI_ge (by omega) (by omega))) (fun _ => ?_)
    refine r_iconst hC 1 dX6_chaseError_11 ic_1 12 rfl ?_
    refine r_istore hC 5 [(5, .int 1), (4, .int (nI c)), (2, .long e), (0, .ref (b 0)), (1, .int (nI N))] dX6_chaseError_12 (Nat.le_of_ble_eq_true rfl) rfl 14 rfl ?_
    refine r_iload hC 0 dX6_chaseError_14 rfl 16 rfl ?_
    refine r_iconst hC 3 dX6_chaseError_16 ic_3 17 rfl ?_
    refine r_icge hC 79 dX6_chaseError_17 (by decide) 20 rfl (fun h => absurd h (by decide)) (fun _ => ?_)
    refine r_iload hC 1 dX6_chaseError_20 rfl 22 rfl ?_
    refine r_iload hC 0 dX6_chaseError_22 rfl 24 rfl ?_
    refine r_iload_n hC 4 dX6_chaseError_24 rfl 25 rfl ?_
    refine r_iconst hC 3 dX6_chaseError_25 ic_3 26 rfl ?_
    refine r_idiv hC (nI (N / 3)) dX6_chaseError_26 (by decide) (pk_div (a := N) (d := 3) (by omega) (by omega) (by omega)) 27 rfl ?_
    refine r_imul hC (nI (1 * (N / 3))) dX6_chaseError_27  (pk_mul 1 (N / 3)) 28 rfl ?_
    refine r_iadd hC (nI (c + 1 * (N / 3))) dX6_chaseError_28  (nI_add c (1 * (N / 3))) 29 rfl ?_
    refine r_iload_n hC 4 dX6_chaseError_29 rfl 30 rfl ?_
    refine r_irem hC (nI ((c + 1 * (N / 3)) % N)) dX6_chaseError_30 (nI_ne0 hN0 (by omega)) (pk_rem (a := c + 1 * (N / 3)) (d := N) (by omega) hN0 (by omega)) 31 rfl ?_
    refine r_istore hC 6 [(6, .int (nI ((c + 1 * (N / 3)) % N))), (5, .int 1), (4, .int (nI c)), (2, .long e), (0, .ref (b 0)), (1, .int (nI N))] dX6_chaseError_31 (Nat.le_of_ble_eq_true rfl) rfl 33 rfl ?_
    refine r_lload_n hC 3 dX6_chaseError_33 rfl 34 rfl ?_
    refine r_aload_n hC 4 dX6_chaseError_34 rfl 35 rfl ?_
    refine r_iload hC 2 dX6_chaseError_35 rfl 37 rfl ?_
    refine r_iload hC 1 dX6_chaseError_37 rfl 39 rfl ?_
    refine r_invVr hC kX6 (b 0) [.int (nI c), .int 1] (.long (pa (6 * c + 2 * 1))) mVX6_px q3198 (fun _ h => h.get 0 rfl) (metX6_px _ _ hG b _ _ _ c 1 (by omega) (Nat.le_of_ble_eq_true rfl)) (fun _ h => h.in.sub [0, 1] rfl rfl) ⟨rfl, rfl⟩ 0 0 rfl rfl (Nat.le_of_ble_eq_true rfl) (Nat.le_of_ble_eq_true rfl) rfl (Nat.le_of_ble_eq_true rfl) dX6_chaseError_39 42 rfl ?_
    refine r_aload_n hC 4 dX6_chaseError_42 rfl 43 rfl ?_
    refine r_iload hC 0 dX6_chaseError_43 rfl 45 rfl ?_
    refine r_iconst hC 0 dX6_chaseError_45 ic_0 46 rfl ?_
    refine r_invVr hC kX6 (b 0) [.int (nI ((c + 1 * (N / 3)) % N)), .int 0] (.long (pa (6 * ((c + 1 * (N / 3)) % N) + 2 * 0))) mVX6_px q3198 (fun _ h => h.get 0 rfl) (metX6_px _ _ hG b _ _ _ ((c + 1 * (N / 3)) % N) 0 (by have := Nat.mod_lt (c + 1 * (N / 3)) hN0; omega) (Nat.le_of_ble_eq_true rfl)) (fun _ h => h.in.sub [0, 1] rfl rfl) ⟨rfl, rfl⟩ 0 0 rfl rfl (Nat.le_of_ble_eq_true rfl) (Nat.le_of_ble_eq_true rfl) rfl (Nat.le_of_ble_eq_true rfl) dX6_chaseError_46 49 rfl ?_
    refine r_lsub hC ((pa (6 * c + 2 * 1)) - (pa (6 * ((c + 1 * (N / 3)) % N) + 2 * 0))) dX6_chaseError_49  (rfl) 50 rfl ?_
    refine r_aload_n hC 4 dX6_chaseError_50 rfl 51 rfl ?_
    refine r_iload hC 2 dX6_chaseError_51 rfl 53 rfl ?_
    refine r_iload hC 1 dX6_chaseError_53 rfl 55 rfl ?_
    refine r_invVr hC kX6 (b 0) [.int (nI c), .int 1] (.long (pa (6 * c + 2 * 1 + 1))) mVX6_py q3202 (fun _ h => h.get 0 rfl) (metX6_py _ _ hG b _ _ _ c 1 (by omega) (Nat.le_of_ble_eq_true rfl)) (fun _ h => h.in.sub [0, 1] rfl rfl) ⟨rfl, rfl⟩ 0 0 rfl rfl (Nat.le_of_ble_eq_true rfl) (Nat.le_of_ble_eq_true rfl) rfl (Nat.le_of_ble_eq_true rfl) dX6_chaseError_55 58 rfl ?_
    refine r_aload_n hC 4 dX6_chaseError_58 rfl 59 rfl ?_
    refine r_iload hC 0 dX6_chaseError_59 rfl 61 rfl ?_
    refine r_iconst hC 0 dX6_chaseError_61 ic_0 62 rfl ?_
    refine r_invVr hC kX6 (b 0) [.int (nI ((c + 1 * (N / 3)) % N)), .int 0] (.long (pa (6 * ((c + 1 * (N / 3)) % N) + 2 * 0 + 1))) mVX6_py q3202 (fun _ h => h.get 0 rfl) (metX6_py _ _ hG b _ _ _ ((c + 1 * (N / 3)) % N) 0 (by have := Nat.mod_lt (c + 1 * (N / 3)) hN0; omega) (Nat.le_of_ble_eq_true rfl)) (fun _ h => h.in.sub [0, 1] rfl rfl) ⟨rfl, rfl⟩ 0 0 rfl rfl (Nat.le_of_ble_eq_true rfl) (Nat.le_of_ble_eq_true rfl) rfl (Nat.le_of_ble_eq_true rfl) dX6_chaseError_62 65 rfl ?_
    refine r_lsub hC ((pa (6 * c + 2 * 1 + 1)) - (pa (6 * ((c + 1 * (N / 3)) % N) + 2 * 0 + 1))) dX6_chaseError_65  (rfl) 66 rfl ?_
    refine r_invSr hC [.long ((pa (6 * c + 2 * 1)) - (pa (6 * ((c + 1 * (N / 3)) % N) + 2 * 0))), .long ((pa (6 * c + 2 * 1 + 1)) - (pa (6 * ((c + 1 * (N / 3)) % N) + 2 * 0 + 1)))] (.long (m_gap ((pa (6 * c + 2 * 1)) - (pa (6 * ((c + 1 * (N / 3)) % N) + 2 * 0))) ((pa (6 * c + 2 * 1 + 1)) - (pa (6 * ((c + 1 * (N / 3)) % N) + 2 * 0 + 1))))) mSX6_gap q3206 (metX6_gap _ _ hG ((pa (6 * c + 2 * 1)) - (pa (6 * ((c + 1 * (N / 3)) % N) + 2 * 0))) ((pa (6 * c + 2 * 1 + 1)) - (pa (6 * ((c + 1 * (N / 3)) % N) + 2 * 0 + 1)))) (fun _ _ => xIn.nil) ⟨rfl, rfl⟩ 0 0 rfl rfl (Nat.le_of_ble_eq_true rfl) (Nat.le_of_ble_eq_true rfl) rfl (Nat.le_of_ble_eq_true rfl) dX6_chaseError_66 69 rfl ?_
    refine r_invSr hC [.long e, .long (m_gap ((pa (6 * c + 2 * 1)) - (pa (6 * ((c + 1 * (N / 3)) % N) + 2 * 0))) ((pa (6 * c + 2 * 1 + 1)) - (pa (6 * ((c + 1 * (N / 3)) % N) + 2 * 0 + 1))))] (.long (m_greater e (m_gap ((pa (6 * c + 2 * 1)) - (pa (6 * ((c + 1 * (N / 3)) % N) + 2 * 0))) ((pa (6 * c + 2 * 1 + 1)) - (pa (6 * ((c + 1 * (N / 3)) % N) + 2 * 0 + 1)))))) mSX6_greater q3212 (metX6_greater _ _ hG e (m_gap ((pa (6 * c + 2 * 1)) - (pa (6 * ((c + 1 * (N / 3)) % N) + 2 * 0))) ((pa (6 * c + 2 * 1 + 1)) - (pa (6 * ((c + 1 * (N / 3)) % N) + 2 * 0 + 1))))) (fun _ _ => xIn.nil) ⟨rfl, rfl⟩ 0 0 rfl rfl (Nat.le_of_ble_eq_true rfl) (Nat.le_of_ble_eq_true rfl) rfl (Nat.le_of_ble_eq_true rfl) dX6_chaseError_69 72 rfl ?_
    refine r_lstore_n hC 2 [(2, .long (m_greater e (m_gap ((pa (6 * c + 2 * 1)) - (pa (6 * ((c + 1 * (N / 3)) % N) + 2 * 0))) ((pa (6 * c + 2 * 1 + 1)) - (pa (6 * ((c + 1 * (N / 3)) % N) + 2 * 0 + 1)))))), (6, .int (nI ((c + 1 * (N / 3)) % N))), (5, .int 1), (4, .int (nI c)), (0, .ref (b 0)), (1, .int (nI N))] dX6_chaseError_72 rfl (Nat.le_of_ble_eq_true rfl) rfl 73 rfl ?_
    refine r_iinc hC 2 5 2 [(5, .int 2), (2, .long (m_greater e (m_gap ((pa (6 * c + 2 * 1)) - (pa (6 * ((c + 1 * (N / 3)) % N) + 2 * 0))) ((pa (6 * c + 2 * 1 + 1)) - (pa (6 * ((c + 1 * (N / 3)) % N) + 2 * 0 + 1)))))), (6, .int (nI ((c + 1 * (N / 3)) % N))), (4, .int (nI c)), (0, .ref (b 0)), (1, .int (nI N))] dX6_chaseError_73 rfl (by decide) (Nat.le_of_ble_eq_true rfl) rfl 76 rfl ?_
    refine r_goto hC 14 dX6_chaseError_76 (by decide) ?_
    refine r_iload hC 0 dX6_chaseError_14 rfl 16 rfl ?_
    refine r_iconst hC 3 dX6_chaseError_16 ic_3 17 rfl ?_
    refine r_icge hC 79 dX6_chaseError_17 (by decide) 20 rfl (fun h => absurd h (by decide)) (fun _ => ?_)
    refine r_iload hC 3 dX6_chaseError_20 rfl 22 rfl ?_
    refine r_iload hC 0 dX6_chaseError_22 rfl 24 rfl ?_
    refine r_iload_n hC 5 dX6_chaseError_24 rfl 25 rfl ?_
    refine r_iconst hC 3 dX6_chaseError_25 ic_3 26 rfl ?_
    refine r_idiv hC (nI (N / 3)) dX6_chaseError_26 (by decide) (pk_div (a := N) (d := 3) (by omega) (by omega) (by omega)) 27 rfl ?_
    refine r_imul hC (nI (2 * (N / 3))) dX6_chaseError_27  (pk_mul 2 (N / 3)) 28 rfl ?_
    refine r_iadd hC (nI (c + 2 * (N / 3))) dX6_chaseError_28  (nI_add c (2 * (N / 3))) 29 rfl ?_
    refine r_iload_n hC 5 dX6_chaseError_29 rfl 30 rfl ?_
    refine r_irem hC (nI ((c + 2 * (N / 3)) % N)) dX6_chaseError_30 (nI_ne0 hN0 (by omega)) (pk_rem (a := c + 2 * (N / 3)) (d := N) (by omega) hN0 (by omega)) 31 rfl ?_
    refine r_istore hC 6 [(6, .int (nI ((c + 2 * (N / 3)) % N))), (5, .int 2), (2, .long (m_greater e (m_gap ((pa (6 * c + 2 * 1)) - (pa (6 * ((c + 1 * (N / 3)) % N) + 2 * 0))) ((pa (6 * c + 2 * 1 + 1)) - (pa (6 * ((c + 1 * (N / 3)) % N) + 2 * 0 + 1)))))), (4, .int (nI c)), (0, .ref (b 0)), (1, .int (nI N))] dX6_chaseError_31 (Nat.le_of_ble_eq_true rfl) rfl 33 rfl ?_
    refine r_lload_n hC 2 dX6_chaseError_33 rfl 34 rfl ?_
    refine r_aload_n hC 4 dX6_chaseError_34 rfl 35 rfl ?_
    refine r_iload hC 3 dX6_chaseError_35 rfl 37 rfl ?_
    refine r_iload hC 1 dX6_chaseError_37 rfl 39 rfl ?_
    refine r_invVr hC kX6 (b 0) [.int (nI c), .int 2] (.long (pa (6 * c + 2 * 2))) mVX6_px q3198 (fun _ h => h.get 0 rfl) (metX6_px _ _ hG b _ _ _ c 2 (by omega) (Nat.le_of_ble_eq_true rfl)) (fun _ h => h.in.sub [0, 1] rfl rfl) ⟨rfl, rfl⟩ 0 0 rfl rfl (Nat.le_of_ble_eq_true rfl) (Nat.le_of_ble_eq_true rfl) rfl (Nat.le_of_ble_eq_true rfl) dX6_chaseError_39 42 rfl ?_
    refine r_aload_n hC 4 dX6_chaseError_42 rfl 43 rfl ?_
    refine r_iload hC 0 dX6_chaseError_43 rfl 45 rfl ?_
    refine r_iconst hC 0 dX6_chaseError_45 ic_0 46 rfl ?_
    refine r_invVr hC kX6 (b 0) [.int (nI ((c + 2 * (N / 3)) % N)), .int 0] (.long (pa (6 * ((c + 2 * (N / 3)) % N) + 2 * 0))) mVX6_px q3198 (fun _ h => h.get 0 rfl) (metX6_px _ _ hG b _ _ _ ((c + 2 * (N / 3)) % N) 0 (by have := Nat.mod_lt (c + 2 * (N / 3)) hN0; omega) (Nat.le_of_ble_eq_true rfl)) (fun _ h => h.in.sub [0, 1] rfl rfl) ⟨rfl, rfl⟩ 0 0 rfl rfl (Nat.le_of_ble_eq_true rfl) (Nat.le_of_ble_eq_true rfl) rfl (Nat.le_of_ble_eq_true rfl) dX6_chaseError_46 49 rfl ?_
    refine r_lsub hC ((pa (6 * c + 2 * 2)) - (pa (6 * ((c + 2 * (N / 3)) % N) + 2 * 0))) dX6_chaseError_49  (rfl) 50 rfl ?_
    refine r_aload_n hC 4 dX6_chaseError_50 rfl 51 rfl ?_
    refine r_iload hC 3 dX6_chaseError_51 rfl 53 rfl ?_
    refine r_iload hC 1 dX6_chaseError_53 rfl 55 rfl ?_
    refine r_invVr hC kX6 (b 0) [.int (nI c), .int 2] (.long (pa (6 * c + 2 * 2 + 1))) mVX6_py q3202 (fun _ h => h.get 0 rfl) (metX6_py _ _ hG b _ _ _ c 2 (by omega) (Nat.le_of_ble_eq_true rfl)) (fun _ h => h.in.sub [0, 1] rfl rfl) ⟨rfl, rfl⟩ 0 0 rfl rfl (Nat.le_of_ble_eq_true rfl) (Nat.le_of_ble_eq_true rfl) rfl (Nat.le_of_ble_eq_true rfl) dX6_chaseError_55 58 rfl ?_
    refine r_aload_n hC 4 dX6_chaseError_58 rfl 59 rfl ?_
    refine r_iload hC 0 dX6_chaseError_59 rfl 61 rfl ?_
    refine r_iconst hC 0 dX6_chaseError_61 ic_0 62 rfl ?_
    refine r_invVr hC kX6 (b 0) [.int (nI ((c + 2 * (N / 3)) % N)), .int 0] (.long (pa (6 * ((c + 2 * (N / 3)) % N) + 2 * 0 + 1))) mVX6_py q3202 (fun _ h => h.get 0 rfl) (metX6_py _ _ hG b _ _ _ ((c + 2 * (N / 3)) % N) 0 (by have := Nat.mod_lt (c + 2 * (N / 3)) hN0; omega) (Nat.le_of_ble_eq_true rfl)) (fun _ h => h.in.sub [0, 1] rfl rfl) ⟨rfl, rfl⟩ 0 0 rfl rfl (Nat.le_of_ble_eq_true rfl) (Nat.le_of_ble_eq_true rfl) rfl (Nat.le_of_ble_eq_true rfl) dX6_chaseError_62 65 rfl ?_
    refine r_lsub hC ((pa (6 * c + 2 * 2 + 1)) - (pa (6 * ((c + 2 * (N / 3)) % N) + 2 * 0 + 1))) dX6_chaseError_65  (rfl) 66 rfl ?_
    refine r_invSr hC [.long ((pa (6 * c + 2 * 2)) - (pa (6 * ((c + 2 * (N / 3)) % N) + 2 * 0))), .long ((pa (6 * c + 2 * 2 + 1)) - (pa (6 * ((c + 2 * (N / 3)) % N) + 2 * 0 + 1)))] (.long (m_gap ((pa (6 * c + 2 * 2)) - (pa (6 * ((c + 2 * (N / 3)) % N) + 2 * 0))) ((pa (6 * c + 2 * 2 + 1)) - (pa (6 * ((c + 2 * (N / 3)) % N) + 2 * 0 + 1))))) mSX6_gap q3206 (metX6_gap _ _ hG ((pa (6 * c + 2 * 2)) - (pa (6 * ((c + 2 * (N / 3)) % N) + 2 * 0))) ((pa (6 * c + 2 * 2 + 1)) - (pa (6 * ((c + 2 * (N / 3)) % N) + 2 * 0 + 1)))) (fun _ _ => xIn.nil) ⟨rfl, rfl⟩ 0 0 rfl rfl (Nat.le_of_ble_eq_true rfl) (Nat.le_of_ble_eq_true rfl) rfl (Nat.le_of_ble_eq_true rfl) dX6_chaseError_66 69 rfl ?_
    refine r_invSr hC [.long (m_greater e (m_gap ((pa (6 * c + 2 * 1)) - (pa (6 * ((c + 1 * (N / 3)) % N) + 2 * 0))) ((pa (6 * c + 2 * 1 + 1)) - (pa (6 * ((c + 1 * (N / 3)) % N) + 2 * 0 + 1))))), .long (m_gap ((pa (6 * c + 2 * 2)) - (pa (6 * ((c + 2 * (N / 3)) % N) + 2 * 0))) ((pa (6 * c + 2 * 2 + 1)) - (pa (6 * ((c + 2 * (N / 3)) % N) + 2 * 0 + 1))))] (.long (m_greater (m_greater e (m_gap ((pa (6 * c + 2 * 1)) - (pa (6 * ((c + 1 * (N / 3)) % N) + 2 * 0))) ((pa (6 * c + 2 * 1 + 1)) - (pa (6 * ((c + 1 * (N / 3)) % N) + 2 * 0 + 1))))) (m_gap ((pa (6 * c + 2 * 2)) - (pa (6 * ((c + 2 * (N / 3)) % N) + 2 * 0))) ((pa (6 * c + 2 * 2 + 1)) - (pa (6 * ((c + 2 * (N / 3)) % N) + 2 * 0 + 1)))))) mSX6_greater q3212 (metX6_greater _ _ hG (m_greater e (m_gap ((pa (6 * c + 2 * 1)) - (pa (6 * ((c + 1 * (N / 3)) % N) + 2 * 0))) ((pa (6 * c + 2 * 1 + 1)) - (pa (6 * ((c + 1 * (N / 3)) % N) + 2 * 0 + 1))))) (m_gap ((pa (6 * c + 2 * 2)) - (pa (6 * ((c + 2 * (N / 3)) % N) + 2 * 0))) ((pa (6 * c + 2 * 2 + 1)) - (pa (6 * ((c + 2 * (N / 3)) % N) + 2 * 0 + 1))))) (fun _ _ => xIn.nil) ⟨rfl, rfl⟩ 0 0 rfl rfl (Nat.le_of_ble_eq_true rfl) (Nat.le_of_ble_eq_true rfl) rfl (Nat.le_of_ble_eq_true rfl) dX6_chaseError_69 72 rfl ?_
    refine r_lstore_n hC 2 [(2, .long (m_greater (m_greater e (m_gap ((pa (6 * c + 2 * 1)) - (pa (6 * ((c + 1 * (N / 3)) % N) + 2 * 0))) ((pa (6 * c + 2 * 1 + 1)) - (pa (6 * ((c + 1 * (N / 3)) % N) + 2 * 0 + 1))))) (m_gap ((pa (6 * c + 2 * 2)) - (pa (6 * ((c + 2 * (N / 3)) % N) + 2 * 0))) ((pa (6 * c + 2 * 2 + 1)) - (pa (6 * ((c + 2 * (N / 3)) % N) + 2 * 0 + 1)))))), (6, .int (nI ((c + 2 * (N / 3)) % N))), (5, .int 2), (4, .int (nI c)), (0, .ref (b 0)), (1, .int (nI N))] dX6_chaseError_72 rfl (Nat.le_of_ble_eq_true rfl) rfl 73 rfl ?_
    refine r_iinc hC 3 5 2 [(5, .int 3), (2, .long (m_greater (m_greater e (m_gap ((pa (6 * c + 2 * 1)) - (pa (6 * ((c + 1 * (N / 3)) % N) + 2 * 0))) ((pa (6 * c + 2 * 1 + 1)) - (pa (6 * ((c + 1 * (N / 3)) % N) + 2 * 0 + 1))))) (m_gap ((pa (6 * c + 2 * 2)) - (pa (6 * ((c + 2 * (N / 3)) % N) + 2 * 0))) ((pa (6 * c + 2 * 2 + 1)) - (pa (6 * ((c + 2 * (N / 3)) % N) + 2 * 0 + 1)))))), (6, .int (nI ((c + 2 * (N / 3)) % N))), (4, .int (nI c)), (0, .ref (b 0)), (1, .int (nI N))] dX6_chaseError_73 rfl (by decide) (Nat.le_of_ble_eq_true rfl) rfl 76 rfl ?_
    refine r_goto hC 14 dX6_chaseError_76 (by decide) ?_
    refine r_iload hC 0 dX6_chaseError_14 rfl 16 rfl ?_
    refine r_iconst hC 3 dX6_chaseError_16 ic_3 17 rfl ?_
    refine r_icge hC 79 dX6_chaseError_17 (by decide) 20 rfl (fun _ => ?_) (fun h => absurd h (by decide))
    refine r_iinc hC (nI (c + 1)) 4 3 [(4, .int (nI (c + 1))), (5, .int 3), (2, .long (m_greater (m_greater e (m_gap ((pa (6 * c + 2 * 1)) - (pa (6 * ((c + 1 * (N / 3)) % N) + 2 * 0))) ((pa (6 * c + 2 * 1 + 1)) - (pa (6 * ((c + 1 * (N / 3)) % N) + 2 * 0 + 1))))) (m_gap ((pa (6 * c + 2 * 2)) - (pa (6 * ((c + 2 * (N / 3)) % N) + 2 * 0))) ((pa (6 * c + 2 * 2 + 1)) - (pa (6 * ((c + 2 * (N / 3)) % N) + 2 * 0 + 1)))))), (6, .int (nI ((c + 2 * (N / 3)) % N))), (0, .ref (b 0)), (1, .int (nI N))] dX6_chaseError_79 rfl (nI_add c 1) (Nat.le_of_ble_eq_true rfl) rfl 82 rfl ?_
    refine r_goto hC 5 dX6_chaseError_82 (by decide) ?_
    refine rn.sub (lv' := [(4, .int (nI (c + 1))), (2, .long (m_greater (m_greater e (m_gap ((pa (6 * c + 2 * 1)) - (pa (6 * ((c + 1 * (N / 3)) % N) + 2 * 0))) ((pa (6 * c + 2 * 1 + 1)) - (pa (6 * ((c + 1 * (N / 3)) % N) + 2 * 0 + 1))))) (m_gap ((pa (6 * c + 2 * 2)) - (pa (6 * ((c + 2 * (N / 3)) % N) + 2 * 0))) ((pa (6 * c + 2 * 2 + 1)) - (pa (6 * ((c + 2 * (N / 3)) % N) + 2 * 0 + 1)))))), (0, .ref (b 0)), (1, .int (nI N))]) [0, 2, 4, 5] rfl ?_
    exact ih (c + 1) (chase1 pa N c e) (by omega) kx
set_option maxHeartbeats 4000000 in
set_option maxRecDepth 100000 in
theorem metX6_chaseError (l : Launch) (G : xG) (hG : xGood G) (b : Nat → Nat) (i : Nat → Int32) (j : Nat → Int64) (pa : Nat → Int64) (N : Nat) (hN : N ≤ 300) (hN0 : 0 < N) : xRm l G yX6_chaseError (Cond.code yX6_chaseError cX6_chaseError 7 (some .long)) { frames := 2, locals := 46, cells := 0, slots := 0 } [.ref (b 0), .int (nI N)] [(b 0, .inr (5, mF b i j)), (b 25, .inl (1, 1806, .inr (.inl pa)))] (some (.long (chaseQ pa N))) := by
  intro V hV
  refine xMet_of RX6 hG rfl (by decide) (Nat.le_of_ble_eq_true rfl) fun C hC hQ hX hl hg _ => ?_
  subst hl hg
  refine rn.mono (J := xRo [(b 0, .inr (5, mF b i j)), (b 25, .inl (1, 1806, .inr (.inl pa)))] V) (fun V9 h => ⟨h, hV⟩) ?_
  show rn C (xRo [(b 0, .inr (5, mF b i j)), (b 25, .inl (1, 1806, .inr (.inl pa)))] V) 0 0 0 [(0, .ref (b 0)), (1, .int (nI N))] []
  refine r_lconst hC 0 dX6_chaseError_0 lc_0 1 rfl ?_
  refine r_lstore_n hC 2 [(2, .long 0), (0, .ref (b 0)), (1, .int (nI N))] dX6_chaseError_1 rfl (Nat.le_of_ble_eq_true rfl) rfl 2 rfl ?_
  refine r_iconst hC 0 dX6_chaseError_2 ic_0 3 rfl ?_
  refine r_istore hC 4 [(4, .int 0), (2, .long 0), (0, .ref (b 0)), (1, .int (nI N))] dX6_chaseError_3 (Nat.le_of_ble_eq_true rfl) rfl 5 rfl ?_
  refine rn.sub (lv' := [(4, .int 0), (2, .long 0), (0, .ref (b 0)), (1, .int (nI N))]) [0, 1, 2, 3] rfl ?_
  refine lpX6_chaseError hG hC rfl rfl b i j pa N hN hN0 N 0 0 (by omega) ?_
  refine r_lload_n hC 0 dX6_chaseError_85 rfl 86 rfl ?_
  exact r_lret hC (Nat.le_of_ble_eq_true rfl) (Nat.le_of_ble_eq_true rfl) (fun V9 h => hQ _ _ ⟨rfl, h.1⟩) dX6_chaseError_86
set_option maxHeartbeats 4000000 in
set_option maxRecDepth 100000 in
theorem lpX6_centreError {C : xC} {V : xV} {k n : Nat} (hG : xGood (xGG C)) (hC : xCtx C RX6 cX6_centreError 7 (some .long) { frames := 2, locals := 46, cells := 0, slots := 0 }) (hk0 : k = 0) (hn0 : n = 0) (b : Nat → Nat) (i : Nat → Int32) (j : Nat → Int64) (pa : Nat → Int64) (N : Nat) (hN : N ≤ 300) (hN0 : 0 < N) : ∀ (f c : Nat) (e : Int64), c + f = N → (rn C (xRo [(b 0, .inr (5, mF b i j)), (b 25, .inl (1, 1806, .inr (.inl pa)))] V) k n 84 [(2, .long (errL (centre1 pa N) f c e))] []) → rn C (xRo [(b 0, .inr (5, mF b i j)), (b 25, .inl (1, 1806, .inr (.inl pa)))] V) k n 5 [(4, .int (nI c)), (2, .long e), (0, .ref (b 0)), (1, .int (nI N))] [] := by
  subst hk0 hn0
  intro f
  induction f with
  | zero =>
    intro c e hc kx
    have hc : c = N := by omega
    subst hc
    refine r_iload hC 0 dX6_centreError_5 rfl 7 rfl ?_
    refine r_iload_n hC 3 dX6_centreError_7 rfl 8 rfl ?_
    refine r_icge hC 84 dX6_centreError_8 (by decide) 11 rfl (fun _ => ?_) (fun h => absurd (Int32.le_refl _) h)
    refine rn.sub (lv' := [(2, .long e)]) [1] rfl ?_
    exact kx
  | succ f ih =>
    intro c e hc kx
    have kx : rn C (xRo [(b 0, .inr (5, mF b i j)), (b 25, .inl (1, 1806, .inr (.inl pa)))] V) 0 0 84 [(2, .long (errL (centre1 pa N) f (c + 1) (centre1 pa N c e)))] [] := kx
    refine r_iload hC 0 dX6_centreError_5 rfl 7 rfl ?_
    refine r_iload_n hC 3 dX6_centreError_7 rfl 8 rfl ?_
    refine r_icge hC 84 dX6_centreError_8 (by decide) 11 rfl (fun h => absurd h (nI_ge (by omega) (by omega))) (fun _ => ?_)
    refine r_iload hC 0 dX6_centreError_11 rfl 13 rfl ?_
    refine r_iload_n hC 3 dX6_centreError_13 rfl 14 rfl ?_
    refine r_iconst hC 2 dX6_centreError_14 ic_2 15 rfl ?_
    refine r_idiv hC (nI (N / 2)) dX6_centreError_15 (by decide) (pk_div (a := N) (d := 2) (by omega) (by omega) (by omega)) 16 rfl ?_
    refine r_iadd hC (nI (c + N / 2)) dX6_centreError_16  (nI_add c (N / 2)) 17 rfl ?_
    refine r_iload_n hC 3 dX6_centreError_17 rfl 18 rfl ?_
    refine r_irem hC (nI ((c + N / 2) % N)) dX6_centreError_18 (nI_ne0 hN0 (by omega)) (pk_rem (a := c + N / 2) (d := N) (by omega) hN0 (by omega)) 19 rfl ?_
    refine r_istore hC 5 [(5, .int (nI ((c + N / 2) % N))), (4, .int (nI c)), (2, .long e), (0, .ref (b 0)), (1, .int (nI N))] dX6_centreError_19 (Nat.le_of_ble_eq_true rfl) rfl 21 rfl ?_
    refine r_iconst hC 0 dX6_centreError_21 ic_0 22 rfl ?_
    refine r_istore hC 6 [(6, .int 0), (5, .int (nI ((c + N / 2) % N))), (4, .int (nI c)), (2, .long e), (0, .ref (b 0)), (1, .int (nI N))] dX6_centreError_22 (Nat.le_of_ble_eq_true rfl) rfl 24 rfl ?_
    refine r_iload hC 0 dX6_centreError_24 rfl 26 rfl ?_
    refine r_iconst hC 3 dX6_centreError_26 ic_3 27 rfl ?_
    refine r_icge hC 78 dX6_centreError_27 (by decide) 30 rfl (fun h => absurd h (by decide)) (fun _ => ?_)
    refine r_lload_n hC 3 dX6_centreError_30 rfl 31 rfl ?_
    refine r_aload_n hC 4 dX6_centreError_31 rfl 32 rfl ?_
    refine r_iload hC 1 dX6_centreError_32 rfl 34 rfl ?_
    refine r_iload hC 0 dX6_centreError_34 rfl 36 rfl ?_
    refine r_invVr hC kX6 (b 0) [.int (nI ((c + N / 2) % N)), .int 0] (.long (pa (6 * ((c + N / 2) % N) + 2 * 0))) mVX6_px q3198 (fun _ h => h.get 0 rfl) (metX6_px _ _ hG b _ _ _ ((c + N / 2) % N) 0 (by have := Nat.mod_lt (c + N / 2) hN0; omega) (Nat.le_of_ble_eq_true rfl)) (fun _ h => h.in.sub [0, 1] rfl rfl) ⟨rfl, rfl⟩ 0 0 rfl rfl (Nat.le_of_ble_eq_true rfl) (Nat.le_of_ble_eq_true rfl) rfl (Nat.le_of_ble_eq_true rfl) dX6_centreError_36 39 rfl ?_
    refine r_aload_n hC 4 dX6_centreError_39 rfl 40 rfl ?_
    refine r_iload hC 2 dX6_centreError_40 rfl 42 rfl ?_
    refine r_iload hC 0 dX6_centreError_42 rfl 44 rfl ?_
    refine r_invVr hC kX6 (b 0) [.int (nI c), .int 0] (.long (pa (6 * c + 2 * 0))) mVX6_px q3198 (fun _ h => h.get 0 rfl) (metX6_px _ _ hG b _ _ _ c 0 (by omega) (Nat.le_of_ble_eq_true rfl)) (fun _ h => h.in.sub [0, 1] rfl rfl) ⟨rfl, rfl⟩ 0 0 rfl rfl (Nat.le_of_ble_eq_true rfl) (Nat.le_of_ble_eq_true rfl) rfl (Nat.le_of_ble_eq_true rfl) dX6_centreError_44 47 rfl ?_
    refine r_ladd hC ((pa (6 * ((c + N / 2) % N) + 2 * 0)) + (pa (6 * c + 2 * 0))) dX6_centreError_47  (rfl) 48 rfl ?_
    refine r_aload_n hC 4 dX6_centreError_48 rfl 49 rfl ?_
    refine r_iload hC 1 dX6_centreError_49 rfl 51 rfl ?_
    refine r_iload hC 0 dX6_centreError_51 rfl 53 rfl ?_
    refine r_invVr hC kX6 (b 0) [.int (nI ((c + N / 2) % N)), .int 0] (.long (pa (6 * ((c + N / 2) % N) + 2 * 0 + 1))) mVX6_py q3202 (fun _ h => h.get 0 rfl) (metX6_py _ _ hG b _ _ _ ((c + N / 2) % N) 0 (by have := Nat.mod_lt (c + N / 2) hN0; omega) (Nat.le_of_ble_eq_true rfl)) (fun _ h => h.in.sub [0, 1] rfl rfl) ⟨rfl, rfl⟩ 0 0 rfl rfl (Nat.le_of_ble_eq_true rfl) (Nat.le_of_ble_eq_true rfl) rfl (Nat.le_of_ble_eq_true rfl) dX6_centreError_53 56 rfl ?_
    refine r_aload_n hC 4 dX6_centreError_56 rfl 57 rfl ?_
    refine r_iload hC 2 dX6_centreError_57 rfl 59 rfl ?_
    refine r_iload hC 0 dX6_centreError_59 rfl 61 rfl ?_
    refine r_invVr hC kX6 (b 0) [.int (nI c), .int 0] (.long (pa (6 * c + 2 * 0 + 1))) mVX6_py q3202 (fun _ h => h.get 0 rfl) (metX6_py _ _ hG b _ _ _ c 0 (by omega) (Nat.le_of_ble_eq_true rfl)) (fun _ h => h.in.sub [0, 1] rfl rfl) ⟨rfl, rfl⟩ 0 0 rfl rfl (Nat.le_of_ble_eq_true rfl) (Nat.le_of_ble_eq_true rfl) rfl (Nat.le_of_ble_eq_true rfl) dX6_centreError_61 64 rfl ?_
    refine r_ladd hC ((pa (6 * ((c + N / 2) % N) + 2 * 0 + 1)) + (pa (6 * c + 2 * 0 + 1))) dX6_centreError_64  (rfl) 65 rfl ?_
    refine r_invSr hC [.long ((pa (6 * ((c + N / 2) % N) + 2 * 0)) + (pa (6 * c + 2 * 0))), .long ((pa (6 * ((c + N / 2) % N) + 2 * 0 + 1)) + (pa (6 * c + 2 * 0 + 1)))] (.long (m_gap ((pa (6 * ((c + N / 2) % N) + 2 * 0)) + (pa (6 * c + 2 * 0))) ((pa (6 * ((c + N / 2) % N) + 2 * 0 + 1)) + (pa (6 * c + 2 * 0 + 1))))) mSX6_gap q3206 (metX6_gap _ _ hG ((pa (6 * ((c + N / 2) % N) + 2 * 0)) + (pa (6 * c + 2 * 0))) ((pa (6 * ((c + N / 2) % N) + 2 * 0 + 1)) + (pa (6 * c + 2 * 0 + 1)))) (fun _ _ => xIn.nil) ⟨rfl, rfl⟩ 0 0 rfl rfl (Nat.le_of_ble_eq_true rfl) (Nat.le_of_ble_eq_true rfl) rfl (Nat.le_of_ble_eq_true rfl) dX6_centreError_65 68 rfl ?_
    refine r_invSr hC [.long e, .long (m_gap ((pa (6 * ((c + N / 2) % N) + 2 * 0)) + (pa (6 * c + 2 * 0))) ((pa (6 * ((c + N / 2) % N) + 2 * 0 + 1)) + (pa (6 * c + 2 * 0 + 1))))] (.long (m_greater e (m_gap ((pa (6 * ((c + N / 2) % N) + 2 * 0)) + (pa (6 * c + 2 * 0))) ((pa (6 * ((c + N / 2) % N) + 2 * 0 + 1)) + (pa (6 * c + 2 * 0 + 1)))))) mSX6_greater q3212 (metX6_greater _ _ hG e (m_gap ((pa (6 * ((c + N / 2) % N) + 2 * 0)) + (pa (6 * c + 2 * 0))) ((pa (6 * ((c + N / 2) % N) + 2 * 0 + 1)) + (pa (6 * c + 2 * 0 + 1))))) (fun _ _ => xIn.nil) ⟨rfl, rfl⟩ 0 0 rfl rfl (Nat.le_of_ble_eq_true rfl) (Nat.le_of_ble_eq_true rfl) rfl (Nat.le_of_ble_eq_true rfl) dX6_centreError_68 71 rfl ?_
    refine r_lstore_n hC 2 [(2, .long (m_greater e (m_gap ((pa (6 * ((c + N / 2) % N) + 2 * 0)) + (pa (6 * c + 2 * 0))) ((pa (6 * ((c + N / 2) % N) + 2 * 0 + 1)) + (pa (6 * c + 2 * 0 + 1)))))), (6, .int 0), (5, .int (nI ((c + N / 2) % N))), (4, .int (nI c)), (0, .ref (b 0)), (1, .int (nI N))] dX6_centreError_71 rfl (Nat.le_of_ble_eq_true rfl) rfl 72 rfl ?_
    refine r_iinc hC 1 6 1 [(6, .int 1), (2, .long (m_greater e (m_gap ((pa (6 * ((c + N / 2) % N) + 2 * 0)) + (pa (6 * c + 2 * 0))) ((pa (6 * ((c + N / 2) % N) + 2 * 0 + 1)) + (pa (6 * c + 2 * 0 + 1)))))), (5, .int (nI ((c + N / 2) % N))), (4, .int (nI c)), (0, .ref (b 0)), (1, .int (nI N))] dX6_centreError_72 rfl (by decide) (Nat.le_of_ble_eq_true rfl) rfl 75 rfl ?_
    refine r_goto hC 24 dX6_centreError_75 (by decide) ?_
    refine r_iload hC 0 dX6_centreError_24 rfl 26 rfl ?_
    refine r_iconst hC 3 dX6_centreError_26 ic_3 27 rfl ?_
    refine r_icge hC 78 dX6_centreError_27 (by decide) 30 rfl (fun h => absurd h (by decide)) (fun _ => ?_)
    refine r_lload_n hC 1 dX6_centreError_30 rfl 31 rfl ?_
    refine r_aload_n hC 4 dX6_centreError_31 rfl 32 rfl ?_
    refine r_iload hC 2 dX6_centreError_32 rfl 34 rfl ?_
    refine r_iload hC 0 dX6_centreError_34 rfl 36 rfl ?_
    refine r_invVr hC kX6 (b 0) [.int (nI ((c + N / 2) % N)), .int 1] (.long (pa (6 * ((c + N / 2) % N) + 2 * 1))) mVX6_px q3198 (fun _ h => h.get 0 rfl) (metX6_px _ _ hG b _ _ _ ((c + N / 2) % N) 1 (by have := Nat.mod_lt (c + N / 2) hN0; omega) (Nat.le_of_ble_eq_true rfl)) (fun _ h => h.in.sub [0, 1] rfl rfl) ⟨rfl, rfl⟩ 0 0 rfl rfl (Nat.le_of_ble_eq_true rfl) (Nat.le_of_ble_eq_true rfl) rfl (Nat.le_of_ble_eq_true rfl) dX6_centreError_36 39 rfl ?_
    refine r_aload_n hC 4 dX6_centreError_39 rfl 40 rfl ?_
    refine r_iload hC 3 dX6_centreError_40 rfl 42 rfl ?_
    refine r_iload hC 0 dX6_centreError_42 rfl 44 rfl ?_
    refine r_invVr hC kX6 (b 0) [.int (nI c), .int 1] (.long (pa (6 * c + 2 * 1))) mVX6_px q3198 (fun _ h => h.get 0 rfl) (metX6_px _ _ hG b _ _ _ c 1 (by omega) (Nat.le_of_ble_eq_true rfl)) (fun _ h => h.in.sub [0, 1] rfl rfl) ⟨rfl, rfl⟩ 0 0 rfl rfl (Nat.le_of_ble_eq_true rfl) (Nat.le_of_ble_eq_true rfl) rfl (Nat.le_of_ble_eq_true rfl) dX6_centreError_44 47 rfl ?_
    refine r_ladd hC ((pa (6 * ((c + N / 2) % N) + 2 * 1)) + (pa (6 * c + 2 * 1))) dX6_centreError_47  (rfl) 48 rfl ?_
    refine r_aload_n hC 4 dX6_centreError_48 rfl 49 rfl ?_
    refine r_iload hC 2 dX6_centreError_49 rfl 51 rfl ?_
    refine r_iload hC 0 dX6_centreError_51 rfl 53 rfl ?_
    refine r_invVr hC kX6 (b 0) [.int (nI ((c + N / 2) % N)), .int 1] (.long (pa (6 * ((c + N / 2) % N) + 2 * 1 + 1))) mVX6_py q3202 (fun _ h => h.get 0 rfl) (metX6_py _ _ hG b _ _ _ ((c + N / 2) % N) 1 (by have := Nat.mod_lt (c + N / 2) hN0; omega) (Nat.le_of_ble_eq_true rfl)) (fun _ h => h.in.sub [0, 1] rfl rfl) ⟨rfl, rfl⟩ 0 0 rfl rfl (Nat.le_of_ble_eq_true rfl) (Nat.le_of_ble_eq_true rfl) rfl (Nat.le_of_ble_eq_true rfl) dX6_centreError_53 56 rfl ?_
    refine r_aload_n hC 4 dX6_centreError_56 rfl 57 rfl ?_
    refine r_iload hC 3 dX6_centreError_57 rfl 59 rfl ?_
    refine r_iload hC 0 dX6_centreError_59 rfl 61 rfl ?_
    refine r_invVr hC kX6 (b 0) [.int (nI c), .int 1] (.long (pa (6 * c + 2 * 1 + 1))) mVX6_py q3202 (fun _ h => h.get 0 rfl) (metX6_py _ _ hG b _ _ _ c 1 (by omega) (Nat.le_of_ble_eq_true rfl)) (fun _ h => h.in.sub [0, 1] rfl rfl) ⟨rfl, rfl⟩ 0 0 rfl rfl (Nat.le_of_ble_eq_true rfl) (Nat.le_of_ble_eq_true rfl) rfl (Nat.le_of_ble_eq_true rfl) dX6_centreError_61 64 rfl ?_
    refine r_ladd hC ((pa (6 * ((c + N / 2) % N) + 2 * 1 + 1)) + (pa (6 * c + 2 * 1 + 1))) dX6_centreError_64  (rfl) 65 rfl ?_
    refine r_invSr hC [.long ((pa (6 * ((c + N / 2) % N) + 2 * 1)) + (pa (6 * c + 2 * 1))), .long ((pa (6 * ((c + N / 2) % N) + 2 * 1 + 1)) + (pa (6 * c + 2 * 1 + 1)))] (.long (m_gap ((pa (6 * ((c + N / 2) % N) + 2 * 1)) + (pa (6 * c + 2 * 1))) ((pa (6 * ((c + N / 2) % N) + 2 * 1 + 1)) + (pa (6 * c + 2 * 1 + 1))))) mSX6_gap q3206 (metX6_gap _ _ hG ((pa (6 * ((c + N / 2) % N) + 2 * 1)) + (pa (6 * c + 2 * 1))) ((pa (6 * ((c + N / 2) % N) + 2 * 1 + 1)) + (pa (6 * c + 2 * 1 + 1)))) (fun _ _ => xIn.nil) ⟨rfl, rfl⟩ 0 0 rfl rfl (Nat.le_of_ble_eq_true rfl) (Nat.le_of_ble_eq_true rfl) rfl (Nat.le_of_ble_eq_true rfl) dX6_centreError_65 68 rfl ?_
    refine r_invSr hC [.long (m_greater e (m_gap ((pa (6 * ((c + N / 2) % N) + 2 * 0)) + (pa (6 * c + 2 * 0))) ((pa (6 * ((c + N / 2) % N) + 2 * 0 + 1)) + (pa (6 * c + 2 * 0 + 1))))), .long (m_gap ((pa (6 * ((c + N / 2) % N) + 2 * 1)) + (pa (6 * c + 2 * 1))) ((pa (6 * ((c + N / 2) % N) + 2 * 1 + 1)) + (pa (6 * c + 2 * 1 + 1))))] (.long (m_greater (m_greater e (m_gap ((pa (6 * ((c + N / 2) % N) + 2 * 0)) + (pa (6 * c + 2 * 0))) ((pa (6 * ((c + N / 2) % N) + 2 * 0 + 1)) + (pa (6 * c + 2 * 0 + 1))))) (m_gap ((pa (6 * ((c + N / 2) % N) + 2 * 1)) + (pa (6 * c + 2 * 1))) ((pa (6 * ((c + N / 2) % N) + 2 * 1 + 1)) + (pa (6 * c + 2 * 1 + 1)))))) mSX6_greater q3212 (metX6_greater _ _ hG (m_greater e (m_gap ((pa (6 * ((c + N / 2) % N) + 2 * 0)) + (pa (6 * c + 2 * 0))) ((pa (6 * ((c + N / 2) % N) + 2 * 0 + 1)) + (pa (6 * c + 2 * 0 + 1))))) (m_gap ((pa (6 * ((c + N / 2) % N) + 2 * 1)) + (pa (6 * c + 2 * 1))) ((pa (6 * ((c + N / 2) % N) + 2 * 1 + 1)) + (pa (6 * c + 2 * 1 + 1))))) (fun _ _ => xIn.nil) ⟨rfl, rfl⟩ 0 0 rfl rfl (Nat.le_of_ble_eq_true rfl) (Nat.le_of_ble_eq_true rfl) rfl (Nat.le_of_ble_eq_true rfl) dX6_centreError_68 71 rfl ?_
    refine r_lstore_n hC 2 [(2, .long (m_greater (m_greater e (m_gap ((pa (6 * ((c + N / 2) % N) + 2 * 0)) + (pa (6 * c + 2 * 0))) ((pa (6 * ((c + N / 2) % N) + 2 * 0 + 1)) + (pa (6 * c + 2 * 0 + 1))))) (m_gap ((pa (6 * ((c + N / 2) % N) + 2 * 1)) + (pa (6 * c + 2 * 1))) ((pa (6 * ((c + N / 2) % N) + 2 * 1 + 1)) + (pa (6 * c + 2 * 1 + 1)))))), (6, .int 1), (5, .int (nI ((c + N / 2) % N))), (4, .int (nI c)), (0, .ref (b 0)), (1, .int (nI N))] dX6_centreError_71 rfl (Nat.le_of_ble_eq_true rfl) rfl 72 rfl ?_
    refine r_iinc hC 2 6 1 [(6, .int 2), (2, .long (m_greater (m_greater e (m_gap ((pa (6 * ((c + N / 2) % N) + 2 * 0)) + (pa (6 * c + 2 * 0))) ((pa (6 * ((c + N / 2) % N) + 2 * 0 + 1)) + (pa (6 * c + 2 * 0 + 1))))) (m_gap ((pa (6 * ((c + N / 2) % N) + 2 * 1)) + (pa (6 * c + 2 * 1))) ((pa (6 * ((c + N / 2) % N) + 2 * 1 + 1)) + (pa (6 * c + 2 * 1 + 1)))))), (5, .int (nI ((c + N / 2) % N))), (4, .int (nI c)), (0, .ref (b 0)), (1, .int (nI N))] dX6_centreError_72 rfl (by decide) (Nat.le_of_ble_eq_true rfl) rfl 75 rfl ?_
    refine r_goto hC 24 dX6_centreError_75 (by decide) ?_
    refine r_iload hC 0 dX6_centreError_24 rfl 26 rfl ?_
    refine r_iconst hC 3 dX6_centreError_26 ic_3 27 rfl ?_
    refine r_icge hC 78 dX6_centreError_27 (by decide) 30 rfl (fun h => absurd h (by decide)) (fun _ => ?_)
    refine r_lload_n hC 1 dX6_centreError_30 rfl 31 rfl ?_
    refine r_aload_n hC 4 dX6_centreError_31 rfl 32 rfl ?_
    refine r_iload hC 2 dX6_centreError_32 rfl 34 rfl ?_
    refine r_iload hC 0 dX6_centreError_34 rfl 36 rfl ?_
    refine r_invVr hC kX6 (b 0) [.int (nI ((c + N / 2) % N)), .int 2] (.long (pa (6 * ((c + N / 2) % N) + 2 * 2))) mVX6_px q3198 (fun _ h => h.get 0 rfl) (metX6_px _ _ hG b _ _ _ ((c + N / 2) % N) 2 (by have := Nat.mod_lt (c + N / 2) hN0; omega) (Nat.le_of_ble_eq_true rfl)) (fun _ h => h.in.sub [0, 1] rfl rfl) ⟨rfl, rfl⟩ 0 0 rfl rfl (Nat.le_of_ble_eq_true rfl) (Nat.le_of_ble_eq_true rfl) rfl (Nat.le_of_ble_eq_true rfl) dX6_centreError_36 39 rfl ?_
    refine r_aload_n hC 4 dX6_centreError_39 rfl 40 rfl ?_
    refine r_iload hC 3 dX6_centreError_40 rfl 42 rfl ?_
    refine r_iload hC 0 dX6_centreError_42 rfl 44 rfl ?_
    refine r_invVr hC kX6 (b 0) [.int (nI c), .int 2] (.long (pa (6 * c + 2 * 2))) mVX6_px q3198 (fun _ h => h.get 0 rfl) (metX6_px _ _ hG b _ _ _ c 2 (by omega) (Nat.le_of_ble_eq_true rfl)) (fun _ h => h.in.sub [0, 1] rfl rfl) ⟨rfl, rfl⟩ 0 0 rfl rfl (Nat.le_of_ble_eq_true rfl) (Nat.le_of_ble_eq_true rfl) rfl (Nat.le_of_ble_eq_true rfl) dX6_centreError_44 47 rfl ?_
    refine r_ladd hC ((pa (6 * ((c + N / 2) % N) + 2 * 2)) + (pa (6 * c + 2 * 2))) dX6_centreError_47  (rfl) 48 rfl ?_
    refine r_aload_n hC 4 dX6_centreError_48 rfl 49 rfl ?_
    refine r_iload hC 2 dX6_centreError_49 rfl 51 rfl ?_
    refine r_iload hC 0 dX6_centreError_51 rfl 53 rfl ?_
    refine r_invVr hC kX6 (b 0) [.int (nI ((c + N / 2) % N)), .int 2] (.long (pa (6 * ((c + N / 2) % N) + 2 * 2 + 1))) mVX6_py q3202 (fun _ h => h.get 0 rfl) (metX6_py _ _ hG b _ _ _ ((c + N / 2) % N) 2 (by have := Nat.mod_lt (c + N / 2) hN0; omega) (Nat.le_of_ble_eq_true rfl)) (fun _ h => h.in.sub [0, 1] rfl rfl) ⟨rfl, rfl⟩ 0 0 rfl rfl (Nat.le_of_ble_eq_true rfl) (Nat.le_of_ble_eq_true rfl) rfl (Nat.le_of_ble_eq_true rfl) dX6_centreError_53 56 rfl ?_
    refine r_aload_n hC 4 dX6_centreError_56 rfl 57 rfl ?_
    refine r_iload hC 3 dX6_centreError_57 rfl 59 rfl ?_
    refine r_iload hC 0 dX6_centreError_59 rfl 61 rfl ?_
    refine r_invVr hC kX6 (b 0) [.int (nI c), .int 2] (.long (pa (6 * c + 2 * 2 + 1))) mVX6_py q3202 (fun _ h => h.get 0 rfl) (metX6_py _ _ hG b _ _ _ c 2 (by omega) (Nat.le_of_ble_eq_true rfl)) (fun _ h => h.in.sub [0, 1] rfl rfl) ⟨rfl, rfl⟩ 0 0 rfl rfl (Nat.le_of_ble_eq_true rfl) (Nat.le_of_ble_eq_true rfl) rfl (Nat.le_of_ble_eq_true rfl) dX6_centreError_61 64 rfl ?_
    refine r_ladd hC ((pa (6 * ((c + N / 2) % N) + 2 * 2 + 1)) + (pa (6 * c + 2 * 2 + 1))) dX6_centreError_64  (rfl) 65 rfl ?_
    refine r_invSr hC [.long ((pa (6 * ((c + N / 2) % N) + 2 * 2)) + (pa (6 * c + 2 * 2))), .long ((pa (6 * ((c + N / 2) % N) + 2 * 2 + 1)) + (pa (6 * c + 2 * 2 + 1)))] (.long (m_gap ((pa (6 * ((c + N / 2) % N) + 2 * 2)) + (pa (6 * c + 2 * 2))) ((pa (6 * ((c + N / 2) % N) + 2 * 2 + 1)) + (pa (6 * c + 2 * 2 + 1))))) mSX6_gap q3206 (metX6_gap _ _ hG ((pa (6 * ((c + N / 2) % N) + 2 * 2)) + (pa (6 * c + 2 * 2))) ((pa (6 * ((c + N / 2) % N) + 2 * 2 + 1)) + (pa (6 * c + 2 * 2 + 1)))) (fun _ _ => xIn.nil) ⟨rfl, rfl⟩ 0 0 rfl rfl (Nat.le_of_ble_eq_true rfl) (Nat.le_of_ble_eq_true rfl) rfl (Nat.le_of_ble_eq_true rfl) dX6_centreError_65 68 rfl ?_
    refine r_invSr hC [.long (m_greater (m_greater e (m_gap ((pa (6 * ((c + N / 2) % N) + 2 * 0)) + (pa (6 * c + 2 * 0))) ((pa (6 * ((c + N / 2) % N) + 2 * 0 + 1)) + (pa (6 * c + 2 * 0 + 1))))) (m_gap ((pa (6 * ((c + N / 2) % N) + 2 * 1)) + (pa (6 * c + 2 * 1))) ((pa (6 * ((c + N / 2) % N) + 2 * 1 + 1)) + (pa (6 * c + 2 * 1 + 1))))), .long (m_gap ((pa (6 * ((c + N / 2) % N) + 2 * 2)) + (pa (6 * c + 2 * 2))) ((pa (6 * ((c + N / 2) % N) + 2 * 2 + 1)) + (pa (6 * c + 2 * 2 + 1))))] (.long (m_greater (m_greater (m_greater e (m_gap ((pa (6 * ((c + N / 2) % N) + 2 * 0)) + (pa (6 * c + 2 * 0))) ((pa (6 * ((c + N / 2) % N) + 2 * 0 + 1)) + (pa (6 * c + 2 * 0 + 1))))) (m_gap ((pa (6 * ((c + N / 2) % N) + 2 * 1)) + (pa (6 * c + 2 * 1))) ((pa (6 * ((c + N / 2) % N) + 2 * 1 + 1)) + (pa (6 * c + 2 * 1 + 1))))) (m_gap ((pa (6 * ((c + N / 2) % N) + 2 * 2)) + (pa (6 * c + 2 * 2))) ((pa (6 * ((c + N / 2) % N) + 2 * 2 + 1)) + (pa (6 * c + 2 * 2 + 1)))))) mSX6_greater q3212 (metX6_greater _ _ hG (m_greater (m_greater e (m_gap ((pa (6 * ((c + N / 2) % N) + 2 * 0)) + (pa (6 * c + 2 * 0))) ((pa (6 * ((c + N / 2) % N) + 2 * 0 + 1)) + (pa (6 * c + 2 * 0 + 1))))) (m_gap ((pa (6 * ((c + N / 2) % N) + 2 * 1)) + (pa (6 * c + 2 * 1))) ((pa (6 * ((c + N / 2) % N) + 2 * 1 + 1)) + (pa (6 * c + 2 * 1 + 1))))) (m_gap ((pa (6 * ((c + N / 2) % N) + 2 * 2)) + (pa (6 * c + 2 * 2))) ((pa (6 * ((c + N / 2) % N) + 2 * 2 + 1)) + (pa (6 * c + 2 * 2 + 1))))) (fun _ _ => xIn.nil) ⟨rfl, rfl⟩ 0 0 rfl rfl (Nat.le_of_ble_eq_true rfl) (Nat.le_of_ble_eq_true rfl) rfl (Nat.le_of_ble_eq_true rfl) dX6_centreError_68 71 rfl ?_
    refine r_lstore_n hC 2 [(2, .long (m_greater (m_greater (m_greater e (m_gap ((pa (6 * ((c + N / 2) % N) + 2 * 0)) + (pa (6 * c + 2 * 0))) ((pa (6 * ((c + N / 2) % N) + 2 * 0 + 1)) + (pa (6 * c + 2 * 0 + 1))))) (m_gap ((pa (6 * ((c + N / 2) % N) + 2 * 1)) + (pa (6 * c + 2 * 1))) ((pa (6 * ((c + N / 2) % N) + 2 * 1 + 1)) + (pa (6 * c + 2 * 1 + 1))))) (m_gap ((pa (6 * ((c + N / 2) % N) + 2 * 2)) + (pa (6 * c + 2 * 2))) ((pa (6 * ((c + N / 2) % N) + 2 * 2 + 1)) + (pa (6 * c + 2 * 2 + 1)))))), (6, .int 2), (5, .int (nI ((c + N / 2) % N))), (4, .int (nI c)), (0, .ref (b 0)), (1, .int (nI N))] dX6_centreError_71 rfl (Nat.le_of_ble_eq_true rfl) rfl 72 rfl ?_
    refine r_iinc hC 3 6 1 [(6, .int 3), (2, .long (m_greater (m_greater (m_greater e (m_gap ((pa (6 * ((c + N / 2) % N) + 2 * 0)) + (pa (6 * c + 2 * 0))) ((pa (6 * ((c + N / 2) % N) + 2 * 0 + 1)) + (pa (6 * c + 2 * 0 + 1))))) (m_gap ((pa (6 * ((c + N / 2) % N) + 2 * 1)) + (pa (6 * c + 2 * 1))) ((pa (6 * ((c + N / 2) % N) + 2 * 1 + 1)) + (pa (6 * c + 2 * 1 + 1))))) (m_gap ((pa (6 * ((c + N / 2) % N) + 2 * 2)) + (pa (6 * c + 2 * 2))) ((pa (6 * ((c + N / 2) % N) + 2 * 2 + 1)) + (pa (6 * c + 2 * 2 + 1)))))), (5, .int (nI ((c + N / 2) % N))), (4, .int (nI c)), (0, .ref (b 0)), (1, .int (nI N))] dX6_centreError_72 rfl (by decide) (Nat.le_of_ble_eq_true rfl) rfl 75 rfl ?_
    refine r_goto hC 24 dX6_centreError_75 (by decide) ?_
    refine r_iload hC 0 dX6_centreError_24 rfl 26 rfl ?_
    refine r_iconst hC 3 dX6_centreError_26 ic_3 27 rfl ?_
    refine r_icge hC 78 dX6_centreError_27 (by decide) 30 rfl (fun _ => ?_) (fun h => absurd h (by decide))
    refine r_iinc hC (nI (c + 1)) 4 3 [(4, .int (nI (c + 1))), (6, .int 3), (2, .long (m_greater (m_greater (m_greater e (m_gap ((pa (6 * ((c + N / 2) % N) + 2 * 0)) + (pa (6 * c + 2 * 0))) ((pa (6 * ((c + N / 2) % N) + 2 * 0 + 1)) + (pa (6 * c + 2 * 0 + 1))))) (m_gap ((pa (6 * ((c + N / 2) % N) + 2 * 1)) + (pa (6 * c + 2 * 1))) ((pa (6 * ((c + N / 2) % N) + 2 * 1 + 1)) + (pa (6 * c + 2 * 1 + 1))))) (m_gap ((pa (6 * ((c + N / 2) % N) + 2 * 2)) + (pa (6 * c + 2 * 2))) ((pa (6 * ((c + N / 2) % N) + 2 * 2 + 1)) + (pa (6 * c + 2 * 2 + 1)))))), (5, .int (nI ((c + N / 2) % N))), (0, .ref (b 0)), (1, .int (nI N))] dX6_centreError_78 rfl (nI_add c 1) (Nat.le_of_ble_eq_true rfl) rfl 81 rfl ?_
    refine r_goto hC 5 dX6_centreError_81 (by decide) ?_
    refine rn.sub (lv' := [(4, .int (nI (c + 1))), (2, .long (m_greater (m_greater (m_greater e (m_gap ((pa (6 * ((c + N / 2) % N) + 2 * 0)) + (pa (6 * c + 2 * 0))) ((pa (6 * ((c + N / 2) % N) + 2 * 0 + 1)) + (pa (6 * c + 2 * 0 + 1))))) (m_gap ((pa (6 * ((c + N / 2) % N) + 2 * 1)) + (pa (6 * c + 2 * 1))) ((pa (6 * ((c + N / 2) % N) + 2 * 1 + 1)) + (pa (6 * c + 2 * 1 + 1))))) (m_gap ((pa (6 * ((c + N / 2) % N) + 2 * 2)) + (pa (6 * c + 2 * 2))) ((pa (6 * ((c + N / 2) % N) + 2 * 2 + 1)) + (pa (6 * c + 2 * 2 + 1)))))), (0, .ref (b 0)), (1, .int (nI N))]) [0, 2, 4, 5] rfl ?_
    exact ih (c + 1) (centre1 pa N c e) (by omega) kx
set_option maxHeartbeats 4000000 in
set_option maxRecDepth 100000 in
theorem metX6_centreError (l : Launch) (G : xG) (hG : xGood G) (b : Nat → Nat) (i : Nat → Int32) (j : Nat → Int64) (pa : Nat → Int64) (N : Nat) (hN : N ≤ 300) (hN0 : 0 < N) : xRm l G yX6_centreError (Cond.code yX6_centreError cX6_centreError 7 (some .long)) { frames := 2, locals := 46, cells := 0, slots := 0 } [.ref (b 0), .int (nI N)] [(b 0, .inr (5, mF b i j)), (b 25, .inl (1, 1806, .inr (.inl pa)))] (some (.long (centreQ pa N))) := by
  intro V hV
  refine xMet_of RX6 hG rfl (by decide) (Nat.le_of_ble_eq_true rfl) fun C hC hQ hX hl hg _ => ?_
  subst hl hg
  refine rn.mono (J := xRo [(b 0, .inr (5, mF b i j)), (b 25, .inl (1, 1806, .inr (.inl pa)))] V) (fun V9 h => ⟨h, hV⟩) ?_
  show rn C (xRo [(b 0, .inr (5, mF b i j)), (b 25, .inl (1, 1806, .inr (.inl pa)))] V) 0 0 0 [(0, .ref (b 0)), (1, .int (nI N))] []
  refine r_lconst hC 0 dX6_centreError_0 lc_0 1 rfl ?_
  refine r_lstore_n hC 2 [(2, .long 0), (0, .ref (b 0)), (1, .int (nI N))] dX6_centreError_1 rfl (Nat.le_of_ble_eq_true rfl) rfl 2 rfl ?_
  refine r_iconst hC 0 dX6_centreError_2 ic_0 3 rfl ?_
  refine r_istore hC 4 [(4, .int 0), (2, .long 0), (0, .ref (b 0)), (1, .int (nI N))] dX6_centreError_3 (Nat.le_of_ble_eq_true rfl) rfl 5 rfl ?_
  refine rn.sub (lv' := [(4, .int 0), (2, .long 0), (0, .ref (b 0)), (1, .int (nI N))]) [0, 1, 2, 3] rfl ?_
  refine lpX6_centreError hG hC rfl rfl b i j pa N hN hN0 N 0 0 (by omega) ?_
  refine r_lload_n hC 0 dX6_centreError_84 rfl 85 rfl ?_
  exact r_lret hC (Nat.le_of_ble_eq_true rfl) (Nat.le_of_ble_eq_true rfl) (fun V9 h => hQ _ _ ⟨rfl, h.1⟩) dX6_centreError_85
set_option maxHeartbeats 4000000 in
set_option maxRecDepth 100000 in
theorem lpX6_mirrorError {C : xC} {V : xV} {k n : Nat} (hG : xGood (xGG C)) (hC : xCtx C RX6 cX6_mirrorError 7 (some .long) { frames := 2, locals := 46, cells := 0, slots := 0 }) (hk0 : k = 0) (hn0 : n = 0) (b : Nat → Nat) (i : Nat → Int32) (j : Nat → Int64) (pa : Nat → Int64) (N : Nat) (hN : N ≤ 300) (hN0 : 0 < N) : ∀ (f c : Nat) (e : Int64), c + f = N → (rn C (xRo [(b 0, .inr (5, mF b i j)), (b 25, .inl (1, 1806, .inr (.inl pa)))] V) k n 82 [(2, .long (errL (mirror1 pa N) f c e))] []) → rn C (xRo [(b 0, .inr (5, mF b i j)), (b 25, .inl (1, 1806, .inr (.inl pa)))] V) k n 5 [(4, .int (nI c)), (2, .long e), (0, .ref (b 0)), (1, .int (nI N))] [] := by
  subst hk0 hn0
  intro f
  induction f with
  | zero =>
    intro c e hc kx
    have hc : c = N := by omega
    subst hc
    refine r_iload hC 0 dX6_mirrorError_5 rfl 7 rfl ?_
    refine r_iload_n hC 3 dX6_mirrorError_7 rfl 8 rfl ?_
    refine r_icge hC 82 dX6_mirrorError_8 (by decide) 11 rfl (fun _ => ?_) (fun h => absurd (Int32.le_refl _) h)
    refine rn.sub (lv' := [(2, .long e)]) [1] rfl ?_
    exact kx
  | succ f ih =>
    intro c e hc kx
    have kx : rn C (xRo [(b 0, .inr (5, mF b i j)), (b 25, .inl (1, 1806, .inr (.inl pa)))] V) 0 0 82 [(2, .long (errL (mirror1 pa N) f (c + 1) (mirror1 pa N c e)))] [] := kx
    refine r_iload hC 0 dX6_mirrorError_5 rfl 7 rfl ?_
    refine r_iload_n hC 3 dX6_mirrorError_7 rfl 8 rfl ?_
    refine r_icge hC 82 dX6_mirrorError_8 (by decide) 11 rfl (fun h => absurd h (nI_ge (by omega) (by omega))) (fun _ => ?_)
    refine r_iload_n hC 3 dX6_mirrorError_11 rfl 12 rfl ?_
    refine r_iload hC 0 dX6_mirrorError_12 rfl 14 rfl ?_
    refine r_isub hC (nI (N - c)) dX6_mirrorError_14  (pk_sub (a := N) (b := c) (by omega)) 15 rfl ?_
    refine r_iload_n hC 3 dX6_mirrorError_15 rfl 16 rfl ?_
    refine r_irem hC (nI ((N - c) % N)) dX6_mirrorError_16 (nI_ne0 hN0 (by omega)) (pk_rem (a := N - c) (d := N) (by omega) hN0 (by omega)) 17 rfl ?_
    refine r_istore hC 5 [(5, .int (nI ((N - c) % N))), (4, .int (nI c)), (2, .long e), (0, .ref (b 0)), (1, .int (nI N))] dX6_mirrorError_17 (Nat.le_of_ble_eq_true rfl) rfl 19 rfl ?_
    refine r_iconst hC 0 dX6_mirrorError_19 ic_0 20 rfl ?_
    refine r_istore hC 6 [(6, .int 0), (5, .int (nI ((N - c) % N))), (4, .int (nI c)), (2, .long e), (0, .ref (b 0)), (1, .int (nI N))] dX6_mirrorError_20 (Nat.le_of_ble_eq_true rfl) rfl 22 rfl ?_
    refine r_iload hC 0 dX6_mirrorError_22 rfl 24 rfl ?_
    refine r_iconst hC 3 dX6_mirrorError_24 ic_3 25 rfl ?_
    refine r_icge hC 76 dX6_mirrorError_25 (by decide) 28 rfl (fun h => absurd h (by decide)) (fun _ => ?_)
    refine r_lload_n hC 3 dX6_mirrorError_28 rfl 29 rfl ?_
    refine r_aload_n hC 4 dX6_mirrorError_29 rfl 30 rfl ?_
    refine r_iload hC 1 dX6_mirrorError_30 rfl 32 rfl ?_
    refine r_iload hC 0 dX6_mirrorError_32 rfl 34 rfl ?_
    refine r_invVr hC kX6 (b 0) [.int (nI ((N - c) % N)), .int 0] (.long (pa (6 * ((N - c) % N) + 2 * 0))) mVX6_px q3198 (fun _ h => h.get 0 rfl) (metX6_px _ _ hG b _ _ _ ((N - c) % N) 0 (by have := Nat.mod_lt (N - c) hN0; omega) (Nat.le_of_ble_eq_true rfl)) (fun _ h => h.in.sub [0, 1] rfl rfl) ⟨rfl, rfl⟩ 0 0 rfl rfl (Nat.le_of_ble_eq_true rfl) (Nat.le_of_ble_eq_true rfl) rfl (Nat.le_of_ble_eq_true rfl) dX6_mirrorError_34 37 rfl ?_
    refine r_aload_n hC 4 dX6_mirrorError_37 rfl 38 rfl ?_
    refine r_iload hC 2 dX6_mirrorError_38 rfl 40 rfl ?_
    refine r_iload hC 0 dX6_mirrorError_40 rfl 42 rfl ?_
    refine r_invVr hC kX6 (b 0) [.int (nI c), .int 0] (.long (pa (6 * c + 2 * 0))) mVX6_px q3198 (fun _ h => h.get 0 rfl) (metX6_px _ _ hG b _ _ _ c 0 (by omega) (Nat.le_of_ble_eq_true rfl)) (fun _ h => h.in.sub [0, 1] rfl rfl) ⟨rfl, rfl⟩ 0 0 rfl rfl (Nat.le_of_ble_eq_true rfl) (Nat.le_of_ble_eq_true rfl) rfl (Nat.le_of_ble_eq_true rfl) dX6_mirrorError_42 45 rfl ?_
    refine r_lsub hC ((pa (6 * ((N - c) % N) + 2 * 0)) - (pa (6 * c + 2 * 0))) dX6_mirrorError_45  (rfl) 46 rfl ?_
    refine r_aload_n hC 4 dX6_mirrorError_46 rfl 47 rfl ?_
    refine r_iload hC 1 dX6_mirrorError_47 rfl 49 rfl ?_
    refine r_iload hC 0 dX6_mirrorError_49 rfl 51 rfl ?_
    refine r_invVr hC kX6 (b 0) [.int (nI ((N - c) % N)), .int 0] (.long (pa (6 * ((N - c) % N) + 2 * 0 + 1))) mVX6_py q3202 (fun _ h => h.get 0 rfl) (metX6_py _ _ hG b _ _ _ ((N - c) % N) 0 (by have := Nat.mod_lt (N - c) hN0; omega) (Nat.le_of_ble_eq_true rfl)) (fun _ h => h.in.sub [0, 1] rfl rfl) ⟨rfl, rfl⟩ 0 0 rfl rfl (Nat.le_of_ble_eq_true rfl) (Nat.le_of_ble_eq_true rfl) rfl (Nat.le_of_ble_eq_true rfl) dX6_mirrorError_51 54 rfl ?_
    refine r_aload_n hC 4 dX6_mirrorError_54 rfl 55 rfl ?_
    refine r_iload hC 2 dX6_mirrorError_55 rfl 57 rfl ?_
    refine r_iload hC 0 dX6_mirrorError_57 rfl 59 rfl ?_
    refine r_invVr hC kX6 (b 0) [.int (nI c), .int 0] (.long (pa (6 * c + 2 * 0 + 1))) mVX6_py q3202 (fun _ h => h.get 0 rfl) (metX6_py _ _ hG b _ _ _ c 0 (by omega) (Nat.le_of_ble_eq_true rfl)) (fun _ h => h.in.sub [0, 1] rfl rfl) ⟨rfl, rfl⟩ 0 0 rfl rfl (Nat.le_of_ble_eq_true rfl) (Nat.le_of_ble_eq_true rfl) rfl (Nat.le_of_ble_eq_true rfl) dX6_mirrorError_59 62 rfl ?_
    refine r_ladd hC ((pa (6 * ((N - c) % N) + 2 * 0 + 1)) + (pa (6 * c + 2 * 0 + 1))) dX6_mirrorError_62  (rfl) 63 rfl ?_
    refine r_invSr hC [.long ((pa (6 * ((N - c) % N) + 2 * 0)) - (pa (6 * c + 2 * 0))), .long ((pa (6 * ((N - c) % N) + 2 * 0 + 1)) + (pa (6 * c + 2 * 0 + 1)))] (.long (m_gap ((pa (6 * ((N - c) % N) + 2 * 0)) - (pa (6 * c + 2 * 0))) ((pa (6 * ((N - c) % N) + 2 * 0 + 1)) + (pa (6 * c + 2 * 0 + 1))))) mSX6_gap q3206 (metX6_gap _ _ hG ((pa (6 * ((N - c) % N) + 2 * 0)) - (pa (6 * c + 2 * 0))) ((pa (6 * ((N - c) % N) + 2 * 0 + 1)) + (pa (6 * c + 2 * 0 + 1)))) (fun _ _ => xIn.nil) ⟨rfl, rfl⟩ 0 0 rfl rfl (Nat.le_of_ble_eq_true rfl) (Nat.le_of_ble_eq_true rfl) rfl (Nat.le_of_ble_eq_true rfl) dX6_mirrorError_63 66 rfl ?_
    refine r_invSr hC [.long e, .long (m_gap ((pa (6 * ((N - c) % N) + 2 * 0)) - (pa (6 * c + 2 * 0))) ((pa (6 * ((N - c) % N) + 2 * 0 + 1)) + (pa (6 * c + 2 * 0 + 1))))] (.long (m_greater e (m_gap ((pa (6 * ((N - c) % N) + 2 * 0)) - (pa (6 * c + 2 * 0))) ((pa (6 * ((N - c) % N) + 2 * 0 + 1)) + (pa (6 * c + 2 * 0 + 1)))))) mSX6_greater q3212 (metX6_greater _ _ hG e (m_gap ((pa (6 * ((N - c) % N) + 2 * 0)) - (pa (6 * c + 2 * 0))) ((pa (6 * ((N - c) % N) + 2 * 0 + 1)) + (pa (6 * c + 2 * 0 + 1))))) (fun _ _ => xIn.nil) ⟨rfl, rfl⟩ 0 0 rfl rfl (Nat.le_of_ble_eq_true rfl) (Nat.le_of_ble_eq_true rfl) rfl (Nat.le_of_ble_eq_true rfl) dX6_mirrorError_66 69 rfl ?_
    refine r_lstore_n hC 2 [(2, .long (m_greater e (m_gap ((pa (6 * ((N - c) % N) + 2 * 0)) - (pa (6 * c + 2 * 0))) ((pa (6 * ((N - c) % N) + 2 * 0 + 1)) + (pa (6 * c + 2 * 0 + 1)))))), (6, .int 0), (5, .int (nI ((N - c) % N))), (4, .int (nI c)), (0, .ref (b 0)), (1, .int (nI N))] dX6_mirrorError_69 rfl (Nat.le_of_ble_eq_true rfl) rfl 70 rfl ?_
    refine r_iinc hC 1 6 1 [(6, .int 1), (2, .long (m_greater e (m_gap ((pa (6 * ((N - c) % N) + 2 * 0)) - (pa (6 * c + 2 * 0))) ((pa (6 * ((N - c) % N) + 2 * 0 + 1)) + (pa (6 * c + 2 * 0 + 1)))))), (5, .int (nI ((N - c) % N))), (4, .int (nI c)), (0, .ref (b 0)), (1, .int (nI N))] dX6_mirrorError_70 rfl (by decide) (Nat.le_of_ble_eq_true rfl) rfl 73 rfl ?_
    refine r_goto hC 22 dX6_mirrorError_73 (by decide) ?_
    refine r_iload hC 0 dX6_mirrorError_22 rfl 24 rfl ?_
    refine r_iconst hC 3 dX6_mirrorError_24 ic_3 25 rfl ?_
    refine r_icge hC 76 dX6_mirrorError_25 (by decide) 28 rfl (fun h => absurd h (by decide)) (fun _ => ?_)
    refine r_lload_n hC 1 dX6_mirrorError_28 rfl 29 rfl ?_
    refine r_aload_n hC 4 dX6_mirrorError_29 rfl 30 rfl ?_
    refine r_iload hC 2 dX6_mirrorError_30 rfl 32 rfl ?_
    refine r_iload hC 0 dX6_mirrorError_32 rfl 34 rfl ?_
    refine r_invVr hC kX6 (b 0) [.int (nI ((N - c) % N)), .int 1] (.long (pa (6 * ((N - c) % N) + 2 * 1))) mVX6_px q3198 (fun _ h => h.get 0 rfl) (metX6_px _ _ hG b _ _ _ ((N - c) % N) 1 (by have := Nat.mod_lt (N - c) hN0; omega) (Nat.le_of_ble_eq_true rfl)) (fun _ h => h.in.sub [0, 1] rfl rfl) ⟨rfl, rfl⟩ 0 0 rfl rfl (Nat.le_of_ble_eq_true rfl) (Nat.le_of_ble_eq_true rfl) rfl (Nat.le_of_ble_eq_true rfl) dX6_mirrorError_34 37 rfl ?_
    refine r_aload_n hC 4 dX6_mirrorError_37 rfl 38 rfl ?_
    refine r_iload hC 3 dX6_mirrorError_38 rfl 40 rfl ?_
    refine r_iload hC 0 dX6_mirrorError_40 rfl 42 rfl ?_
    refine r_invVr hC kX6 (b 0) [.int (nI c), .int 1] (.long (pa (6 * c + 2 * 1))) mVX6_px q3198 (fun _ h => h.get 0 rfl) (metX6_px _ _ hG b _ _ _ c 1 (by omega) (Nat.le_of_ble_eq_true rfl)) (fun _ h => h.in.sub [0, 1] rfl rfl) ⟨rfl, rfl⟩ 0 0 rfl rfl (Nat.le_of_ble_eq_true rfl) (Nat.le_of_ble_eq_true rfl) rfl (Nat.le_of_ble_eq_true rfl) dX6_mirrorError_42 45 rfl ?_
    refine r_lsub hC ((pa (6 * ((N - c) % N) + 2 * 1)) - (pa (6 * c + 2 * 1))) dX6_mirrorError_45  (rfl) 46 rfl ?_
    refine r_aload_n hC 4 dX6_mirrorError_46 rfl 47 rfl ?_
    refine r_iload hC 2 dX6_mirrorError_47 rfl 49 rfl ?_
    refine r_iload hC 0 dX6_mirrorError_49 rfl 51 rfl ?_
    refine r_invVr hC kX6 (b 0) [.int (nI ((N - c) % N)), .int 1] (.long (pa (6 * ((N - c) % N) + 2 * 1 + 1))) mVX6_py q3202 (fun _ h => h.get 0 rfl) (metX6_py _ _ hG b _ _ _ ((N - c) % N) 1 (by have := Nat.mod_lt (N - c) hN0; omega) (Nat.le_of_ble_eq_true rfl)) (fun _ h => h.in.sub [0, 1] rfl rfl) ⟨rfl, rfl⟩ 0 0 rfl rfl (Nat.le_of_ble_eq_true rfl) (Nat.le_of_ble_eq_true rfl) rfl (Nat.le_of_ble_eq_true rfl) dX6_mirrorError_51 54 rfl ?_
    refine r_aload_n hC 4 dX6_mirrorError_54 rfl 55 rfl ?_
    refine r_iload hC 3 dX6_mirrorError_55 rfl 57 rfl ?_
    refine r_iload hC 0 dX6_mirrorError_57 rfl 59 rfl ?_
    refine r_invVr hC kX6 (b 0) [.int (nI c), .int 1] (.long (pa (6 * c + 2 * 1 + 1))) mVX6_py q3202 (fun _ h => h.get 0 rfl) (metX6_py _ _ hG b _ _ _ c 1 (by omega) (Nat.le_of_ble_eq_true rfl)) (fun _ h => h.in.sub [0, 1] rfl rfl) ⟨rfl, rfl⟩ 0 0 rfl rfl (Nat.le_of_ble_eq_true rfl) (Nat.le_of_ble_eq_true rfl) rfl (Nat.le_of_ble_eq_true rfl) dX6_mirrorError_59 62 rfl ?_
    refine r_ladd hC ((pa (6 * ((N - c) % N) + 2 * 1 + 1)) + (pa (6 * c + 2 * 1 + 1))) dX6_mirrorError_62  (rfl) 63 rfl ?_
    refine r_invSr hC [.long ((pa (6 * ((N - c) % N) + 2 * 1)) - (pa (6 * c + 2 * 1))), .long ((pa (6 * ((N - c) % N) + 2 * 1 + 1)) + (pa (6 * c + 2 * 1 + 1)))] (.long (m_gap ((pa (6 * ((N - c) % N) + 2 * 1)) - (pa (6 * c + 2 * 1))) ((pa (6 * ((N - c) % N) + 2 * 1 + 1)) + (pa (6 * c + 2 * 1 + 1))))) mSX6_gap q3206 (metX6_gap _ _ hG ((pa (6 * ((N - c) % N) + 2 * 1)) - (pa (6 * c + 2 * 1))) ((pa (6 * ((N - c) % N) + 2 * 1 + 1)) + (pa (6 * c + 2 * 1 + 1)))) (fun _ _ => xIn.nil) ⟨rfl, rfl⟩ 0 0 rfl rfl (Nat.le_of_ble_eq_true rfl) (Nat.le_of_ble_eq_true rfl) rfl (Nat.le_of_ble_eq_true rfl) dX6_mirrorError_63 66 rfl ?_
    refine r_invSr hC [.long (m_greater e (m_gap ((pa (6 * ((N - c) % N) + 2 * 0)) - (pa (6 * c + 2 * 0))) ((pa (6 * ((N - c) % N) + 2 * 0 + 1)) + (pa (6 * c + 2 * 0 + 1))))), .long (m_gap ((pa (6 * ((N - c) % N) + 2 * 1)) - (pa (6 * c + 2 * 1))) ((pa (6 * ((N - c) % N) + 2 * 1 + 1)) + (pa (6 * c + 2 * 1 + 1))))] (.long (m_greater (m_greater e (m_gap ((pa (6 * ((N - c) % N) + 2 * 0)) - (pa (6 * c + 2 * 0))) ((pa (6 * ((N - c) % N) + 2 * 0 + 1)) + (pa (6 * c + 2 * 0 + 1))))) (m_gap ((pa (6 * ((N - c) % N) + 2 * 1)) - (pa (6 * c + 2 * 1))) ((pa (6 * ((N - c) % N) + 2 * 1 + 1)) + (pa (6 * c + 2 * 1 + 1)))))) mSX6_greater q3212 (metX6_greater _ _ hG (m_greater e (m_gap ((pa (6 * ((N - c) % N) + 2 * 0)) - (pa (6 * c + 2 * 0))) ((pa (6 * ((N - c) % N) + 2 * 0 + 1)) + (pa (6 * c + 2 * 0 + 1))))) (m_gap ((pa (6 * ((N - c) % N) + 2 * 1)) - (pa (6 * c + 2 * 1))) ((pa (6 * ((N - c) % N) + 2 * 1 + 1)) + (pa (6 * c + 2 * 1 + 1))))) (fun _ _ => xIn.nil) ⟨rfl, rfl⟩ 0 0 rfl rfl (Nat.le_of_ble_eq_true rfl) (Nat.le_of_ble_eq_true rfl) rfl (Nat.le_of_ble_eq_true rfl) dX6_mirrorError_66 69 rfl ?_
    refine r_lstore_n hC 2 [(2, .long (m_greater (m_greater e (m_gap ((pa (6 * ((N - c) % N) + 2 * 0)) - (pa (6 * c + 2 * 0))) ((pa (6 * ((N - c) % N) + 2 * 0 + 1)) + (pa (6 * c + 2 * 0 + 1))))) (m_gap ((pa (6 * ((N - c) % N) + 2 * 1)) - (pa (6 * c + 2 * 1))) ((pa (6 * ((N - c) % N) + 2 * 1 + 1)) + (pa (6 * c + 2 * 1 + 1)))))), (6, .int 1), (5, .int (nI ((N - c) % N))), (4, .int (nI c)), (0, .ref (b 0)), (1, .int (nI N))] dX6_mirrorError_69 rfl (Nat.le_of_ble_eq_true rfl) rfl 70 rfl ?_
    refine r_iinc hC 2 6 1 [(6, .int 2), (2, .long (m_greater (m_greater e (m_gap ((pa (6 * ((N - c) % N) + 2 * 0)) - (pa (6 * c + 2 * 0))) ((pa (6 * ((N - c) % N) + 2 * 0 + 1)) + (pa (6 * c + 2 * 0 + 1))))) (m_gap ((pa (6 * ((N - c) % N) + 2 * 1)) - (pa (6 * c + 2 * 1))) ((pa (6 * ((N - c) % N) + 2 * 1 + 1)) + (pa (6 * c + 2 * 1 + 1)))))), (5, .int (nI ((N - c) % N))), (4, .int (nI c)), (0, .ref (b 0)), (1, .int (nI N))] dX6_mirrorError_70 rfl (by decide) (Nat.le_of_ble_eq_true rfl) rfl 73 rfl ?_
    refine r_goto hC 22 dX6_mirrorError_73 (by decide) ?_
    refine r_iload hC 0 dX6_mirrorError_22 rfl 24 rfl ?_
    refine r_iconst hC 3 dX6_mirrorError_24 ic_3 25 rfl ?_
    refine r_icge hC 76 dX6_mirrorError_25 (by decide) 28 rfl (fun h => absurd h (by decide)) (fun _ => ?_)
    refine r_lload_n hC 1 dX6_mirrorError_28 rfl 29 rfl ?_
    refine r_aload_n hC 4 dX6_mirrorError_29 rfl 30 rfl ?_
    refine r_iload hC 2 dX6_mirrorError_30 rfl 32 rfl ?_
    refine r_iload hC 0 dX6_mirrorError_32 rfl 34 rfl ?_
    refine r_invVr hC kX6 (b 0) [.int (nI ((N - c) % N)), .int 2] (.long (pa (6 * ((N - c) % N) + 2 * 2))) mVX6_px q3198 (fun _ h => h.get 0 rfl) (metX6_px _ _ hG b _ _ _ ((N - c) % N) 2 (by have := Nat.mod_lt (N - c) hN0; omega) (Nat.le_of_ble_eq_true rfl)) (fun _ h => h.in.sub [0, 1] rfl rfl) ⟨rfl, rfl⟩ 0 0 rfl rfl (Nat.le_of_ble_eq_true rfl) (Nat.le_of_ble_eq_true rfl) rfl (Nat.le_of_ble_eq_true rfl) dX6_mirrorError_34 37 rfl ?_
    refine r_aload_n hC 4 dX6_mirrorError_37 rfl 38 rfl ?_
    refine r_iload hC 3 dX6_mirrorError_38 rfl 40 rfl ?_
    refine r_iload hC 0 dX6_mirrorError_40 rfl 42 rfl ?_
    refine r_invVr hC kX6 (b 0) [.int (nI c), .int 2] (.long (pa (6 * c + 2 * 2))) mVX6_px q3198 (fun _ h => h.get 0 rfl) (metX6_px _ _ hG b _ _ _ c 2 (by omega) (Nat.le_of_ble_eq_true rfl)) (fun _ h => h.in.sub [0, 1] rfl rfl) ⟨rfl, rfl⟩ 0 0 rfl rfl (Nat.le_of_ble_eq_true rfl) (Nat.le_of_ble_eq_true rfl) rfl (Nat.le_of_ble_eq_true rfl) dX6_mirrorError_42 45 rfl ?_
    refine r_lsub hC ((pa (6 * ((N - c) % N) + 2 * 2)) - (pa (6 * c + 2 * 2))) dX6_mirrorError_45  (rfl) 46 rfl ?_
    refine r_aload_n hC 4 dX6_mirrorError_46 rfl 47 rfl ?_
    refine r_iload hC 2 dX6_mirrorError_47 rfl 49 rfl ?_
    refine r_iload hC 0 dX6_mirrorError_49 rfl 51 rfl ?_
    refine r_invVr hC kX6 (b 0) [.int (nI ((N - c) % N)), .int 2] (.long (pa (6 * ((N - c) % N) + 2 * 2 + 1))) mVX6_py q3202 (fun _ h => h.get 0 rfl) (metX6_py _ _ hG b _ _ _ ((N - c) % N) 2 (by have := Nat.mod_lt (N - c) hN0; omega) (Nat.le_of_ble_eq_true rfl)) (fun _ h => h.in.sub [0, 1] rfl rfl) ⟨rfl, rfl⟩ 0 0 rfl rfl (Nat.le_of_ble_eq_true rfl) (Nat.le_of_ble_eq_true rfl) rfl (Nat.le_of_ble_eq_true rfl) dX6_mirrorError_51 54 rfl ?_
    refine r_aload_n hC 4 dX6_mirrorError_54 rfl 55 rfl ?_
    refine r_iload hC 3 dX6_mirrorError_55 rfl 57 rfl ?_
    refine r_iload hC 0 dX6_mirrorError_57 rfl 59 rfl ?_
    refine r_invVr hC kX6 (b 0) [.int (nI c), .int 2] (.long (pa (6 * c + 2 * 2 + 1))) mVX6_py q3202 (fun _ h => h.get 0 rfl) (metX6_py _ _ hG b _ _ _ c 2 (by omega) (Nat.le_of_ble_eq_true rfl)) (fun _ h => h.in.sub [0, 1] rfl rfl) ⟨rfl, rfl⟩ 0 0 rfl rfl (Nat.le_of_ble_eq_true rfl) (Nat.le_of_ble_eq_true rfl) rfl (Nat.le_of_ble_eq_true rfl) dX6_mirrorError_59 62 rfl ?_
    refine r_ladd hC ((pa (6 * ((N - c) % N) + 2 * 2 + 1)) + (pa (6 * c + 2 * 2 + 1))) dX6_mirrorError_62  (rfl) 63 rfl ?_
    refine r_invSr hC [.long ((pa (6 * ((N - c) % N) + 2 * 2)) - (pa (6 * c + 2 * 2))), .long ((pa (6 * ((N - c) % N) + 2 * 2 + 1)) + (pa (6 * c + 2 * 2 + 1)))] (.long (m_gap ((pa (6 * ((N - c) % N) + 2 * 2)) - (pa (6 * c + 2 * 2))) ((pa (6 * ((N - c) % N) + 2 * 2 + 1)) + (pa (6 * c + 2 * 2 + 1))))) mSX6_gap q3206 (metX6_gap _ _ hG ((pa (6 * ((N - c) % N) + 2 * 2)) - (pa (6 * c + 2 * 2))) ((pa (6 * ((N - c) % N) + 2 * 2 + 1)) + (pa (6 * c + 2 * 2 + 1)))) (fun _ _ => xIn.nil) ⟨rfl, rfl⟩ 0 0 rfl rfl (Nat.le_of_ble_eq_true rfl) (Nat.le_of_ble_eq_true rfl) rfl (Nat.le_of_ble_eq_true rfl) dX6_mirrorError_63 66 rfl ?_
    refine r_invSr hC [.long (m_greater (m_greater e (m_gap ((pa (6 * ((N - c) % N) + 2 * 0)) - (pa (6 * c + 2 * 0))) ((pa (6 * ((N - c) % N) + 2 * 0 + 1)) + (pa (6 * c + 2 * 0 + 1))))) (m_gap ((pa (6 * ((N - c) % N) + 2 * 1)) - (pa (6 * c + 2 * 1))) ((pa (6 * ((N - c) % N) + 2 * 1 + 1)) + (pa (6 * c + 2 * 1 + 1))))), .long (m_gap ((pa (6 * ((N - c) % N) + 2 * 2)) - (pa (6 * c + 2 * 2))) ((pa (6 * ((N - c) % N) + 2 * 2 + 1)) + (pa (6 * c + 2 * 2 + 1))))] (.long (m_greater (m_greater (m_greater e (m_gap ((pa (6 * ((N - c) % N) + 2 * 0)) - (pa (6 * c + 2 * 0))) ((pa (6 * ((N - c) % N) + 2 * 0 + 1)) + (pa (6 * c + 2 * 0 + 1))))) (m_gap ((pa (6 * ((N - c) % N) + 2 * 1)) - (pa (6 * c + 2 * 1))) ((pa (6 * ((N - c) % N) + 2 * 1 + 1)) + (pa (6 * c + 2 * 1 + 1))))) (m_gap ((pa (6 * ((N - c) % N) + 2 * 2)) - (pa (6 * c + 2 * 2))) ((pa (6 * ((N - c) % N) + 2 * 2 + 1)) + (pa (6 * c + 2 * 2 + 1)))))) mSX6_greater q3212 (metX6_greater _ _ hG (m_greater (m_greater e (m_gap ((pa (6 * ((N - c) % N) + 2 * 0)) - (pa (6 * c + 2 * 0))) ((pa (6 * ((N - c) % N) + 2 * 0 + 1)) + (pa (6 * c + 2 * 0 + 1))))) (m_gap ((pa (6 * ((N - c) % N) + 2 * 1)) - (pa (6 * c + 2 * 1))) ((pa (6 * ((N - c) % N) + 2 * 1 + 1)) + (pa (6 * c + 2 * 1 + 1))))) (m_gap ((pa (6 * ((N - c) % N) + 2 * 2)) - (pa (6 * c + 2 * 2))) ((pa (6 * ((N - c) % N) + 2 * 2 + 1)) + (pa (6 * c + 2 * 2 + 1))))) (fun _ _ => xIn.nil) ⟨rfl, rfl⟩ 0 0 rfl rfl (Nat.le_of_ble_eq_true rfl) (Nat.le_of_ble_eq_true rfl) rfl (Nat.le_of_ble_eq_true rfl) dX6_mirrorError_66 69 rfl ?_
    refine r_lstore_n hC 2 [(2, .long (m_greater (m_greater (m_greater e (m_gap ((pa (6 * ((N - c) % N) + 2 * 0)) - (pa (6 * c + 2 * 0))) ((pa (6 * ((N - c) % N) + 2 * 0 + 1)) + (pa (6 * c + 2 * 0 + 1))))) (m_gap ((pa (6 * ((N - c) % N) + 2 * 1)) - (pa (6 * c + 2 * 1))) ((pa (6 * ((N - c) % N) + 2 * 1 + 1)) + (pa (6 * c + 2 * 1 + 1))))) (m_gap ((pa (6 * ((N - c) % N) + 2 * 2)) - (pa (6 * c + 2 * 2))) ((pa (6 * ((N - c) % N) + 2 * 2 + 1)) + (pa (6 * c + 2 * 2 + 1)))))), (6, .int 2), (5, .int (nI ((N - c) % N))), (4, .int (nI c)), (0, .ref (b 0)), (1, .int (nI N))] dX6_mirrorError_69 rfl (Nat.le_of_ble_eq_true rfl) rfl 70 rfl ?_
    refine r_iinc hC 3 6 1 [(6, .int 3), (2, .long (m_greater (m_greater (m_greater e (m_gap ((pa (6 * ((N - c) % N) + 2 * 0)) - (pa (6 * c + 2 * 0))) ((pa (6 * ((N - c) % N) + 2 * 0 + 1)) + (pa (6 * c + 2 * 0 + 1))))) (m_gap ((pa (6 * ((N - c) % N) + 2 * 1)) - (pa (6 * c + 2 * 1))) ((pa (6 * ((N - c) % N) + 2 * 1 + 1)) + (pa (6 * c + 2 * 1 + 1))))) (m_gap ((pa (6 * ((N - c) % N) + 2 * 2)) - (pa (6 * c + 2 * 2))) ((pa (6 * ((N - c) % N) + 2 * 2 + 1)) + (pa (6 * c + 2 * 2 + 1)))))), (5, .int (nI ((N - c) % N))), (4, .int (nI c)), (0, .ref (b 0)), (1, .int (nI N))] dX6_mirrorError_70 rfl (by decide) (Nat.le_of_ble_eq_true rfl) rfl 73 rfl ?_
    refine r_goto hC 22 dX6_mirrorError_73 (by decide) ?_
    refine r_iload hC 0 dX6_mirrorError_22 rfl 24 rfl ?_
    refine r_iconst hC 3 dX6_mirrorError_24 ic_3 25 rfl ?_
    refine r_icge hC 76 dX6_mirrorError_25 (by decide) 28 rfl (fun _ => ?_) (fun h => absurd h (by decide))
    refine r_iinc hC (nI (c + 1)) 4 3 [(4, .int (nI (c + 1))), (6, .int 3), (2, .long (m_greater (m_greater (m_greater e (m_gap ((pa (6 * ((N - c) % N) + 2 * 0)) - (pa (6 * c + 2 * 0))) ((pa (6 * ((N - c) % N) + 2 * 0 + 1)) + (pa (6 * c + 2 * 0 + 1))))) (m_gap ((pa (6 * ((N - c) % N) + 2 * 1)) - (pa (6 * c + 2 * 1))) ((pa (6 * ((N - c) % N) + 2 * 1 + 1)) + (pa (6 * c + 2 * 1 + 1))))) (m_gap ((pa (6 * ((N - c) % N) + 2 * 2)) - (pa (6 * c + 2 * 2))) ((pa (6 * ((N - c) % N) + 2 * 2 + 1)) + (pa (6 * c + 2 * 2 + 1)))))), (5, .int (nI ((N - c) % N))), (0, .ref (b 0)), (1, .int (nI N))] dX6_mirrorError_76 rfl (nI_add c 1) (Nat.le_of_ble_eq_true rfl) rfl 79 rfl ?_
    refine r_goto hC 5 dX6_mirrorError_79 (by decide) ?_
    refine rn.sub (lv' := [(4, .int (nI (c + 1))), (2, .long (m_greater (m_greater (m_greater e (m_gap ((pa (6 * ((N - c) % N) + 2 * 0)) - (pa (6 * c + 2 * 0))) ((pa (6 * ((N - c) % N) + 2 * 0 + 1)) + (pa (6 * c + 2 * 0 + 1))))) (m_gap ((pa (6 * ((N - c) % N) + 2 * 1)) - (pa (6 * c + 2 * 1))) ((pa (6 * ((N - c) % N) + 2 * 1 + 1)) + (pa (6 * c + 2 * 1 + 1))))) (m_gap ((pa (6 * ((N - c) % N) + 2 * 2)) - (pa (6 * c + 2 * 2))) ((pa (6 * ((N - c) % N) + 2 * 2 + 1)) + (pa (6 * c + 2 * 2 + 1)))))), (0, .ref (b 0)), (1, .int (nI N))]) [0, 2, 4, 5] rfl ?_
    exact ih (c + 1) (mirror1 pa N c e) (by omega) kx
set_option maxHeartbeats 4000000 in
set_option maxRecDepth 100000 in
theorem metX6_mirrorError (l : Launch) (G : xG) (hG : xGood G) (b : Nat → Nat) (i : Nat → Int32) (j : Nat → Int64) (pa : Nat → Int64) (N : Nat) (hN : N ≤ 300) (hN0 : 0 < N) : xRm l G yX6_mirrorError (Cond.code yX6_mirrorError cX6_mirrorError 7 (some .long)) { frames := 2, locals := 46, cells := 0, slots := 0 } [.ref (b 0), .int (nI N)] [(b 0, .inr (5, mF b i j)), (b 25, .inl (1, 1806, .inr (.inl pa)))] (some (.long (mirrorQ pa N))) := by
  intro V hV
  refine xMet_of RX6 hG rfl (by decide) (Nat.le_of_ble_eq_true rfl) fun C hC hQ hX hl hg _ => ?_
  subst hl hg
  refine rn.mono (J := xRo [(b 0, .inr (5, mF b i j)), (b 25, .inl (1, 1806, .inr (.inl pa)))] V) (fun V9 h => ⟨h, hV⟩) ?_
  show rn C (xRo [(b 0, .inr (5, mF b i j)), (b 25, .inl (1, 1806, .inr (.inl pa)))] V) 0 0 0 [(0, .ref (b 0)), (1, .int (nI N))] []
  refine r_lconst hC 0 dX6_mirrorError_0 lc_0 1 rfl ?_
  refine r_lstore_n hC 2 [(2, .long 0), (0, .ref (b 0)), (1, .int (nI N))] dX6_mirrorError_1 rfl (Nat.le_of_ble_eq_true rfl) rfl 2 rfl ?_
  refine r_iconst hC 0 dX6_mirrorError_2 ic_0 3 rfl ?_
  refine r_istore hC 4 [(4, .int 0), (2, .long 0), (0, .ref (b 0)), (1, .int (nI N))] dX6_mirrorError_3 (Nat.le_of_ble_eq_true rfl) rfl 5 rfl ?_
  refine rn.sub (lv' := [(4, .int 0), (2, .long 0), (0, .ref (b 0)), (1, .int (nI N))]) [0, 1, 2, 3] rfl ?_
  refine lpX6_mirrorError hG hC rfl rfl b i j pa N hN hN0 N 0 0 (by omega) ?_
  refine r_lload_n hC 0 dX6_mirrorError_82 rfl 83 rfl ?_
  exact r_lret hC (Nat.le_of_ble_eq_true rfl) (Nat.le_of_ble_eq_true rfl) (fun V9 h => hQ _ _ ⟨rfl, h.1⟩) dX6_mirrorError_83
