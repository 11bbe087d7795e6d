/-! ===== the reference: places, approaches, runs ===== -/
set_option maxRecDepth 100000
def takenQ (r : Nat → Int64) (p : Nat) (x y : Int64) : Bool := (decide (¬ p = 0) && decide (r 7 = x) && decide (r 8 = y)) || (decide (¬ p = 1) && decide (r 12 = x) && decide (r 13 = y)) || (decide (¬ p = 2) && decide (r 17 = x) && decide (r 18 = y))
set_option maxHeartbeats 4000000 in
set_option maxRecDepth 100000 in
theorem metX6_isTaken0 (l : Launch) (G : xG) (hG : xGood G) (b : Nat → Nat) (i : Nat → Int32) (j : Nat → Int64) (a : Nat) (r : Nat → Int64) (x y : Int64) (z : Int32) (hz : bI (takenQ r 0 x y) = z) : xRm l G yX6_isTaken (Cond.code yX6_isTaken cX6_isTaken 8 (some .boolean)) { frames := 1, locals := 21, cells := 0, slots := 0 } [.ref (b 0), .ref a, .int 0, .long x, .long y] [(b 0, .inr (5, mF b i j)), (a, .inl (1, 111, .inr (.inl r)))] (some (.int z)) := by
  intro V hV
  refine xMet_of RX6 hG rfl (by decide) (Nat.le_of_ble_eq_true rfl) fun C hC hQ hX hl hg _ => ?_
  subst hl hg
  refine rn.mono (J := xRo [(b 0, .inr (5, mF b i j)), (a, .inl (1, 111, .inr (.inl r)))] V) (fun V9 h => ⟨h, hV⟩) ?_
  show rn C (xRo [(b 0, .inr (5, mF b i j)), (a, .inl (1, 111, .inr (.inl r)))] V) 0 0 0 [(0, .ref (b 0)), (1, .ref a), (2, .int 0), (3, .long x), (5, .long y)] []
  refine r_iconst hC 0 dX6_isTaken_0 ic_0 1 rfl ?_
  refine r_istore hC 7 [(7, .int 0), (0, .ref (b 0)), (1, .ref a), (2, .int 0), (3, .long x), (5, .long y)] dX6_isTaken_1 (Nat.le_of_ble_eq_true rfl) rfl 3 rfl ?_
  refine r_iload hC 0 dX6_isTaken_3 rfl 5 rfl ?_
  refine r_iconst hC 3 dX6_isTaken_5 ic_3 6 rfl ?_
  refine r_icge hC 50 dX6_isTaken_6 (by decide) 9 rfl (fun h => absurd h (by decide)) (fun _ => ?_)
  refine r_iload hC 0 dX6_isTaken_9 rfl 11 rfl ?_
  refine r_iload_n hC 3 dX6_isTaken_11 rfl 12 rfl ?_
  refine r_iceq hC 44 dX6_isTaken_12 (by decide) 15 rfl (fun _ => ?_) (fun h => absurd h (by decide))
  refine r_iinc hC 1 7 0 [(7, .int 1), (0, .ref (b 0)), (1, .ref a), (2, .int 0), (3, .long x), (5, .long y)] dX6_isTaken_44 rfl (by decide) (Nat.le_of_ble_eq_true rfl) rfl 47 rfl ?_
  refine r_goto hC 3 dX6_isTaken_47 (by decide) ?_
  refine r_iload hC 0 dX6_isTaken_3 rfl 5 rfl ?_
  refine r_iconst hC 3 dX6_isTaken_5 ic_3 6 rfl ?_
  refine r_icge hC 50 dX6_isTaken_6 (by decide) 9 rfl (fun h => absurd h (by decide)) (fun _ => ?_)
  refine r_iload hC 0 dX6_isTaken_9 rfl 11 rfl ?_
  refine r_iload_n hC 3 dX6_isTaken_11 rfl 12 rfl ?_
  refine r_iceq hC 44 dX6_isTaken_12 (by decide) 15 rfl (fun h => absurd h (by decide)) (fun _ => ?_)
  refine r_aload_n hC 2 dX6_isTaken_15 rfl 16 rfl ?_
  refine r_iload hC 0 dX6_isTaken_16 rfl 18 rfl ?_
  refine r_iconst hC 1 dX6_isTaken_18 ic_1 19 rfl ?_
  refine r_invSr hC [.int 1, .int 1] (.int 12) mSX6_at q2711 (metX6_at _ _ hG 1 1) (fun _ _ => xIn.nil) ⟨rfl, rfl⟩ 0 0 rfl rfl (Nat.le_of_ble_eq_true rfl) (Nat.le_of_ble_eq_true rfl) rfl (Nat.le_of_ble_eq_true rfl) dX6_isTaken_19 22 rfl ?_
  refine r_lald hC 12 (xix_n 12 (Nat.le_of_ble_eq_true rfl) (Nat.le_of_ble_eq_true rfl)) (fun _ h => h.get 1 rfl) (r 12) (rfl) dX6_isTaken_22 23 rfl ?_
  refine r_lload_n hC 4 dX6_isTaken_23 rfl 24 rfl ?_
  refine r_lcne hC 44 dX6_isTaken_24 dX6_isTaken_25 (by decide) 28 rfl (fun c1 => ?_) (fun c1 => ?_)
  · skip
    refine r_iinc hC 2 7 0 [(7, .int 2), (0, .ref (b 0)), (1, .ref a), (2, .int 0), (3, .long x), (5, .long y)] dX6_isTaken_44 rfl (by decide) (Nat.le_of_ble_eq_true rfl) rfl 47 rfl ?_
    refine r_goto hC 3 dX6_isTaken_47 (by decide) ?_
    refine r_iload hC 0 dX6_isTaken_3 rfl 5 rfl ?_
    refine r_iconst hC 3 dX6_isTaken_5 ic_3 6 rfl ?_
    refine r_icge hC 50 dX6_isTaken_6 (by decide) 9 rfl (fun h => absurd h (by decide)) (fun _ => ?_)
    refine r_iload hC 0 dX6_isTaken_9 rfl 11 rfl ?_
    refine r_iload_n hC 3 dX6_isTaken_11 rfl 12 rfl ?_
    refine r_iceq hC 44 dX6_isTaken_12 (by decide) 15 rfl (fun h => absurd h (by decide)) (fun _ => ?_)
    refine r_aload_n hC 2 dX6_isTaken_15 rfl 16 rfl ?_
    refine r_iload hC 0 dX6_isTaken_16 rfl 18 rfl ?_
    refine r_iconst hC 1 dX6_isTaken_18 ic_1 19 rfl ?_
    refine r_invSr hC [.int 2, .int 1] (.int 17) mSX6_at q2711 (metX6_at _ _ hG 2 1) (fun _ _ => xIn.nil) ⟨rfl, rfl⟩ 0 0 rfl rfl (Nat.le_of_ble_eq_true rfl) (Nat.le_of_ble_eq_true rfl) rfl (Nat.le_of_ble_eq_true rfl) dX6_isTaken_19 22 rfl ?_
    refine r_lald hC 17 (xix_n 17 (Nat.le_of_ble_eq_true rfl) (Nat.le_of_ble_eq_true rfl)) (fun _ h => h.get 1 rfl) (r 17) (rfl) dX6_isTaken_22 23 rfl ?_
    refine r_lload_n hC 4 dX6_isTaken_23 rfl 24 rfl ?_
    refine r_lcne hC 44 dX6_isTaken_24 dX6_isTaken_25 (by decide) 28 rfl (fun c2 => ?_) (fun c2 => ?_)
    · skip
      refine r_iinc hC 3 7 0 [(7, .int 3), (0, .ref (b 0)), (1, .ref a), (2, .int 0), (3, .long x), (5, .long y)] dX6_isTaken_44 rfl (by decide) (Nat.le_of_ble_eq_true rfl) rfl 47 rfl ?_
      refine r_goto hC 3 dX6_isTaken_47 (by decide) ?_
      refine r_iload hC 0 dX6_isTaken_3 rfl 5 rfl ?_
      refine r_iconst hC 3 dX6_isTaken_5 ic_3 6 rfl ?_
      refine r_icge hC 50 dX6_isTaken_6 (by decide) 9 rfl (fun _ => ?_) (fun h => absurd h (by decide))
      refine r_iconst hC 0 dX6_isTaken_50 ic_0 51 rfl ?_
      exact r_zret hC (by decide) (Nat.le_of_ble_eq_true rfl) (Nat.le_of_ble_eq_true rfl) (fun V9 h => hQ _ _ ⟨by rw [← hz]; simp [takenQ, bI, c1, c2], h.1⟩) dX6_isTaken_51
    · skip
      refine r_aload_n hC 2 dX6_isTaken_28 rfl 29 rfl ?_
      refine r_iload hC 0 dX6_isTaken_29 rfl 31 rfl ?_
      refine r_iconst hC 2 dX6_isTaken_31 ic_2 32 rfl ?_
      refine r_invSr hC [.int 2, .int 2] (.int 18) mSX6_at q2711 (metX6_at _ _ hG 2 2) (fun _ _ => xIn.nil) ⟨rfl, rfl⟩ 0 0 rfl rfl (Nat.le_of_ble_eq_true rfl) (Nat.le_of_ble_eq_true rfl) rfl (Nat.le_of_ble_eq_true rfl) dX6_isTaken_32 35 rfl ?_
      refine r_lald hC 18 (xix_n 18 (Nat.le_of_ble_eq_true rfl) (Nat.le_of_ble_eq_true rfl)) (fun _ h => h.get 1 rfl) (r 18) (rfl) dX6_isTaken_35 36 rfl ?_
      refine r_lload hC 5 dX6_isTaken_36 rfl 38 rfl ?_
      refine r_lcne hC 44 dX6_isTaken_38 dX6_isTaken_39 (by decide) 42 rfl (fun c3 => ?_) (fun c3 => ?_)
      · skip
        refine r_iinc hC 3 7 0 [(7, .int 3), (0, .ref (b 0)), (1, .ref a), (2, .int 0), (3, .long x), (5, .long y)] dX6_isTaken_44 rfl (by decide) (Nat.le_of_ble_eq_true rfl) rfl 47 rfl ?_
        refine r_goto hC 3 dX6_isTaken_47 (by decide) ?_
        refine r_iload hC 0 dX6_isTaken_3 rfl 5 rfl ?_
        refine r_iconst hC 3 dX6_isTaken_5 ic_3 6 rfl ?_
        refine r_icge hC 50 dX6_isTaken_6 (by decide) 9 rfl (fun _ => ?_) (fun h => absurd h (by decide))
        refine r_iconst hC 0 dX6_isTaken_50 ic_0 51 rfl ?_
        exact r_zret hC (by decide) (Nat.le_of_ble_eq_true rfl) (Nat.le_of_ble_eq_true rfl) (fun V9 h => hQ _ _ ⟨by rw [← hz]; simp [takenQ, bI, c1, c2, c3], h.1⟩) dX6_isTaken_51
      · skip
        refine r_iconst hC 1 dX6_isTaken_42 ic_1 43 rfl ?_
        exact r_zret hC (by decide) (Nat.le_of_ble_eq_true rfl) (Nat.le_of_ble_eq_true rfl) (fun V9 h => hQ _ _ ⟨by rw [← hz]; simp [takenQ, bI, c1, c2, c3], h.1⟩) dX6_isTaken_43
  · skip
    refine r_aload_n hC 2 dX6_isTaken_28 rfl 29 rfl ?_
    refine r_iload hC 0 dX6_isTaken_29 rfl 31 rfl ?_
    refine r_iconst hC 2 dX6_isTaken_31 ic_2 32 rfl ?_
    refine r_invSr hC [.int 1, .int 2] (.int 13) mSX6_at q2711 (metX6_at _ _ hG 1 2) (fun _ _ => xIn.nil) ⟨rfl, rfl⟩ 0 0 rfl rfl (Nat.le_of_ble_eq_true rfl) (Nat.le_of_ble_eq_true rfl) rfl (Nat.le_of_ble_eq_true rfl) dX6_isTaken_32 35 rfl ?_
    refine r_lald hC 13 (xix_n 13 (Nat.le_of_ble_eq_true rfl) (Nat.le_of_ble_eq_true rfl)) (fun _ h => h.get 1 rfl) (r 13) (rfl) dX6_isTaken_35 36 rfl ?_
    refine r_lload hC 5 dX6_isTaken_36 rfl 38 rfl ?_
    refine r_lcne hC 44 dX6_isTaken_38 dX6_isTaken_39 (by decide) 42 rfl (fun c4 => ?_) (fun c4 => ?_)
    · skip
      refine r_iinc hC 2 7 0 [(7, .int 2), (0, .ref (b 0)), (1, .ref a), (2, .int 0), (3, .long x), (5, .long y)] dX6_isTaken_44 rfl (by decide) (Nat.le_of_ble_eq_true rfl) rfl 47 rfl ?_
      refine r_goto hC 3 dX6_isTaken_47 (by decide) ?_
      refine r_iload hC 0 dX6_isTaken_3 rfl 5 rfl ?_
      refine r_iconst hC 3 dX6_isTaken_5 ic_3 6 rfl ?_
      refine r_icge hC 50 dX6_isTaken_6 (by decide) 9 rfl (fun h => absurd h (by decide)) (fun _ => ?_)
      refine r_iload hC 0 dX6_isTaken_9 rfl 11 rfl ?_
      refine r_iload_n hC 3 dX6_isTaken_11 rfl 12 rfl ?_
      refine r_iceq hC 44 dX6_isTaken_12 (by decide) 15 rfl (fun h => absurd h (by decide)) (fun _ => ?_)
      refine r_aload_n hC 2 dX6_isTaken_15 rfl 16 rfl ?_
      refine r_iload hC 0 dX6_isTaken_16 rfl 18 rfl ?_
      refine r_iconst hC 1 dX6_isTaken_18 ic_1 19 rfl ?_
      refine r_invSr hC [.int 2, .int 1] (.int 17) mSX6_at q2711 (metX6_at _ _ hG 2 1) (fun _ _ => xIn.nil) ⟨rfl, rfl⟩ 0 0 rfl rfl (Nat.le_of_ble_eq_true rfl) (Nat.le_of_ble_eq_true rfl) rfl (Nat.le_of_ble_eq_true rfl) dX6_isTaken_19 22 rfl ?_
      refine r_lald hC 17 (xix_n 17 (Nat.le_of_ble_eq_true rfl) (Nat.le_of_ble_eq_true rfl)) (fun _ h => h.get 1 rfl) (r 17) (rfl) dX6_isTaken_22 23 rfl ?_
      refine r_lload_n hC 4 dX6_isTaken_23 rfl 24 rfl ?_
      refine r_lcne hC 44 dX6_isTaken_24 dX6_isTaken_25 (by decide) 28 rfl (fun c5 => ?_) (fun c5 => ?_)
      · skip
        refine r_iinc hC 3 7 0 [(7, .int 3), (0, .ref (b 0)), (1, .ref a), (2, .int 0), (3, .long x), (5, .long y)] dX6_isTaken_44 rfl (by decide) (Nat.le_of_ble_eq_true rfl) rfl 47 rfl ?_
        refine r_goto hC 3 dX6_isTaken_47 (by decide) ?_
        refine r_iload hC 0 dX6_isTaken_3 rfl 5 rfl ?_
        refine r_iconst hC 3 dX6_isTaken_5 ic_3 6 rfl ?_
        refine r_icge hC 50 dX6_isTaken_6 (by decide) 9 rfl (fun _ => ?_) (fun h => absurd h (by decide))
        refine r_iconst hC 0 dX6_isTaken_50 ic_0 51 rfl ?_
        exact r_zret hC (by decide) (Nat.le_of_ble_eq_true rfl) (Nat.le_of_ble_eq_true rfl) (fun V9 h => hQ _ _ ⟨by rw [← hz]; simp [takenQ, bI, c1, c4, c5], h.1⟩) dX6_isTaken_51
      · skip
        refine r_aload_n hC 2 dX6_isTaken_28 rfl 29 rfl ?_
        refine r_iload hC 0 dX6_isTaken_29 rfl 31 rfl ?_
        refine r_iconst hC 2 dX6_isTaken_31 ic_2 32 rfl ?_
        refine r_invSr hC [.int 2, .int 2] (.int 18) mSX6_at q2711 (metX6_at _ _ hG 2 2) (fun _ _ => xIn.nil) ⟨rfl, rfl⟩ 0 0 rfl rfl (Nat.le_of_ble_eq_true rfl) (Nat.le_of_ble_eq_true rfl) rfl (Nat.le_of_ble_eq_true rfl) dX6_isTaken_32 35 rfl ?_
        refine r_lald hC 18 (xix_n 18 (Nat.le_of_ble_eq_true rfl) (Nat.le_of_ble_eq_true rfl)) (fun _ h => h.get 1 rfl) (r 18) (rfl) dX6_isTaken_35 36 rfl ?_
        refine r_lload hC 5 dX6_isTaken_36 rfl 38 rfl ?_
        refine r_lcne hC 44 dX6_isTaken_38 dX6_isTaken_39 (by decide) 42 rfl (fun c6 => ?_) (fun c6 => ?_)
        · skip
          refine r_iinc hC 3 7 0 [(7, .int 3), (0, .ref (b 0)), (1, .ref a), (2, .int 0), (3, .long x), (5, .long y)] dX6_isTaken_44 rfl (by decide) (Nat.le_of_ble_eq_true rfl) rfl 47 rfl ?_
          refine r_goto hC 3 dX6_isTaken_47 (by decide) ?_
          refine r_iload hC 0 dX6_isTaken_3 rfl 5 rfl ?_
          refine r_iconst hC 3 dX6_isTaken_5 ic_3 6 rfl ?_
          refine r_icge hC 50 dX6_isTaken_6 (by decide) 9 rfl (fun _ => ?_) (fun h => absurd h (by decide))
          refine r_iconst hC 0 dX6_isTaken_50 ic_0 51 rfl ?_
          exact r_zret hC (by decide) (Nat.le_of_ble_eq_true rfl) (Nat.le_of_ble_eq_true rfl) (fun V9 h => hQ _ _ ⟨by rw [← hz]; simp [takenQ, bI, c1, c4, c5, c6], h.1⟩) dX6_isTaken_51
        · skip
          refine r_iconst hC 1 dX6_isTaken_42 ic_1 43 rfl ?_
          exact r_zret hC (by decide) (Nat.le_of_ble_eq_true rfl) (Nat.le_of_ble_eq_true rfl) (fun V9 h => hQ _ _ ⟨by rw [← hz]; simp [takenQ, bI, c1, c4, c5, c6], h.1⟩) dX6_isTaken_43
    · skip
      refine r_iconst hC 1 dX6_isTaken_42 ic_1 43 rfl ?_
      exact r_zret hC (by decide) (Nat.le_of_ble_eq_true rfl) (Nat.le_of_ble_eq_true rfl) (fun V9 h => hQ _ _ ⟨by rw [← hz]; simp [takenQ, bI, c1, c4], h.1⟩) dX6_isTaken_43
set_option maxHeartbeats 4000000 in
set_option maxRecDepth 100000 in
theorem metX6_isTaken1 (l : Launch) (G : xG) (hG : xGood G) (b : Nat → Nat) (i : Nat → Int32) (j : Nat → Int64) (a : Nat) (r : Nat → Int64) (x y : Int64) (z : Int32) (hz : bI (takenQ r 1 x y) = z) : xRm l G yX6_isTaken (Cond.code yX6_isTaken cX6_isTaken 8 (some .boolean)) { frames := 1, locals := 21, cells := 0, slots := 0 } [.ref (b 0), .ref a, .int 1, .long x, .long y] [(b 0, .inr (5, mF b i j)), (a, .inl (1, 111, .inr (.inl r)))] (some (.int z)) := by
  intro V hV
  refine xMet_of RX6 hG rfl (by decide) (Nat.le_of_ble_eq_true rfl) fun C hC hQ hX hl hg _ => ?_
  subst hl hg
  refine rn.mono (J := xRo [(b 0, .inr (5, mF b i j)), (a, .inl (1, 111, .inr (.inl r)))] V) (fun V9 h => ⟨h, hV⟩) ?_
  show rn C (xRo [(b 0, .inr (5, mF b i j)), (a, .inl (1, 111, .inr (.inl r)))] V) 0 0 0 [(0, .ref (b 0)), (1, .ref a), (2, .int 1), (3, .long x), (5, .long y)] []
  refine r_iconst hC 0 dX6_isTaken_0 ic_0 1 rfl ?_
  refine r_istore hC 7 [(7, .int 0), (0, .ref (b 0)), (1, .ref a), (2, .int 1), (3, .long x), (5, .long y)] dX6_isTaken_1 (Nat.le_of_ble_eq_true rfl) rfl 3 rfl ?_
  refine r_iload hC 0 dX6_isTaken_3 rfl 5 rfl ?_
  refine r_iconst hC 3 dX6_isTaken_5 ic_3 6 rfl ?_
  refine r_icge hC 50 dX6_isTaken_6 (by decide) 9 rfl (fun h => absurd h (by decide)) (fun _ => ?_)
  refine r_iload hC 0 dX6_isTaken_9 rfl 11 rfl ?_
  refine r_iload_n hC 3 dX6_isTaken_11 rfl 12 rfl ?_
  refine r_iceq hC 44 dX6_isTaken_12 (by decide) 15 rfl (fun h => absurd h (by decide)) (fun _ => ?_)
  refine r_aload_n hC 2 dX6_isTaken_15 rfl 16 rfl ?_
  refine r_iload hC 0 dX6_isTaken_16 rfl 18 rfl ?_
  refine r_iconst hC 1 dX6_isTaken_18 ic_1 19 rfl ?_
  refine r_invSr hC [.int 0, .int 1] (.int 7) mSX6_at q2711 (metX6_at _ _ hG 0 1) (fun _ _ => xIn.nil) ⟨rfl, rfl⟩ 0 0 rfl rfl (Nat.le_of_ble_eq_true rfl) (Nat.le_of_ble_eq_true rfl) rfl (Nat.le_of_ble_eq_true rfl) dX6_isTaken_19 22 rfl ?_
  refine r_lald hC 7 (xix_n 7 (Nat.le_of_ble_eq_true rfl) (Nat.le_of_ble_eq_true rfl)) (fun _ h => h.get 1 rfl) (r 7) (rfl) dX6_isTaken_22 23 rfl ?_
  refine r_lload_n hC 4 dX6_isTaken_23 rfl 24 rfl ?_
  refine r_lcne hC 44 dX6_isTaken_24 dX6_isTaken_25 (by decide) 28 rfl (fun c1 => ?_) (fun c1 => ?_)
  · skip
    refine r_iinc hC 1 7 0 [(7, .int 1), (0, .ref (b 0)), (1, .ref a), (2, .int 1), (3, .long x), (5, .long y)] dX6_isTaken_44 rfl (by decide) (Nat.le_of_ble_eq_true rfl) rfl 47 rfl ?_
    refine r_goto hC 3 dX6_isTaken_47 (by decide) ?_
    refine r_iload hC 0 dX6_isTaken_3 rfl 5 rfl ?_
    refine r_iconst hC 3 dX6_isTaken_5 ic_3 6 rfl ?_
    refine r_icge hC 50 dX6_isTaken_6 (by decide) 9 rfl (fun h => absurd h (by decide)) (fun _ => ?_)
    refine r_iload hC 0 dX6_isTaken_9 rfl 11 rfl ?_
    refine r_iload_n hC 3 dX6_isTaken_11 rfl 12 rfl ?_
    refine r_iceq hC 44 dX6_isTaken_12 (by decide) 15 rfl (fun _ => ?_) (fun h => absurd h (by decide))
    refine r_iinc hC 2 7 0 [(7, .int 2), (0, .ref (b 0)), (1, .ref a), (2, .int 1), (3, .long x), (5, .long y)] dX6_isTaken_44 rfl (by decide) (Nat.le_of_ble_eq_true rfl) rfl 47 rfl ?_
    refine r_goto hC 3 dX6_isTaken_47 (by decide) ?_
    refine r_iload hC 0 dX6_isTaken_3 rfl 5 rfl ?_
    refine r_iconst hC 3 dX6_isTaken_5 ic_3 6 rfl ?_
    refine r_icge hC 50 dX6_isTaken_6 (by decide) 9 rfl (fun h => absurd h (by decide)) (fun _ => ?_)
    refine r_iload hC 0 dX6_isTaken_9 rfl 11 rfl ?_
    refine r_iload_n hC 3 dX6_isTaken_11 rfl 12 rfl ?_
    refine r_iceq hC 44 dX6_isTaken_12 (by decide) 15 rfl (fun h => absurd h (by decide)) (fun _ => ?_)
    refine r_aload_n hC 2 dX6_isTaken_15 rfl 16 rfl ?_
    refine r_iload hC 0 dX6_isTaken_16 rfl 18 rfl ?_
    refine r_iconst hC 1 dX6_isTaken_18 ic_1 19 rfl ?_
    refine r_invSr hC [.int 2, .int 1] (.int 17) mSX6_at q2711 (metX6_at _ _ hG 2 1) (fun _ _ => xIn.nil) ⟨rfl, rfl⟩ 0 0 rfl rfl (Nat.le_of_ble_eq_true rfl) (Nat.le_of_ble_eq_true rfl) rfl (Nat.le_of_ble_eq_true rfl) dX6_isTaken_19 22 rfl ?_
    refine r_lald hC 17 (xix_n 17 (Nat.le_of_ble_eq_true rfl) (Nat.le_of_ble_eq_true rfl)) (fun _ h => h.get 1 rfl) (r 17) (rfl) dX6_isTaken_22 23 rfl ?_
    refine r_lload_n hC 4 dX6_isTaken_23 rfl 24 rfl ?_
    refine r_lcne hC 44 dX6_isTaken_24 dX6_isTaken_25 (by decide) 28 rfl (fun c2 => ?_) (fun c2 => ?_)
    · skip
      refine r_iinc hC 3 7 0 [(7, .int 3), (0, .ref (b 0)), (1, .ref a), (2, .int 1), (3, .long x), (5, .long y)] dX6_isTaken_44 rfl (by decide) (Nat.le_of_ble_eq_true rfl) rfl 47 rfl ?_
      refine r_goto hC 3 dX6_isTaken_47 (by decide) ?_
      refine r_iload hC 0 dX6_isTaken_3 rfl 5 rfl ?_
      refine r_iconst hC 3 dX6_isTaken_5 ic_3 6 rfl ?_
      refine r_icge hC 50 dX6_isTaken_6 (by decide) 9 rfl (fun _ => ?_) (fun h => absurd h (by decide))
      refine r_iconst hC 0 dX6_isTaken_50 ic_0 51 rfl ?_
      exact r_zret hC (by decide) (Nat.le_of_ble_eq_true rfl) (Nat.le_of_ble_eq_true rfl) (fun V9 h => hQ _ _ ⟨by rw [← hz]; simp [takenQ, bI, c1, c2], h.1⟩) dX6_isTaken_51
    · skip
      refine r_aload_n hC 2 dX6_isTaken_28 rfl 29 rfl ?_
      refine r_iload hC 0 dX6_isTaken_29 rfl 31 rfl ?_
      refine r_iconst hC 2 dX6_isTaken_31 ic_2 32 rfl ?_
      refine r_invSr hC [.int 2, .int 2] (.int 18) mSX6_at q2711 (metX6_at _ _ hG 2 2) (fun _ _ => xIn.nil) ⟨rfl, rfl⟩ 0 0 rfl rfl (Nat.le_of_ble_eq_true rfl) (Nat.le_of_ble_eq_true rfl) rfl (Nat.le_of_ble_eq_true rfl) dX6_isTaken_32 35 rfl ?_
      refine r_lald hC 18 (xix_n 18 (Nat.le_of_ble_eq_true rfl) (Nat.le_of_ble_eq_true rfl)) (fun _ h => h.get 1 rfl) (r 18) (rfl) dX6_isTaken_35 36 rfl ?_
      refine r_lload hC 5 dX6_isTaken_36 rfl 38 rfl ?_
      refine r_lcne hC 44 dX6_isTaken_38 dX6_isTaken_39 (by decide) 42 rfl (fun c3 => ?_) (fun c3 => ?_)
      · skip
        refine r_iinc hC 3 7 0 [(7, .int 3), (0, .ref (b 0)), (1, .ref a), (2, .int 1), (3, .long x), (5, .long y)] dX6_isTaken_44 rfl (by decide) (Nat.le_of_ble_eq_true rfl) rfl 47 rfl ?_
        refine r_goto hC 3 dX6_isTaken_47 (by decide) ?_
        refine r_iload hC 0 dX6_isTaken_3 rfl 5 rfl ?_
        refine r_iconst hC 3 dX6_isTaken_5 ic_3 6 rfl ?_
        refine r_icge hC 50 dX6_isTaken_6 (by decide) 9 rfl (fun _ => ?_) (fun h => absurd h (by decide))
        refine r_iconst hC 0 dX6_isTaken_50 ic_0 51 rfl ?_
        exact r_zret hC (by decide) (Nat.le_of_ble_eq_true rfl) (Nat.le_of_ble_eq_true rfl) (fun V9 h => hQ _ _ ⟨by rw [← hz]; simp [takenQ, bI, c1, c2, c3], h.1⟩) dX6_isTaken_51
      · skip
        refine r_iconst hC 1 dX6_isTaken_42 ic_1 43 rfl ?_
        exact r_zret hC (by decide) (Nat.le_of_ble_eq_true rfl) (Nat.le_of_ble_eq_true rfl) (fun V9 h => hQ _ _ ⟨by rw [← hz]; simp [takenQ, bI, c1, c2, c3], h.1⟩) dX6_isTaken_43
  · skip
    refine r_aload_n hC 2 dX6_isTaken_28 rfl 29 rfl ?_
    refine r_iload hC 0 dX6_isTaken_29 rfl 31 rfl ?_
    refine r_iconst hC 2 dX6_isTaken_31 ic_2 32 rfl ?_
    refine r_invSr hC [.int 0, .int 2] (.int 8) mSX6_at q2711 (metX6_at _ _ hG 0 2) (fun _ _ => xIn.nil) ⟨rfl, rfl⟩ 0 0 rfl rfl (Nat.le_of_ble_eq_true rfl) (Nat.le_of_ble_eq_true rfl) rfl (Nat.le_of_ble_eq_true rfl) dX6_isTaken_32 35 rfl ?_
    refine r_lald hC 8 (xix_n 8 (Nat.le_of_ble_eq_true rfl) (Nat.le_of_ble_eq_true rfl)) (fun _ h => h.get 1 rfl) (r 8) (rfl) dX6_isTaken_35 36 rfl ?_
    refine r_lload hC 5 dX6_isTaken_36 rfl 38 rfl ?_
    refine r_lcne hC 44 dX6_isTaken_38 dX6_isTaken_39 (by decide) 42 rfl (fun c4 => ?_) (fun c4 => ?_)
    · skip
      refine r_iinc hC 1 7 0 [(7, .int 1), (0, .ref (b 0)), (1, .ref a), (2, .int 1), (3, .long x), (5, .long y)] dX6_isTaken_44 rfl (by decide) (Nat.le_of_ble_eq_true rfl) rfl 47 rfl ?_
      refine r_goto hC 3 dX6_isTaken_47 (by decide) ?_
      refine r_iload hC 0 dX6_isTaken_3 rfl 5 rfl ?_
      refine r_iconst hC 3 dX6_isTaken_5 ic_3 6 rfl ?_
      refine r_icge hC 50 dX6_isTaken_6 (by decide) 9 rfl (fun h => absurd h (by decide)) (fun _ => ?_)
      refine r_iload hC 0 dX6_isTaken_9 rfl 11 rfl ?_
      refine r_iload_n hC 3 dX6_isTaken_11 rfl 12 rfl ?_
      refine r_iceq hC 44 dX6_isTaken_12 (by decide) 15 rfl (fun _ => ?_) (fun h => absurd h (by decide))
      refine r_iinc hC 2 7 0 [(7, .int 2), (0, .ref (b 0)), (1, .ref a), (2, .int 1), (3, .long x), (5, .long y)] dX6_isTaken_44 rfl (by decide) (Nat.le_of_ble_eq_true rfl) rfl 47 rfl ?_
      refine r_goto hC 3 dX6_isTaken_47 (by decide) ?_
      refine r_iload hC 0 dX6_isTaken_3 rfl 5 rfl ?_
      refine r_iconst hC 3 dX6_isTaken_5 ic_3 6 rfl ?_
      refine r_icge hC 50 dX6_isTaken_6 (by decide) 9 rfl (fun h => absurd h (by decide)) (fun _ => ?_)
      refine r_iload hC 0 dX6_isTaken_9 rfl 11 rfl ?_
      refine r_iload_n hC 3 dX6_isTaken_11 rfl 12 rfl ?_
      refine r_iceq hC 44 dX6_isTaken_12 (by decide) 15 rfl (fun h => absurd h (by decide)) (fun _ => ?_)
      refine r_aload_n hC 2 dX6_isTaken_15 rfl 16 rfl ?_
      refine r_iload hC 0 dX6_isTaken_16 rfl 18 rfl ?_
      refine r_iconst hC 1 dX6_isTaken_18 ic_1 19 rfl ?_
      refine r_invSr hC [.int 2, .int 1] (.int 17) mSX6_at q2711 (metX6_at _ _ hG 2 1) (fun _ _ => xIn.nil) ⟨rfl, rfl⟩ 0 0 rfl rfl (Nat.le_of_ble_eq_true rfl) (Nat.le_of_ble_eq_true rfl) rfl (Nat.le_of_ble_eq_true rfl) dX6_isTaken_19 22 rfl ?_
      refine r_lald hC 17 (xix_n 17 (Nat.le_of_ble_eq_true rfl) (Nat.le_of_ble_eq_true rfl)) (fun _ h => h.get 1 rfl) (r 17) (rfl) dX6_isTaken_22 23 rfl ?_
      refine r_lload_n hC 4 dX6_isTaken_23 rfl 24 rfl ?_
      refine r_lcne hC 44 dX6_isTaken_24 dX6_isTaken_25 (by decide) 28 rfl (fun c5 => ?_) (fun c5 => ?_)
      · skip
        refine r_iinc hC 3 7 0 [(7, .int 3), (0, .ref (b 0)), (1, .ref a), (2, .int 1), (3, .long x), (5, .long y)] dX6_isTaken_44 rfl (by decide) (Nat.le_of_ble_eq_true rfl) rfl 47 rfl ?_
        refine r_goto hC 3 dX6_isTaken_47 (by decide) ?_
        refine r_iload hC 0 dX6_isTaken_3 rfl 5 rfl ?_
        refine r_iconst hC 3 dX6_isTaken_5 ic_3 6 rfl ?_
        refine r_icge hC 50 dX6_isTaken_6 (by decide) 9 rfl (fun _ => ?_) (fun h => absurd h (by decide))
        refine r_iconst hC 0 dX6_isTaken_50 ic_0 51 rfl ?_
        exact r_zret hC (by decide) (Nat.le_of_ble_eq_true rfl) (Nat.le_of_ble_eq_true rfl) (fun V9 h => hQ _ _ ⟨by rw [← hz]; simp [takenQ, bI, c1, c4, c5], h.1⟩) dX6_isTaken_51
      · skip
        refine r_aload_n hC 2 dX6_isTaken_28 rfl 29 rfl ?_
        refine r_iload hC 0 dX6_isTaken_29 rfl 31 rfl ?_
        refine r_iconst hC 2 dX6_isTaken_31 ic_2 32 rfl ?_
        refine r_invSr hC [.int 2, .int 2] (.int 18) mSX6_at q2711 (metX6_at _ _ hG 2 2) (fun _ _ => xIn.nil) ⟨rfl, rfl⟩ 0 0 rfl rfl (Nat.le_of_ble_eq_true rfl) (Nat.le_of_ble_eq_true rfl) rfl (Nat.le_of_ble_eq_true rfl) dX6_isTaken_32 35 rfl ?_
        refine r_lald hC 18 (xix_n 18 (Nat.le_of_ble_eq_true rfl) (Nat.le_of_ble_eq_true rfl)) (fun _ h => h.get 1 rfl) (r 18) (rfl) dX6_isTaken_35 36 rfl ?_
        refine r_lload hC 5 dX6_isTaken_36 rfl 38 rfl ?_
        refine r_lcne hC 44 dX6_isTaken_38 dX6_isTaken_39 (by decide) 42 rfl (fun c6 => ?_) (fun c6 => ?_)
        · skip
          refine r_iinc hC 3 7 0 [(7, .int 3), (0, .ref (b 0)), (1, .ref a), (2, .int 1), (3, .long x), (5, .long y)] dX6_isTaken_44 rfl (by decide) (Nat.le_of_ble_eq_true rfl) rfl 47 rfl ?_
          refine r_goto hC 3 dX6_isTaken_47 (by decide) ?_
          refine r_iload hC 0 dX6_isTaken_3 rfl 5 rfl ?_
          refine r_iconst hC 3 dX6_isTaken_5 ic_3 6 rfl ?_
          refine r_icge hC 50 dX6_isTaken_6 (by decide) 9 rfl (fun _ => ?_) (fun h => absurd h (by decide))
          refine r_iconst hC 0 dX6_isTaken_50 ic_0 51 rfl ?_
          exact r_zret hC (by decide) (Nat.le_of_ble_eq_true rfl) (Nat.le_of_ble_eq_true rfl) (fun V9 h => hQ _ _ ⟨by rw [← hz]; simp [takenQ, bI, c1, c4, c5, c6], h.1⟩) dX6_isTaken_51
        · skip
          refine r_iconst hC 1 dX6_isTaken_42 ic_1 43 rfl ?_
          exact r_zret hC (by decide) (Nat.le_of_ble_eq_true rfl) (Nat.le_of_ble_eq_true rfl) (fun V9 h => hQ _ _ ⟨by rw [← hz]; simp [takenQ, bI, c1, c4, c5, c6], h.1⟩) dX6_isTaken_43
    · skip
      refine r_iconst hC 1 dX6_isTaken_42 ic_1 43 rfl ?_
      exact r_zret hC (by decide) (Nat.le_of_ble_eq_true rfl) (Nat.le_of_ble_eq_true rfl) (fun V9 h => hQ _ _ ⟨by rw [← hz]; simp [takenQ, bI, c1, c4], h.1⟩) dX6_isTaken_43
set_option maxHeartbeats 4000000 in
set_option maxRecDepth 100000 in
theorem metX6_isTaken2 (l : Launch) (G : xG) (hG : xGood G) (b : Nat → Nat) (i : Nat → Int32) (j : Nat → Int64) (a : Nat) (r : Nat → Int64) (x y : Int64) (z : Int32) (hz : bI (takenQ r 2 x y) = z) : xRm l G yX6_isTaken (Cond.code yX6_isTaken cX6_isTaken 8 (some .boolean)) { frames := 1, locals := 21, cells := 0, slots := 0 } [.ref (b 0), .ref a, .int 2, .long x, .long y] [(b 0, .inr (5, mF b i j)), (a, .inl (1, 111, .inr (.inl r)))] (some (.int z)) := by
  intro V hV
  refine xMet_of RX6 hG rfl (by decide) (Nat.le_of_ble_eq_true rfl) fun C hC hQ hX hl hg _ => ?_
  subst hl hg
  refine rn.mono (J := xRo [(b 0, .inr (5, mF b i j)), (a, .inl (1, 111, .inr (.inl r)))] V) (fun V9 h => ⟨h, hV⟩) ?_
  show rn C (xRo [(b 0, .inr (5, mF b i j)), (a, .inl (1, 111, .inr (.inl r)))] V) 0 0 0 [(0, .ref (b 0)), (1, .ref a), (2, .int 2), (3, .long x), (5, .long y)] []
  refine r_iconst hC 0 dX6_isTaken_0 ic_0 1 rfl ?_
  refine r_istore hC 7 [(7, .int 0), (0, .ref (b 0)), (1, .ref a), (2, .int 2), (3, .long x), (5, .long y)] dX6_isTaken_1 (Nat.le_of_ble_eq_true rfl) rfl 3 rfl ?_
  refine r_iload hC 0 dX6_isTaken_3 rfl 5 rfl ?_
  refine r_iconst hC 3 dX6_isTaken_5 ic_3 6 rfl ?_
  refine r_icge hC 50 dX6_isTaken_6 (by decide) 9 rfl (fun h => absurd h (by decide)) (fun _ => ?_)
  refine r_iload hC 0 dX6_isTaken_9 rfl 11 rfl ?_
  refine r_iload_n hC 3 dX6_isTaken_11 rfl 12 rfl ?_
  refine r_iceq hC 44 dX6_isTaken_12 (by decide) 15 rfl (fun h => absurd h (by decide)) (fun _ => ?_)
  refine r_aload_n hC 2 dX6_isTaken_15 rfl 16 rfl ?_
  refine r_iload hC 0 dX6_isTaken_16 rfl 18 rfl ?_
  refine r_iconst hC 1 dX6_isTaken_18 ic_1 19 rfl ?_
  refine r_invSr hC [.int 0, .int 1] (.int 7) mSX6_at q2711 (metX6_at _ _ hG 0 1) (fun _ _ => xIn.nil) ⟨rfl, rfl⟩ 0 0 rfl rfl (Nat.le_of_ble_eq_true rfl) (Nat.le_of_ble_eq_true rfl) rfl (Nat.le_of_ble_eq_true rfl) dX6_isTaken_19 22 rfl ?_
  refine r_lald hC 7 (xix_n 7 (Nat.le_of_ble_eq_true rfl) (Nat.le_of_ble_eq_true rfl)) (fun _ h => h.get 1 rfl) (r 7) (rfl) dX6_isTaken_22 23 rfl ?_
  refine r_lload_n hC 4 dX6_isTaken_23 rfl 24 rfl ?_
  refine r_lcne hC 44 dX6_isTaken_24 dX6_isTaken_25 (by decide) 28 rfl (fun c1 => ?_) (fun c1 => ?_)
  · skip
    refine r_iinc hC 1 7 0 [(7, .int 1), (0, .ref (b 0)), (1, .ref a), (2, .int 2), (3, .long x), (5, .long y)] dX6_isTaken_44 rfl (by decide) (Nat.le_of_ble_eq_true rfl) rfl 47 rfl ?_
    refine r_goto hC 3 dX6_isTaken_47 (by decide) ?_
    refine r_iload hC 0 dX6_isTaken_3 rfl 5 rfl ?_
    refine r_iconst hC 3 dX6_isTaken_5 ic_3 6 rfl ?_
    refine r_icge hC 50 dX6_isTaken_6 (by decide) 9 rfl (fun h => absurd h (by decide)) (fun _ => ?_)
    refine r_iload hC 0 dX6_isTaken_9 rfl 11 rfl ?_
    refine r_iload_n hC 3 dX6_isTaken_11 rfl 12 rfl ?_
    refine r_iceq hC 44 dX6_isTaken_12 (by decide) 15 rfl (fun h => absurd h (by decide)) (fun _ => ?_)
    refine r_aload_n hC 2 dX6_isTaken_15 rfl 16 rfl ?_
    refine r_iload hC 0 dX6_isTaken_16 rfl 18 rfl ?_
    refine r_iconst hC 1 dX6_isTaken_18 ic_1 19 rfl ?_
    refine r_invSr hC [.int 1, .int 1] (.int 12) mSX6_at q2711 (metX6_at _ _ hG 1 1) (fun _ _ => xIn.nil) ⟨rfl, rfl⟩ 0 0 rfl rfl (Nat.le_of_ble_eq_true rfl) (Nat.le_of_ble_eq_true rfl) rfl (Nat.le_of_ble_eq_true rfl) dX6_isTaken_19 22 rfl ?_
    refine r_lald hC 12 (xix_n 12 (Nat.le_of_ble_eq_true rfl) (Nat.le_of_ble_eq_true rfl)) (fun _ h => h.get 1 rfl) (r 12) (rfl) dX6_isTaken_22 23 rfl ?_
    refine r_lload_n hC 4 dX6_isTaken_23 rfl 24 rfl ?_
    refine r_lcne hC 44 dX6_isTaken_24 dX6_isTaken_25 (by decide) 28 rfl (fun c2 => ?_) (fun c2 => ?_)
    · skip
      refine r_iinc hC 2 7 0 [(7, .int 2), (0, .ref (b 0)), (1, .ref a), (2, .int 2), (3, .long x), (5, .long y)] dX6_isTaken_44 rfl (by decide) (Nat.le_of_ble_eq_true rfl) rfl 47 rfl ?_
      refine r_goto hC 3 dX6_isTaken_47 (by decide) ?_
      refine r_iload hC 0 dX6_isTaken_3 rfl 5 rfl ?_
      refine r_iconst hC 3 dX6_isTaken_5 ic_3 6 rfl ?_
      refine r_icge hC 50 dX6_isTaken_6 (by decide) 9 rfl (fun h => absurd h (by decide)) (fun _ => ?_)
      refine r_iload hC 0 dX6_isTaken_9 rfl 11 rfl ?_
      refine r_iload_n hC 3 dX6_isTaken_11 rfl 12 rfl ?_
      refine r_iceq hC 44 dX6_isTaken_12 (by decide) 15 rfl (fun _ => ?_) (fun h => absurd h (by decide))
      refine r_iinc hC 3 7 0 [(7, .int 3), (0, .ref (b 0)), (1, .ref a), (2, .int 2), (3, .long x), (5, .long y)] dX6_isTaken_44 rfl (by decide) (Nat.le_of_ble_eq_true rfl) rfl 47 rfl ?_
      refine r_goto hC 3 dX6_isTaken_47 (by decide) ?_
      refine r_iload hC 0 dX6_isTaken_3 rfl 5 rfl ?_
      refine r_iconst hC 3 dX6_isTaken_5 ic_3 6 rfl ?_
      refine r_icge hC 50 dX6_isTaken_6 (by decide) 9 rfl (fun _ => ?_) (fun h => absurd h (by decide))
      refine r_iconst hC 0 dX6_isTaken_50 ic_0 51 rfl ?_
      exact r_zret hC (by decide) (Nat.le_of_ble_eq_true rfl) (Nat.le_of_ble_eq_true rfl) (fun V9 h => hQ _ _ ⟨by rw [← hz]; simp [takenQ, bI, c1, c2], h.1⟩) dX6_isTaken_51
    · skip
      refine r_aload_n hC 2 dX6_isTaken_28 rfl 29 rfl ?_
      refine r_iload hC 0 dX6_isTaken_29 rfl 31 rfl ?_
      refine r_iconst hC 2 dX6_isTaken_31 ic_2 32 rfl ?_
      refine r_invSr hC [.int 1, .int 2] (.int 13) mSX6_at q2711 (metX6_at _ _ hG 1 2) (fun _ _ => xIn.nil) ⟨rfl, rfl⟩ 0 0 rfl rfl (Nat.le_of_ble_eq_true rfl) (Nat.le_of_ble_eq_true rfl) rfl (Nat.le_of_ble_eq_true rfl) dX6_isTaken_32 35 rfl ?_
      refine r_lald hC 13 (xix_n 13 (Nat.le_of_ble_eq_true rfl) (Nat.le_of_ble_eq_true rfl)) (fun _ h => h.get 1 rfl) (r 13) (rfl) dX6_isTaken_35 36 rfl ?_
      refine r_lload hC 5 dX6_isTaken_36 rfl 38 rfl ?_
      refine r_lcne hC 44 dX6_isTaken_38 dX6_isTaken_39 (by decide) 42 rfl (fun c3 => ?_) (fun c3 => ?_)
      · skip
        refine r_iinc hC 2 7 0 [(7, .int 2), (0, .ref (b 0)), (1, .ref a), (2, .int 2), (3, .long x), (5, .long y)] dX6_isTaken_44 rfl (by decide) (Nat.le_of_ble_eq_true rfl) rfl 47 rfl ?_
        refine r_goto hC 3 dX6_isTaken_47 (by decide) ?_
        refine r_iload hC 0 dX6_isTaken_3 rfl 5 rfl ?_
        refine r_iconst hC 3 dX6_isTaken_5 ic_3 6 rfl ?_
        refine r_icge hC 50 dX6_isTaken_6 (by decide) 9 rfl (fun h => absurd h (by decide)) (fun _ => ?_)
        refine r_iload hC 0 dX6_isTaken_9 rfl 11 rfl ?_
        refine r_iload_n hC 3 dX6_isTaken_11 rfl 12 rfl ?_
        refine r_iceq hC 44 dX6_isTaken_12 (by decide) 15 rfl (fun _ => ?_) (fun h => absurd h (by decide))
        refine r_iinc hC 3 7 0 [(7, .int 3), (0, .ref (b 0)), (1, .ref a), (2, .int 2), (3, .long x), (5, .long y)] dX6_isTaken_44 rfl (by decide) (Nat.le_of_ble_eq_true rfl) rfl 47 rfl ?_
        refine r_goto hC 3 dX6_isTaken_47 (by decide) ?_
        refine r_iload hC 0 dX6_isTaken_3 rfl 5 rfl ?_
        refine r_iconst hC 3 dX6_isTaken_5 ic_3 6 rfl ?_
        refine r_icge hC 50 dX6_isTaken_6 (by decide) 9 rfl (fun _ => ?_) (fun h => absurd h (by decide))
        refine r_iconst hC 0 dX6_isTaken_50 ic_0 51 rfl ?_
        exact r_zret hC (by decide) (Nat.le_of_ble_eq_true rfl) (Nat.le_of_ble_eq_true rfl) (fun V9 h => hQ _ _ ⟨by rw [← hz]; simp [takenQ, bI, c1, c2, c3], h.1⟩) dX6_isTaken_51
      · skip
        refine r_iconst hC 1 dX6_isTaken_42 ic_1 43 rfl ?_
        exact r_zret hC (by decide) (Nat.le_of_ble_eq_true rfl) (Nat.le_of_ble_eq_true rfl) (fun V9 h => hQ _ _ ⟨by rw [← hz]; simp [takenQ, bI, c1, c2, c3], h.1⟩) dX6_isTaken_43
  · skip
    refine r_aload_n hC 2 dX6_isTaken_28 rfl 29 rfl ?_
    refine r_iload hC 0 dX6_isTaken_29 rfl 31 rfl ?_
    refine r_iconst hC 2 dX6_isTaken_31 ic_2 32 rfl ?_
    refine r_invSr hC [.int 0, .int 2] (.int 8) mSX6_at q2711 (metX6_at _ _ hG 0 2) (fun _ _ => xIn.nil) ⟨rfl, rfl⟩ 0 0 rfl rfl (Nat.le_of_ble_eq_true rfl) (Nat.le_of_ble_eq_true rfl) rfl (Nat.le_of_ble_eq_true rfl) dX6_isTaken_32 35 rfl ?_
    refine r_lald hC 8 (xix_n 8 (Nat.le_of_ble_eq_true rfl) (Nat.le_of_ble_eq_true rfl)) (fun _ h => h.get 1 rfl) (r 8) (rfl) dX6_isTaken_35 36 rfl ?_
    refine r_lload hC 5 dX6_isTaken_36 rfl 38 rfl ?_
    refine r_lcne hC 44 dX6_isTaken_38 dX6_isTaken_39 (by decide) 42 rfl (fun c4 => ?_) (fun c4 => ?_)
    · skip
      refine r_iinc hC 1 7 0 [(7, .int 1), (0, .ref (b 0)), (1, .ref a), (2, .int 2), (3, .long x), (5, .long y)] dX6_isTaken_44 rfl (by decide) (Nat.le_of_ble_eq_true rfl) rfl 47 rfl ?_
      refine r_goto hC 3 dX6_isTaken_47 (by decide) ?_
      refine r_iload hC 0 dX6_isTaken_3 rfl 5 rfl ?_
      refine r_iconst hC 3 dX6_isTaken_5 ic_3 6 rfl ?_
      refine r_icge hC 50 dX6_isTaken_6 (by decide) 9 rfl (fun h => absurd h (by decide)) (fun _ => ?_)
      refine r_iload hC 0 dX6_isTaken_9 rfl 11 rfl ?_
      refine r_iload_n hC 3 dX6_isTaken_11 rfl 12 rfl ?_
      refine r_iceq hC 44 dX6_isTaken_12 (by decide) 15 rfl (fun h => absurd h (by decide)) (fun _ => ?_)
      refine r_aload_n hC 2 dX6_isTaken_15 rfl 16 rfl ?_
      refine r_iload hC 0 dX6_isTaken_16 rfl 18 rfl ?_
      refine r_iconst hC 1 dX6_isTaken_18 ic_1 19 rfl ?_
      refine r_invSr hC [.int 1, .int 1] (.int 12) mSX6_at q2711 (metX6_at _ _ hG 1 1) (fun _ _ => xIn.nil) ⟨rfl, rfl⟩ 0 0 rfl rfl (Nat.le_of_ble_eq_true rfl) (Nat.le_of_ble_eq_true rfl) rfl (Nat.le_of_ble_eq_true rfl) dX6_isTaken_19 22 rfl ?_
      refine r_lald hC 12 (xix_n 12 (Nat.le_of_ble_eq_true rfl) (Nat.le_of_ble_eq_true rfl)) (fun _ h => h.get 1 rfl) (r 12) (rfl) dX6_isTaken_22 23 rfl ?_
      refine r_lload_n hC 4 dX6_isTaken_23 rfl 24 rfl ?_
      refine r_lcne hC 44 dX6_isTaken_24 dX6_isTaken_25 (by decide) 28 rfl (fun c5 => ?_) (fun c5 => ?_)
      · skip
        refine r_iinc hC 2 7 0 [(7, .int 2), (0, .ref (b 0)), (1, .ref a), (2, .int 2), (3, .long x), (5, .long y)] dX6_isTaken_44 rfl (by decide) (Nat.le_of_ble_eq_true rfl) rfl 47 rfl ?_
        refine r_goto hC 3 dX6_isTaken_47 (by decide) ?_
        refine r_iload hC 0 dX6_isTaken_3 rfl 5 rfl ?_
        refine r_iconst hC 3 dX6_isTaken_5 ic_3 6 rfl ?_
        refine r_icge hC 50 dX6_isTaken_6 (by decide) 9 rfl (fun h => absurd h (by decide)) (fun _ => ?_)
        refine r_iload hC 0 dX6_isTaken_9 rfl 11 rfl ?_
        refine r_iload_n hC 3 dX6_isTaken_11 rfl 12 rfl ?_
        refine r_iceq hC 44 dX6_isTaken_12 (by decide) 15 rfl (fun _ => ?_) (fun h => absurd h (by decide))
        refine r_iinc hC 3 7 0 [(7, .int 3), (0, .ref (b 0)), (1, .ref a), (2, .int 2), (3, .long x), (5, .long y)] dX6_isTaken_44 rfl (by decide) (Nat.le_of_ble_eq_true rfl) rfl 47 rfl ?_
        refine r_goto hC 3 dX6_isTaken_47 (by decide) ?_
        refine r_iload hC 0 dX6_isTaken_3 rfl 5 rfl ?_
        refine r_iconst hC 3 dX6_isTaken_5 ic_3 6 rfl ?_
        refine r_icge hC 50 dX6_isTaken_6 (by decide) 9 rfl (fun _ => ?_) (fun h => absurd h (by decide))
        refine r_iconst hC 0 dX6_isTaken_50 ic_0 51 rfl ?_
        exact r_zret hC (by decide) (Nat.le_of_ble_eq_true rfl) (Nat.le_of_ble_eq_true rfl) (fun V9 h => hQ _ _ ⟨by rw [← hz]; simp [takenQ, bI, c1, c4, c5], h.1⟩) dX6_isTaken_51
      · skip
        refine r_aload_n hC 2 dX6_isTaken_28 rfl 29 rfl ?_
        refine r_iload hC 0 dX6_isTaken_29 rfl 31 rfl ?_
        refine r_iconst hC 2 dX6_isTaken_31 ic_2 32 rfl ?_
        refine r_invSr hC [.int 1, .int 2] (.int 13) mSX6_at q2711 (metX6_at _ _ hG 1 2) (fun _ _ => xIn.nil) ⟨rfl, rfl⟩ 0 0 rfl rfl (Nat.le_of_ble_eq_true rfl) (Nat.le_of_ble_eq_true rfl) rfl (Nat.le_of_ble_eq_true rfl) dX6_isTaken_32 35 rfl ?_
        refine r_lald hC 13 (xix_n 13 (Nat.le_of_ble_eq_true rfl) (Nat.le_of_ble_eq_true rfl)) (fun _ h => h.get 1 rfl) (r 13) (rfl) dX6_isTaken_35 36 rfl ?_
        refine r_lload hC 5 dX6_isTaken_36 rfl 38 rfl ?_
        refine r_lcne hC 44 dX6_isTaken_38 dX6_isTaken_39 (by decide) 42 rfl (fun c6 => ?_) (fun c6 => ?_)
        · skip
          refine r_iinc hC 2 7 0 [(7, .int 2), (0, .ref (b 0)), (1, .ref a), (2, .int 2), (3, .long x), (5, .long y)] dX6_isTaken_44 rfl (by decide) (Nat.le_of_ble_eq_true rfl) rfl 47 rfl ?_
          refine r_goto hC 3 dX6_isTaken_47 (by decide) ?_
          refine r_iload hC 0 dX6_isTaken_3 rfl 5 rfl ?_
          refine r_iconst hC 3 dX6_isTaken_5 ic_3 6 rfl ?_
          refine r_icge hC 50 dX6_isTaken_6 (by decide) 9 rfl (fun h => absurd h (by decide)) (fun _ => ?_)
          refine r_iload hC 0 dX6_isTaken_9 rfl 11 rfl ?_
          refine r_iload_n hC 3 dX6_isTaken_11 rfl 12 rfl ?_
          refine r_iceq hC 44 dX6_isTaken_12 (by decide) 15 rfl (fun _ => ?_) (fun h => absurd h (by decide))
          refine r_iinc hC 3 7 0 [(7, .int 3), (0, .ref (b 0)), (1, .ref a), (2, .int 2), (3, .long x), (5, .long y)] dX6_isTaken_44 rfl (by decide) (Nat.le_of_ble_eq_true rfl) rfl 47 rfl ?_
          refine r_goto hC 3 dX6_isTaken_47 (by decide) ?_
          refine r_iload hC 0 dX6_isTaken_3 rfl 5 rfl ?_
          refine r_iconst hC 3 dX6_isTaken_5 ic_3 6 rfl ?_
          refine r_icge hC 50 dX6_isTaken_6 (by decide) 9 rfl (fun _ => ?_) (fun h => absurd h (by decide))
          refine r_iconst hC 0 dX6_isTaken_50 ic_0 51 rfl ?_
          exact r_zret hC (by decide) (Nat.le_of_ble_eq_true rfl) (Nat.le_of_ble_eq_true rfl) (fun V9 h => hQ _ _ ⟨by rw [← hz]; simp [takenQ, bI, c1, c4, c5, c6], h.1⟩) dX6_isTaken_51
        · skip
          refine r_iconst hC 1 dX6_isTaken_42 ic_1 43 rfl ?_
          exact r_zret hC (by decide) (Nat.le_of_ble_eq_true rfl) (Nat.le_of_ble_eq_true rfl) (fun V9 h => hQ _ _ ⟨by rw [← hz]; simp [takenQ, bI, c1, c4, c5, c6], h.1⟩) dX6_isTaken_43
    · skip
      refine r_iconst hC 1 dX6_isTaken_42 ic_1 43 rfl ?_
      exact r_zret hC (by decide) (Nat.le_of_ble_eq_true rfl) (Nat.le_of_ble_eq_true rfl) (fun V9 h => hQ _ _ ⟨by rw [← hz]; simp [takenQ, bI, c1, c4], h.1⟩) dX6_isTaken_43
set_option maxHeartbeats 4000000 in
set_option maxRecDepth 100000 in
theorem metX6_isTaken (l : Launch) (G : xG) (hG : xGood G) (b : Nat → Nat) (i : Nat → Int32) (j : Nat → Int64) (a : Nat) (r : Nat → Int64) (p : Nat) (hp : p < 3) (x y : Int64) (z : Int32) (hz : bI (takenQ r p x y) = z) : xRm l G yX6_isTaken (Cond.code yX6_isTaken cX6_isTaken 8 (some .boolean)) { frames := 1, locals := 21, cells := 0, slots := 0 } [.ref (b 0), .ref a, .int (nI p), .long x, .long y] [(b 0, .inr (5, mF b i j)), (a, .inl (1, 111, .inr (.inl r)))] (some (.int z)) := by
  rcases (show p = 0 ∨ p = 1 ∨ p = 2 by omega) with rfl | rfl | rfl
  · exact metX6_isTaken0 l G hG b i j a r x y z hz
  · exact metX6_isTaken1 l G hG b i j a r x y z hz
  · exact metX6_isTaken2 l G hG b i j a r x y z hz
set_option maxHeartbeats 4000000 in
set_option maxRecDepth 100000 in
theorem metX6_placeG (l : Launch) (G : xG) (hG : xGood G) (b : Nat → Nat) (i : Nat → Int32) (j : Nat → Int64) (r hy : Nat → Int64) (rc : Nat) (hrc : rc ≤ 10) (hi : i 10 = nI rc) (p : Nat) (hp : p < 3) (x y : Int32) (hx : bI (m_in x.toInt64 (-100000) 100000) = 1) (hy2 : bI (m_in y.toInt64 (-100000) 100000) = 1) (hk : bI (takenQ r p x.toInt64 y.toInt64) = 0) : xWm l G yX6_place (Cond.code yX6_place cX6_place 6 (some .int)) { frames := 2, locals := 50, cells := 0, slots := 0 } [.ref (b 0), .int (nI p), .int x, .int y] [(b 0, .inr (5, mF b i j)), (b 1, .inl (1, 111, .inr (.inl r))), (b 6, .inl (1, 1110, .inr (.inl hy)))] (fun v w' => v = some (.int (nI (awayQ (x.toInt64 - r (6 + 5 * p + 1)) (y.toInt64 - r (6 + 5 * p + 2))))) ∧ w' = [(b 0, .inr (5, mF b (va_up (va_up (va_up i 0 0) 10 (nI (recN rc))) 11 0) j)), (b 1, .inl (1, 111, .inr (.inl (va_up (va_up r (6 + 5 * p + 1) x.toInt64) (6 + 5 * p + 2) y.toInt64)))), (b 6, .inl (1, 1110, .inr (.inl (recH hy r rc))))]) (fun _ _ => False) := by
  intro V hV
  refine xMet_of RX6 hG rfl (by decide) (Nat.le_of_ble_eq_true rfl) fun C hC hQ hX hl hg _ => ?_
  subst hl hg
  obtain ⟨V0, hV0⟩ : ∃ V0, V0 = V := ⟨_, rfl⟩
  obtain ⟨F, hF⟩ : ∃ F, F = xF [(b 0, .inr (5, mF b i j)), (b 1, .inl (1, 111, .inr (.inl r))), (b 6, .inl (1, 1110, .inr (.inl hy)))] := ⟨_, rfl⟩
  refine rn.mono (J := xSt F V0 [(b 0, .inr (5, mF b i j)), (b 1, .inl (1, 111, .inr (.inl r))), (b 6, .inl (1, 1110, .inr (.inl hy)))]) (fun V9 h => by rw [h, hV0, hF]; exact hV.st) ?_
  show rn C (xSt F V0 [(b 0, .inr (5, mF b i j)), (b 1, .inl (1, 111, .inr (.inl r))), (b 6, .inl (1, 1110, .inr (.inl hy)))]) 0 0 0 [(0, .ref (b 0)), (1, .int (nI p)), (2, .int x), (3, .int y)] []
  refine r_aload_n hC 0 dX6_place_0 rfl 1 rfl ?_
  refine r_iload_n hC 1 dX6_place_1 rfl 2 rfl ?_
  refine r_invVw hC kX6 (b 0) [.int (nI p)] [(b 1, .inl (1, 111, .inr (.inl r))), (b 6, .inl (1, 1110, .inr (.inl hy)))] mVX6_noBody q2996 0 rfl (metX6_noBody0 _ _ hG b _ _ p (by omega)) [0] [1, 2] rfl rfl rfl rfl (by decide) ⟨rfl, rfl⟩ 0 0 rfl rfl (Nat.le_of_ble_eq_true rfl) (Nat.le_of_ble_eq_true rfl) rfl (Nat.le_of_ble_eq_true rfl) dX6_place_2 5 rfl (fun v1 w2 h3 => ?_) (fun _ _ h => h.elim)
  obtain ⟨rfl, rfl⟩ := h3
  show rn C (xSt F V0 [(b 1, .inl (1, 111, .inr (.inl r))), (b 6, .inl (1, 1110, .inr (.inl hy))), (b 0, .inr (5, mF b (va_up i 0 0) j))]) 0 0 5 [(0, .ref (b 0)), (1, .int (nI p)), (2, .int x), (3, .int y)] [.int 0]
  refine r_ifne hC 49 dX6_place_5 (by decide) 8 rfl (fun h => absurd h (by decide)) (fun _ => ?_)
  refine r_aload_n hC 0 dX6_place_8 rfl 9 rfl ?_
  refine r_iload_n hC 2 dX6_place_9 rfl 10 rfl ?_
  refine r_i2l hC x.toInt64 dX6_place_10 (rfl) 11 rfl ?_
  refine r_ldc2 hC q3099 dX6_place_11 14 rfl ?_
  refine r_ldc2 hC q2983 dX6_place_14 17 rfl ?_
  refine r_invSr hC [.long x.toInt64, .long (-100000), .long 100000] (.int 1) mSX6_in q2891 (metX6_inB _ _ hG x.toInt64 (-100000) 100000 1 (hx)) (fun _ _ => xIn.nil) ⟨rfl, rfl⟩ 0 0 rfl rfl (Nat.le_of_ble_eq_true rfl) (Nat.le_of_ble_eq_true rfl) rfl (Nat.le_of_ble_eq_true rfl) dX6_place_17 20 rfl ?_
  refine r_ifeq hC 41 dX6_place_20 (by decide) 23 rfl (fun h => absurd h (by decide)) (fun _ => ?_)
  refine r_iload_n hC 3 dX6_place_23 rfl 24 rfl ?_
  refine r_i2l hC y.toInt64 dX6_place_24 (rfl) 25 rfl ?_
  refine r_ldc2 hC q3099 dX6_place_25 28 rfl ?_
  refine r_ldc2 hC q2983 dX6_place_28 31 rfl ?_
  refine r_invSr hC [.long y.toInt64, .long (-100000), .long 100000] (.int 1) mSX6_in q2891 (metX6_inB _ _ hG y.toInt64 (-100000) 100000 1 (hy2)) (fun _ _ => xIn.nil) ⟨rfl, rfl⟩ 0 0 rfl rfl (Nat.le_of_ble_eq_true rfl) (Nat.le_of_ble_eq_true rfl) rfl (Nat.le_of_ble_eq_true rfl) dX6_place_31 34 rfl ?_
  refine r_ifeq hC 41 dX6_place_34 (by decide) 37 rfl (fun h => absurd h (by decide)) (fun _ => ?_)
  refine r_iconst hC 1 dX6_place_37 ic_1 38 rfl ?_
  refine r_goto hC 42 dX6_place_38 (by decide) ?_
  refine r_iconst hC 2 dX6_place_42 ic_2 43 rfl ?_
  refine r_invVr hC kX6 (b 0) [.int 1, .int 2] (.int 0) mVX6_fails q2894 (fun _ h => h.get 2 rfl) (metX6_fails1 _ _ hG b _ _ 2) (fun _ h => h.in.sub [2] rfl rfl) ⟨rfl, rfl⟩ 0 0 rfl rfl (Nat.le_of_ble_eq_true rfl) (Nat.le_of_ble_eq_true rfl) rfl (Nat.le_of_ble_eq_true rfl) dX6_place_43 46 rfl ?_
  refine r_ifeq hC 51 dX6_place_46 (by decide) 49 rfl (fun _ => ?_) (fun h => absurd h (by decide))
  refine r_aload_n hC 0 dX6_place_51 rfl 52 rfl ?_
  refine r_aload_n hC 0 dX6_place_52 rfl 53 rfl ?_
  refine r_get (v := .ref (b 1)) hC kX6 1 rfl q2754 (fun _ h => h.get 2 rfl) rfl dX6_place_53 56 rfl ?_
  refine r_iload_n hC 1 dX6_place_56 rfl 57 rfl ?_
  refine r_iload_n hC 2 dX6_place_57 rfl 58 rfl ?_
  refine r_i2l hC x.toInt64 dX6_place_58 (rfl) 59 rfl ?_
  refine r_iload_n hC 3 dX6_place_59 rfl 60 rfl ?_
  refine r_i2l hC y.toInt64 dX6_place_60 (rfl) 61 rfl ?_
  refine r_invVr hC kX6 (b 0) [.ref (b 1), .int (nI p), .long x.toInt64, .long y.toInt64] (.int 0) mVX6_isTaken q3126 (fun _ h => h.get 2 rfl) (metX6_isTaken _ _ hG b _ _ (b 1) _ p (by omega) x.toInt64 y.toInt64 0 (hk)) (fun _ h => h.in.sub [2, 0] rfl rfl) ⟨rfl, rfl⟩ 0 0 rfl rfl (Nat.le_of_ble_eq_true rfl) (Nat.le_of_ble_eq_true rfl) rfl (Nat.le_of_ble_eq_true rfl) dX6_place_61 64 rfl ?_
  refine r_ifeq hC 70 dX6_place_64 (by decide) 67 rfl (fun _ => ?_) (fun h => absurd h (by decide))
  refine r_aload_n hC 0 dX6_place_70 rfl 71 rfl ?_
  refine r_invVw hC kX6 (b 0) [] [] mVX6_begins q3114 2 rfl (metX6_begins _ _ hG b (va_up i 0 0) _ _ _ rc hrc (show (va_up i 0 0) 10 = nI rc from hi)) [2, 0, 1] [] rfl rfl rfl rfl (by decide) ⟨rfl, rfl⟩ 0 0 rfl rfl (Nat.le_of_ble_eq_true rfl) (Nat.le_of_ble_eq_true rfl) rfl (Nat.le_of_ble_eq_true rfl) dX6_place_71 74 rfl (fun v4 w5 h6 => ?_) (fun _ _ h => h.elim)
  obtain ⟨rfl, rfl⟩ := h6
  show rn C (xSt F V0 [(b 0, .inr (5, mF b (va_up (va_up (va_up i 0 0) 10 (nI (recN rc))) 11 0) j)), (b 1, .inl (1, 111, .inr (.inl r))), (b 6, .inl (1, 1110, .inr (.inl (recH hy r rc))))]) 0 0 74 [(0, .ref (b 0)), (1, .int (nI p)), (2, .int x), (3, .int y)] []
  refine r_iload_n hC 2 dX6_place_74 rfl 75 rfl ?_
  refine r_i2l hC x.toInt64 dX6_place_75 (rfl) 76 rfl ?_
  refine r_aload_n hC 0 dX6_place_76 rfl 77 rfl ?_
  refine r_get (v := .ref (b 1)) hC kX6 1 rfl q2754 (fun _ h => h.get 0 rfl) rfl dX6_place_77 80 rfl ?_
  refine r_iload_n hC 1 dX6_place_80 rfl 81 rfl ?_
  refine r_iconst hC 1 dX6_place_81 ic_1 82 rfl ?_
  refine r_invSr hC [.int (nI p), .int 1] (.int (nI (6 + 5 * p + 1))) mSX6_at q2711 (metX6_at _ _ hG p 1) (fun _ _ => xIn.nil) ⟨rfl, rfl⟩ 0 0 rfl rfl (Nat.le_of_ble_eq_true rfl) (Nat.le_of_ble_eq_true rfl) rfl (Nat.le_of_ble_eq_true rfl) dX6_place_82 85 rfl ?_
  refine r_lald hC (6 + 5 * p + 1) (xix_n (6 + 5 * p + 1) (by omega) (Nat.le_of_ble_eq_true rfl)) (fun _ h => h.get 1 rfl) (r (6 + 5 * p + 1)) (rfl) dX6_place_85 86 rfl ?_
  refine r_lsub hC (x.toInt64 - (r (6 + 5 * p + 1))) dX6_place_86  (rfl) 87 rfl ?_
  refine r_iload_n hC 3 dX6_place_87 rfl 88 rfl ?_
  refine r_i2l hC y.toInt64 dX6_place_88 (rfl) 89 rfl ?_
  refine r_aload_n hC 0 dX6_place_89 rfl 90 rfl ?_
  refine r_get (v := .ref (b 1)) hC kX6 1 rfl q2754 (fun _ h => h.get 0 rfl) rfl dX6_place_90 93 rfl ?_
  refine r_iload_n hC 1 dX6_place_93 rfl 94 rfl ?_
  refine r_iconst hC 2 dX6_place_94 ic_2 95 rfl ?_
  refine r_invSr hC [.int (nI p), .int 2] (.int (nI (6 + 5 * p + 2))) mSX6_at q2711 (metX6_at _ _ hG p 2) (fun _ _ => xIn.nil) ⟨rfl, rfl⟩ 0 0 rfl rfl (Nat.le_of_ble_eq_true rfl) (Nat.le_of_ble_eq_true rfl) rfl (Nat.le_of_ble_eq_true rfl) dX6_place_95 98 rfl ?_
  refine r_lald hC (6 + 5 * p + 2) (xix_n (6 + 5 * p + 2) (by omega) (Nat.le_of_ble_eq_true rfl)) (fun _ h => h.get 1 rfl) (r (6 + 5 * p + 2)) (rfl) dX6_place_98 99 rfl ?_
  refine r_lsub hC (y.toInt64 - (r (6 + 5 * p + 2))) dX6_place_99  (rfl) 100 rfl ?_
  refine r_invSr hC [.long (x.toInt64 - (r (6 + 5 * p + 1))), .long (y.toInt64 - (r (6 + 5 * p + 2)))] (.long (lN (awayQ (x.toInt64 - (r (6 + 5 * p + 1))) (y.toInt64 - (r (6 + 5 * p + 2)))))) mSX6_away q2746 (metX6_away _ _ hG (x.toInt64 - (r (6 + 5 * p + 1))) (y.toInt64 - (r (6 + 5 * p + 2)))) (fun _ _ => xIn.nil) ⟨rfl, rfl⟩ 0 0 rfl rfl (Nat.le_of_ble_eq_true rfl) (Nat.le_of_ble_eq_true rfl) rfl (Nat.le_of_ble_eq_true rfl) dX6_place_100 103 rfl ?_
  refine r_lstore hC 4 [(4, .long (lN (awayQ (x.toInt64 - (r (6 + 5 * p + 1))) (y.toInt64 - (r (6 + 5 * p + 2)))))), (0, .ref (b 0)), (1, .int (nI p)), (2, .int x), (3, .int y)] dX6_place_103 (Nat.le_of_ble_eq_true rfl) rfl 105 rfl ?_
  refine r_aload_n hC 1 dX6_place_105 rfl 106 rfl ?_
  refine r_get (v := .ref (b 1)) hC kX6 1 rfl q2754 (fun _ h => h.get 0 rfl) rfl dX6_place_106 109 rfl ?_
  refine r_iload_n hC 2 dX6_place_109 rfl 110 rfl ?_
  refine r_iconst hC 1 dX6_place_110 ic_1 111 rfl ?_
  refine r_invSr hC [.int (nI p), .int 1] (.int (nI (6 + 5 * p + 1))) mSX6_at q2711 (metX6_at _ _ hG p 1) (fun _ _ => xIn.nil) ⟨rfl, rfl⟩ 0 0 rfl rfl (Nat.le_of_ble_eq_true rfl) (Nat.le_of_ble_eq_true rfl) rfl (Nat.le_of_ble_eq_true rfl) dX6_place_111 114 rfl ?_
  refine r_iload_n hC 3 dX6_place_114 rfl 115 rfl ?_
  refine r_i2l hC x.toInt64 dX6_place_115 (rfl) 116 rfl ?_
  refine r_last (J := xSt F V0 [(b 0, .inr (5, mF b (va_up (va_up (va_up i 0 0) 10 (nI (recN rc))) 11 0) j)), (b 1, .inl (1, 111, .inr (.inl (va_up r (6 + 5 * p + 1) x.toInt64)))), (b 6, .inl (1, 1110, .inr (.inl (recH hy r rc))))]) hC (6 + 5 * p + 1) (xix_n (6 + 5 * p + 1) (by omega) (Nat.le_of_ble_eq_true rfl)) (fun _ h => h.get 1 rfl) dX6_place_116 (fun _ h => h.set 1 _ rfl) 117 rfl ?_
  generalize hu7 : va_up r (6 + 5 * p + 1) x.toInt64 = u7
  refine r_aload_n hC 1 dX6_place_117 rfl 118 rfl ?_
  refine r_get (v := .ref (b 1)) hC kX6 1 rfl q2754 (fun _ h => h.get 0 rfl) rfl dX6_place_118 121 rfl ?_
  refine r_iload_n hC 2 dX6_place_121 rfl 122 rfl ?_
  refine r_iconst hC 2 dX6_place_122 ic_2 123 rfl ?_
  refine r_invSr hC [.int (nI p), .int 2] (.int (nI (6 + 5 * p + 2))) mSX6_at q2711 (metX6_at _ _ hG p 2) (fun _ _ => xIn.nil) ⟨rfl, rfl⟩ 0 0 rfl rfl (Nat.le_of_ble_eq_true rfl) (Nat.le_of_ble_eq_true rfl) rfl (Nat.le_of_ble_eq_true rfl) dX6_place_123 126 rfl ?_
  refine r_iload_n hC 4 dX6_place_126 rfl 127 rfl ?_
  refine r_i2l hC y.toInt64 dX6_place_127 (rfl) 128 rfl ?_
  refine r_last (J := xSt F V0 [(b 0, .inr (5, mF b (va_up (va_up (va_up i 0 0) 10 (nI (recN rc))) 11 0) j)), (b 1, .inl (1, 111, .inr (.inl (va_up u7 (6 + 5 * p + 2) y.toInt64)))), (b 6, .inl (1, 1110, .inr (.inl (recH hy r rc))))]) hC (6 + 5 * p + 2) (xix_n (6 + 5 * p + 2) (by omega) (Nat.le_of_ble_eq_true rfl)) (fun _ h => h.get 1 rfl) dX6_place_128 (fun _ h => h.set 1 _ rfl) 129 rfl ?_
  generalize hu8 : va_up u7 (6 + 5 * p + 2) y.toInt64 = u8
  refine r_lload hC 0 dX6_place_129 rfl 131 rfl ?_
  refine r_l2i hC (nI (awayQ (x.toInt64 - r (6 + 5 * p + 1)) (y.toInt64 - r (6 + 5 * p + 2)))) dX6_place_131 (lN_i _) 132 rfl ?_
  subst hu8
  subst hu7
  exact r_iret hC (Nat.le_of_ble_eq_true rfl) (Nat.le_of_ble_eq_true rfl) (fun V9 h => hQ _ _ ⟨[(b 0, .inr (5, mF b (va_up (va_up (va_up i 0 0) 10 (nI (recN rc))) 11 0) j)), (b 1, .inl (1, 111, .inr (.inl (va_up (va_up r (6 + 5 * p + 1) x.toInt64) (6 + 5 * p + 2) y.toInt64)))), (b 6, .inl (1, 1110, .inr (.inl (recH hy r rc))))], ⟨rfl, by simp only [bx_uu]⟩, by rw [← hV0, ← hF]; exact h⟩) dX6_place_132
set_option maxHeartbeats 4000000 in
set_option maxRecDepth 100000 in
theorem metX6_placeN (l : Launch) (G : xG) (hG : xGood G) (b : Nat → Nat) (i : Nat → Int32) (j : Nat → Int64) (r hy : Nat → Int64) (p : Nat) (hp : p < 3) (x y : Int32) (hx : bI (m_in x.toInt64 (-100000) 100000) = 1) (hy2 : bI (m_in y.toInt64 (-100000) 100000) = 1) (hk : bI (takenQ r p x.toInt64 y.toInt64) = 1) : xWm l G yX6_place (Cond.code yX6_place cX6_place 6 (some .int)) { frames := 2, locals := 48, cells := 0, slots := 0 } [.ref (b 0), .int (nI p), .int x, .int y] [(b 0, .inr (5, mF b i j)), (b 1, .inl (1, 111, .inr (.inl r))), (b 6, .inl (1, 1110, .inr (.inl hy)))] (fun v w' => v = some (.int (-3)) ∧ w' = [(b 0, .inr (5, mF b (va_up i 0 0) j)), (b 1, .inl (1, 111, .inr (.inl r))), (b 6, .inl (1, 1110, .inr (.inl hy)))]) (fun _ _ => False) := by
  intro V hV
  refine xMet_of RX6 hG rfl (by decide) (Nat.le_of_ble_eq_true rfl) fun C hC hQ hX hl hg _ => ?_
  subst hl hg
  obtain ⟨V0, hV0⟩ : ∃ V0, V0 = V := ⟨_, rfl⟩
  obtain ⟨F, hF⟩ : ∃ F, F = xF [(b 0, .inr (5, mF b i j)), (b 1, .inl (1, 111, .inr (.inl r))), (b 6, .inl (1, 1110, .inr (.inl hy)))] := ⟨_, rfl⟩
  refine rn.mono (J := xSt F V0 [(b 0, .inr (5, mF b i j)), (b 1, .inl (1, 111, .inr (.inl r))), (b 6, .inl (1, 1110, .inr (.inl hy)))]) (fun V9 h => by rw [h, hV0, hF]; exact hV.st) ?_
  show rn C (xSt F V0 [(b 0, .inr (5, mF b i j)), (b 1, .inl (1, 111, .inr (.inl r))), (b 6, .inl (1, 1110, .inr (.inl hy)))]) 0 0 0 [(0, .ref (b 0)), (1, .int (nI p)), (2, .int x), (3, .int y)] []
  refine r_aload_n hC 0 dX6_place_0 rfl 1 rfl ?_
  refine r_iload_n hC 1 dX6_place_1 rfl 2 rfl ?_
  refine r_invVw hC kX6 (b 0) [.int (nI p)] [(b 1, .inl (1, 111, .inr (.inl r))), (b 6, .inl (1, 1110, .inr (.inl hy)))] mVX6_noBody q2996 0 rfl (metX6_noBody0 _ _ hG b _ _ p (by omega)) [0] [1, 2] rfl rfl rfl rfl (by decide) ⟨rfl, rfl⟩ 0 0 rfl rfl (Nat.le_of_ble_eq_true rfl) (Nat.le_of_ble_eq_true rfl) rfl (Nat.le_of_ble_eq_true rfl) dX6_place_2 5 rfl (fun v1 w2 h3 => ?_) (fun _ _ h => h.elim)
  obtain ⟨rfl, rfl⟩ := h3
  show rn C (xSt F V0 [(b 1, .inl (1, 111, .inr (.inl r))), (b 6, .inl (1, 1110, .inr (.inl hy))), (b 0, .inr (5, mF b (va_up i 0 0) j))]) 0 0 5 [(0, .ref (b 0)), (1, .int (nI p)), (2, .int x), (3, .int y)] [.int 0]
  refine r_ifne hC 49 dX6_place_5 (by decide) 8 rfl (fun h => absurd h (by decide)) (fun _ => ?_)
  refine r_aload_n hC 0 dX6_place_8 rfl 9 rfl ?_
  refine r_iload_n hC 2 dX6_place_9 rfl 10 rfl ?_
  refine r_i2l hC x.toInt64 dX6_place_10 (rfl) 11 rfl ?_
  refine r_ldc2 hC q3099 dX6_place_11 14 rfl ?_
  refine r_ldc2 hC q2983 dX6_place_14 17 rfl ?_
  refine r_invSr hC [.long x.toInt64, .long (-100000), .long 100000] (.int 1) mSX6_in q2891 (metX6_inB _ _ hG x.toInt64 (-100000) 100000 1 (hx)) (fun _ _ => xIn.nil) ⟨rfl, rfl⟩ 0 0 rfl rfl (Nat.le_of_ble_eq_true rfl) (Nat.le_of_ble_eq_true rfl) rfl (Nat.le_of_ble_eq_true rfl) dX6_place_17 20 rfl ?_
  refine r_ifeq hC 41 dX6_place_20 (by decide) 23 rfl (fun h => absurd h (by decide)) (fun _ => ?_)
  refine r_iload_n hC 3 dX6_place_23 rfl 24 rfl ?_
  refine r_i2l hC y.toInt64 dX6_place_24 (rfl) 25 rfl ?_
  refine r_ldc2 hC q3099 dX6_place_25 28 rfl ?_
  refine r_ldc2 hC q2983 dX6_place_28 31 rfl ?_
  refine r_invSr hC [.long y.toInt64, .long (-100000), .long 100000] (.int 1) mSX6_in q2891 (metX6_inB _ _ hG y.toInt64 (-100000) 100000 1 (hy2)) (fun _ _ => xIn.nil) ⟨rfl, rfl⟩ 0 0 rfl rfl (Nat.le_of_ble_eq_true rfl) (Nat.le_of_ble_eq_true rfl) rfl (Nat.le_of_ble_eq_true rfl) dX6_place_31 34 rfl ?_
  refine r_ifeq hC 41 dX6_place_34 (by decide) 37 rfl (fun h => absurd h (by decide)) (fun _ => ?_)
  refine r_iconst hC 1 dX6_place_37 ic_1 38 rfl ?_
  refine r_goto hC 42 dX6_place_38 (by decide) ?_
  refine r_iconst hC 2 dX6_place_42 ic_2 43 rfl ?_
  refine r_invVr hC kX6 (b 0) [.int 1, .int 2] (.int 0) mVX6_fails q2894 (fun _ h => h.get 2 rfl) (metX6_fails1 _ _ hG b _ _ 2) (fun _ h => h.in.sub [2] rfl rfl) ⟨rfl, rfl⟩ 0 0 rfl rfl (Nat.le_of_ble_eq_true rfl) (Nat.le_of_ble_eq_true rfl) rfl (Nat.le_of_ble_eq_true rfl) dX6_place_43 46 rfl ?_
  refine r_ifeq hC 51 dX6_place_46 (by decide) 49 rfl (fun _ => ?_) (fun h => absurd h (by decide))
  refine r_aload_n hC 0 dX6_place_51 rfl 52 rfl ?_
  refine r_aload_n hC 0 dX6_place_52 rfl 53 rfl ?_
  refine r_get (v := .ref (b 1)) hC kX6 1 rfl q2754 (fun _ h => h.get 2 rfl) rfl dX6_place_53 56 rfl ?_
  refine r_iload_n hC 1 dX6_place_56 rfl 57 rfl ?_
  refine r_iload_n hC 2 dX6_place_57 rfl 58 rfl ?_
  refine r_i2l hC x.toInt64 dX6_place_58 (rfl) 59 rfl ?_
  refine r_iload_n hC 3 dX6_place_59 rfl 60 rfl ?_
  refine r_i2l hC y.toInt64 dX6_place_60 (rfl) 61 rfl ?_
  refine r_invVr hC kX6 (b 0) [.ref (b 1), .int (nI p), .long x.toInt64, .long y.toInt64] (.int 1) mVX6_isTaken q3126 (fun _ h => h.get 2 rfl) (metX6_isTaken _ _ hG b _ _ (b 1) _ p (by omega) x.toInt64 y.toInt64 1 (hk)) (fun _ h => h.in.sub [2, 0] rfl rfl) ⟨rfl, rfl⟩ 0 0 rfl rfl (Nat.le_of_ble_eq_true rfl) (Nat.le_of_ble_eq_true rfl) rfl (Nat.le_of_ble_eq_true rfl) dX6_place_61 64 rfl ?_
  refine r_ifeq hC 70 dX6_place_64 (by decide) 67 rfl (fun h => absurd h (by decide)) (fun _ => ?_)
  refine r_bipush hC (-3) dX6_place_67 bp_m3 69 rfl ?_
  exact r_iret hC (Nat.le_of_ble_eq_true rfl) (Nat.le_of_ble_eq_true rfl) (fun V9 h => hQ _ _ ⟨[(b 0, .inr (5, mF b (va_up i 0 0) j)), (b 1, .inl (1, 111, .inr (.inl r))), (b 6, .inl (1, 1110, .inr (.inl hy)))], ⟨rfl, by simp only [bx_uu]⟩, by rw [← hV0, ← hF]; exact (h.sub [2, 0, 1] rfl rfl)⟩) dX6_place_69
set_option maxHeartbeats 4000000 in
set_option maxRecDepth 100000 in
theorem metX6_placeB (l : Launch) (G : xG) (hG : xGood G) (b : Nat → Nat) (i : Nat → Int32) (j : Nat → Int64) (r hy : Nat → Int64) (z x y : Int32) (hz : bI (m_in z.toInt64 0 2) = 0) : xWm l G yX6_place (Cond.code yX6_place cX6_place 6 (some .int)) { frames := 2, locals := 46, cells := 0, slots := 0 } [.ref (b 0), .int z, .int x, .int y] [(b 0, .inr (5, mF b i j)), (b 1, .inl (1, 111, .inr (.inl r))), (b 6, .inl (1, 1110, .inr (.inl hy)))] (fun v w' => v = some (.int 0) ∧ w' = [(b 0, .inr (5, mF b (va_up i 0 1) j)), (b 1, .inl (1, 111, .inr (.inl r))), (b 6, .inl (1, 1110, .inr (.inl hy)))]) (fun _ _ => False) := by
  intro V hV
  refine xMet_of RX6 hG rfl (by decide) (Nat.le_of_ble_eq_true rfl) fun C hC hQ hX hl hg _ => ?_
  subst hl hg
  obtain ⟨V0, hV0⟩ : ∃ V0, V0 = V := ⟨_, rfl⟩
  obtain ⟨F, hF⟩ : ∃ F, F = xF [(b 0, .inr (5, mF b i j)), (b 1, .inl (1, 111, .inr (.inl r))), (b 6, .inl (1, 1110, .inr (.inl hy)))] := ⟨_, rfl⟩
  refine rn.mono (J := xSt F V0 [(b 0, .inr (5, mF b i j)), (b 1, .inl (1, 111, .inr (.inl r))), (b 6, .inl (1, 1110, .inr (.inl hy)))]) (fun V9 h => by rw [h, hV0, hF]; exact hV.st) ?_
  show rn C (xSt F V0 [(b 0, .inr (5, mF b i j)), (b 1, .inl (1, 111, .inr (.inl r))), (b 6, .inl (1, 1110, .inr (.inl hy)))]) 0 0 0 [(0, .ref (b 0)), (1, .int z), (2, .int x), (3, .int y)] []
  refine r_aload_n hC 0 dX6_place_0 rfl 1 rfl ?_
  refine r_iload_n hC 1 dX6_place_1 rfl 2 rfl ?_
  refine r_invVw hC kX6 (b 0) [.int z] [(b 1, .inl (1, 111, .inr (.inl r))), (b 6, .inl (1, 1110, .inr (.inl hy)))] mVX6_noBody q2996 0 rfl (metX6_noBody1 _ _ hG b _ _ z (hz)) [0] [1, 2] rfl rfl rfl rfl (by decide) ⟨rfl, rfl⟩ 0 0 rfl rfl (Nat.le_of_ble_eq_true rfl) (Nat.le_of_ble_eq_true rfl) rfl (Nat.le_of_ble_eq_true rfl) dX6_place_2 5 rfl (fun v1 w2 h3 => ?_) (fun _ _ h => h.elim)
  obtain ⟨rfl, rfl⟩ := h3
  show rn C (xSt F V0 [(b 1, .inl (1, 111, .inr (.inl r))), (b 6, .inl (1, 1110, .inr (.inl hy))), (b 0, .inr (5, mF b (va_up i 0 1) j))]) 0 0 5 [(0, .ref (b 0)), (1, .int z), (2, .int x), (3, .int y)] [.int 1]
  refine r_ifne hC 49 dX6_place_5 (by decide) 8 rfl (fun _ => ?_) (fun h => absurd h (by decide))
  refine r_iconst hC 0 dX6_place_49 ic_0 50 rfl ?_
  exact r_iret hC (Nat.le_of_ble_eq_true rfl) (Nat.le_of_ble_eq_true rfl) (fun V9 h => hQ _ _ ⟨[(b 0, .inr (5, mF b (va_up i 0 1) j)), (b 1, .inl (1, 111, .inr (.inl r))), (b 6, .inl (1, 1110, .inr (.inl hy)))], ⟨rfl, by simp only [bx_uu]⟩, by rw [← hV0, ← hF]; exact (h.sub [2, 0, 1] rfl rfl)⟩) dX6_place_50
set_option maxHeartbeats 4000000 in
set_option maxRecDepth 100000 in
theorem metX6_placeC1 (l : Launch) (G : xG) (hG : xGood G) (b : Nat → Nat) (i : Nat → Int32) (j : Nat → Int64) (r hy : Nat → Int64) (p : Nat) (hp : p < 3) (x y : Int32) (hx : bI (m_in x.toInt64 (-100000) 100000) = 0) : xWm l G yX6_place (Cond.code yX6_place cX6_place 6 (some .int)) { frames := 2, locals := 46, cells := 0, slots := 0 } [.ref (b 0), .int (nI p), .int x, .int y] [(b 0, .inr (5, mF b i j)), (b 1, .inl (1, 111, .inr (.inl r))), (b 6, .inl (1, 1110, .inr (.inl hy)))] (fun v w' => v = some (.int 0) ∧ w' = [(b 0, .inr (5, mF b (va_up i 0 2) j)), (b 1, .inl (1, 111, .inr (.inl r))), (b 6, .inl (1, 1110, .inr (.inl hy)))]) (fun _ _ => False) := by
  intro V hV
  refine xMet_of RX6 hG rfl (by decide) (Nat.le_of_ble_eq_true rfl) fun C hC hQ hX hl hg _ => ?_
  subst hl hg
  obtain ⟨V0, hV0⟩ : ∃ V0, V0 = V := ⟨_, rfl⟩
  obtain ⟨F, hF⟩ : ∃ F, F = xF [(b 0, .inr (5, mF b i j)), (b 1, .inl (1, 111, .inr (.inl r))), (b 6, .inl (1, 1110, .inr (.inl hy)))] := ⟨_, rfl⟩
  refine rn.mono (J := xSt F V0 [(b 0, .inr (5, mF b i j)), (b 1, .inl (1, 111, .inr (.inl r))), (b 6, .inl (1, 1110, .inr (.inl hy)))]) (fun V9 h => by rw [h, hV0, hF]; exact hV.st) ?_
  show rn C (xSt F V0 [(b 0, .inr (5, mF b i j)), (b 1, .inl (1, 111, .inr (.inl r))), (b 6, .inl (1, 1110, .inr (.inl hy)))]) 0 0 0 [(0, .ref (b 0)), (1, .int (nI p)), (2, .int x), (3, .int y)] []
  refine r_aload_n hC 0 dX6_place_0 rfl 1 rfl ?_
  refine r_iload_n hC 1 dX6_place_1 rfl 2 rfl ?_
  refine r_invVw hC kX6 (b 0) [.int (nI p)] [(b 1, .inl (1, 111, .inr (.inl r))), (b 6, .inl (1, 1110, .inr (.inl hy)))] mVX6_noBody q2996 0 rfl (metX6_noBody0 _ _ hG b _ _ p (by omega)) [0] [1, 2] rfl rfl rfl rfl (by decide) ⟨rfl, rfl⟩ 0 0 rfl rfl (Nat.le_of_ble_eq_true rfl) (Nat.le_of_ble_eq_true rfl) rfl (Nat.le_of_ble_eq_true rfl) dX6_place_2 5 rfl (fun v1 w2 h3 => ?_) (fun _ _ h => h.elim)
  obtain ⟨rfl, rfl⟩ := h3
  show rn C (xSt F V0 [(b 1, .inl (1, 111, .inr (.inl r))), (b 6, .inl (1, 1110, .inr (.inl hy))), (b 0, .inr (5, mF b (va_up i 0 0) j))]) 0 0 5 [(0, .ref (b 0)), (1, .int (nI p)), (2, .int x), (3, .int y)] [.int 0]
  refine r_ifne hC 49 dX6_place_5 (by decide) 8 rfl (fun h => absurd h (by decide)) (fun _ => ?_)
  refine r_aload_n hC 0 dX6_place_8 rfl 9 rfl ?_
  refine r_iload_n hC 2 dX6_place_9 rfl 10 rfl ?_
  refine r_i2l hC x.toInt64 dX6_place_10 (rfl) 11 rfl ?_
  refine r_ldc2 hC q3099 dX6_place_11 14 rfl ?_
  refine r_ldc2 hC q2983 dX6_place_14 17 rfl ?_
  refine r_invSr hC [.long x.toInt64, .long (-100000), .long 100000] (.int 0) mSX6_in q2891 (metX6_inB _ _ hG x.toInt64 (-100000) 100000 0 (hx)) (fun _ _ => xIn.nil) ⟨rfl, rfl⟩ 0 0 rfl rfl (Nat.le_of_ble_eq_true rfl) (Nat.le_of_ble_eq_true rfl) rfl (Nat.le_of_ble_eq_true rfl) dX6_place_17 20 rfl ?_
  refine r_ifeq hC 41 dX6_place_20 (by decide) 23 rfl (fun _ => ?_) (fun h => absurd h (by decide))
  refine r_iconst hC 0 dX6_place_41 ic_0 42 rfl ?_
  refine r_iconst hC 2 dX6_place_42 ic_2 43 rfl ?_
  refine r_invVw hC kX6 (b 0) [.int 0, .int 2] [(b 1, .inl (1, 111, .inr (.inl r))), (b 6, .inl (1, 1110, .inr (.inl hy)))] mVX6_fails q2894 2 rfl (metX6_fails0 _ _ hG b _ _ 2) [2] [0, 1] rfl rfl rfl rfl (by decide) ⟨rfl, rfl⟩ 0 0 rfl rfl (Nat.le_of_ble_eq_true rfl) (Nat.le_of_ble_eq_true rfl) rfl (Nat.le_of_ble_eq_true rfl) dX6_place_43 46 rfl (fun v4 w5 h6 => ?_) (fun _ _ h => h.elim)
  obtain ⟨rfl, rfl⟩ := h6
  show rn C (xSt F V0 [(b 1, .inl (1, 111, .inr (.inl r))), (b 6, .inl (1, 1110, .inr (.inl hy))), (b 0, .inr (5, mF b (va_up (va_up i 0 0) 0 2) j))]) 0 0 46 [(0, .ref (b 0)), (1, .int (nI p)), (2, .int x), (3, .int y)] [.int 1]
  refine r_ifeq hC 51 dX6_place_46 (by decide) 49 rfl (fun h => absurd h (by decide)) (fun _ => ?_)
  refine r_iconst hC 0 dX6_place_49 ic_0 50 rfl ?_
  exact r_iret hC (Nat.le_of_ble_eq_true rfl) (Nat.le_of_ble_eq_true rfl) (fun V9 h => hQ _ _ ⟨[(b 0, .inr (5, mF b (va_up (va_up i 0 0) 0 2) j)), (b 1, .inl (1, 111, .inr (.inl r))), (b 6, .inl (1, 1110, .inr (.inl hy)))], ⟨rfl, by simp only [bx_uu]⟩, by rw [← hV0, ← hF]; exact (h.sub [2, 0, 1] rfl rfl)⟩) dX6_place_50
set_option maxHeartbeats 4000000 in
set_option maxRecDepth 100000 in
theorem metX6_placeC2 (l : Launch) (G : xG) (hG : xGood G) (b : Nat → Nat) (i : Nat → Int32) (j : Nat → Int64) (r hy : Nat → Int64) (p : Nat) (hp : p < 3) (x y : Int32) (hx : bI (m_in x.toInt64 (-100000) 100000) = 1) (hy2 : bI (m_in y.toInt64 (-100000) 100000) = 0) : xWm l G yX6_place (Cond.code yX6_place cX6_place 6 (some .int)) { frames := 2, locals := 46, cells := 0, slots := 0 } [.ref (b 0), .int (nI p), .int x, .int y] [(b 0, .inr (5, mF b i j)), (b 1, .inl (1, 111, .inr (.inl r))), (b 6, .inl (1, 1110, .inr (.inl hy)))] (fun v w' => v = some (.int 0) ∧ w' = [(b 0, .inr (5, mF b (va_up i 0 2) j)), (b 1, .inl (1, 111, .inr (.inl r))), (b 6, .inl (1, 1110, .inr (.inl hy)))]) (fun _ _ => False) := by
  intro V hV
  refine xMet_of RX6 hG rfl (by decide) (Nat.le_of_ble_eq_true rfl) fun C hC hQ hX hl hg _ => ?_
  subst hl hg
  obtain ⟨V0, hV0⟩ : ∃ V0, V0 = V := ⟨_, rfl⟩
  obtain ⟨F, hF⟩ : ∃ F, F = xF [(b 0, .inr (5, mF b i j)), (b 1, .inl (1, 111, .inr (.inl r))), (b 6, .inl (1, 1110, .inr (.inl hy)))] := ⟨_, rfl⟩
  refine rn.mono (J := xSt F V0 [(b 0, .inr (5, mF b i j)), (b 1, .inl (1, 111, .inr (.inl r))), (b 6, .inl (1, 1110, .inr (.inl hy)))]) (fun V9 h => by rw [h, hV0, hF]; exact hV.st) ?_
  show rn C (xSt F V0 [(b 0, .inr (5, mF b i j)), (b 1, .inl (1, 111, .inr (.inl r))), (b 6, .inl (1, 1110, .inr (.inl hy)))]) 0 0 0 [(0, .ref (b 0)), (1, .int (nI p)), (2, .int x), (3, .int y)] []
  refine r_aload_n hC 0 dX6_place_0 rfl 1 rfl ?_
  refine r_iload_n hC 1 dX6_place_1 rfl 2 rfl ?_
  refine r_invVw hC kX6 (b 0) [.int (nI p)] [(b 1, .inl (1, 111, .inr (.inl r))), (b 6, .inl (1, 1110, .inr (.inl hy)))] mVX6_noBody q2996 0 rfl (metX6_noBody0 _ _ hG b _ _ p (by omega)) [0] [1, 2] rfl rfl rfl rfl (by decide) ⟨rfl, rfl⟩ 0 0 rfl rfl (Nat.le_of_ble_eq_true rfl) (Nat.le_of_ble_eq_true rfl) rfl (Nat.le_of_ble_eq_true rfl) dX6_place_2 5 rfl (fun v1 w2 h3 => ?_) (fun _ _ h => h.elim)
  obtain ⟨rfl, rfl⟩ := h3
  show rn C (xSt F V0 [(b 1, .inl (1, 111, .inr (.inl r))), (b 6, .inl (1, 1110, .inr (.inl hy))), (b 0, .inr (5, mF b (va_up i 0 0) j))]) 0 0 5 [(0, .ref (b 0)), (1, .int (nI p)), (2, .int x), (3, .int y)] [.int 0]
  refine r_ifne hC 49 dX6_place_5 (by decide) 8 rfl (fun h => absurd h (by decide)) (fun _ => ?_)
  refine r_aload_n hC 0 dX6_place_8 rfl 9 rfl ?_
  refine r_iload_n hC 2 dX6_place_9 rfl 10 rfl ?_
  refine r_i2l hC x.toInt64 dX6_place_10 (rfl) 11 rfl ?_
  refine r_ldc2 hC q3099 dX6_place_11 14 rfl ?_
  refine r_ldc2 hC q2983 dX6_place_14 17 rfl ?_
  refine r_invSr hC [.long x.toInt64, .long (-100000), .long 100000] (.int 1) mSX6_in q2891 (metX6_inB _ _ hG x.toInt64 (-100000) 100000 1 (hx)) (fun _ _ => xIn.nil) ⟨rfl, rfl⟩ 0 0 rfl rfl (Nat.le_of_ble_eq_true rfl) (Nat.le_of_ble_eq_true rfl) rfl (Nat.le_of_ble_eq_true rfl) dX6_place_17 20 rfl ?_
  refine r_ifeq hC 41 dX6_place_20 (by decide) 23 rfl (fun h => absurd h (by decide)) (fun _ => ?_)
  refine r_iload_n hC 3 dX6_place_23 rfl 24 rfl ?_
  refine r_i2l hC y.toInt64 dX6_place_24 (rfl) 25 rfl ?_
  refine r_ldc2 hC q3099 dX6_place_25 28 rfl ?_
  refine r_ldc2 hC q2983 dX6_place_28 31 rfl ?_
  refine r_invSr hC [.long y.toInt64, .long (-100000), .long 100000] (.int 0) mSX6_in q2891 (metX6_inB _ _ hG y.toInt64 (-100000) 100000 0 (hy2)) (fun _ _ => xIn.nil) ⟨rfl, rfl⟩ 0 0 rfl rfl (Nat.le_of_ble_eq_true rfl) (Nat.le_of_ble_eq_true rfl) rfl (Nat.le_of_ble_eq_true rfl) dX6_place_31 34 rfl ?_
  refine r_ifeq hC 41 dX6_place_34 (by decide) 37 rfl (fun _ => ?_) (fun h => absurd h (by decide))
  refine r_iconst hC 0 dX6_place_41 ic_0 42 rfl ?_
  refine r_iconst hC 2 dX6_place_42 ic_2 43 rfl ?_
  refine r_invVw hC kX6 (b 0) [.int 0, .int 2] [(b 1, .inl (1, 111, .inr (.inl r))), (b 6, .inl (1, 1110, .inr (.inl hy)))] mVX6_fails q2894 2 rfl (metX6_fails0 _ _ hG b _ _ 2) [2] [0, 1] rfl rfl rfl rfl (by decide) ⟨rfl, rfl⟩ 0 0 rfl rfl (Nat.le_of_ble_eq_true rfl) (Nat.le_of_ble_eq_true rfl) rfl (Nat.le_of_ble_eq_true rfl) dX6_place_43 46 rfl (fun v4 w5 h6 => ?_) (fun _ _ h => h.elim)
  obtain ⟨rfl, rfl⟩ := h6
  show rn C (xSt F V0 [(b 1, .inl (1, 111, .inr (.inl r))), (b 6, .inl (1, 1110, .inr (.inl hy))), (b 0, .inr (5, mF b (va_up (va_up i 0 0) 0 2) j))]) 0 0 46 [(0, .ref (b 0)), (1, .int (nI p)), (2, .int x), (3, .int y)] [.int 1]
  refine r_ifeq hC 51 dX6_place_46 (by decide) 49 rfl (fun h => absurd h (by decide)) (fun _ => ?_)
  refine r_iconst hC 0 dX6_place_49 ic_0 50 rfl ?_
  exact r_iret hC (Nat.le_of_ble_eq_true rfl) (Nat.le_of_ble_eq_true rfl) (fun V9 h => hQ _ _ ⟨[(b 0, .inr (5, mF b (va_up (va_up i 0 0) 0 2) j)), (b 1, .inl (1, 111, .inr (.inl r))), (b 6, .inl (1, 1110, .inr (.inl hy)))], ⟨rfl, by simp only [bx_uu]⟩, by rw [← hV0, ← hF]; exact (h.sub [2, 0, 1] rfl rfl)⟩) dX6_place_50
def ex1 (r : Nat → Int64) (p q k : Nat) : Nat → Int64 := va_up (va_up r (6 + 5 * p + k) (r (6 + 5 * q + k))) (6 + 5 * q + k) (r (6 + 5 * p + k))
def exQ (r : Nat → Int64) (p q : Nat) : Nat → Int64 := ex1 (ex1 (ex1 (ex1 (ex1 r p q 0) p q 1) p q 2) p q 3) p q 4
set_option maxHeartbeats 4000000 in
set_option maxRecDepth 100000 in
theorem metX6_exchangeG (l : Launch) (G : xG) (hG : xGood G) (b : Nat → Nat) (i : Nat → Int32) (j : Nat → Int64) (r hy : Nat → Int64) (rc : Nat) (hrc : rc ≤ 10) (hi : i 10 = nI rc) (p q : Nat) (hp : p < 3) (hq : q < 3) (hn : ¬ p = q) : xWm l G yX6_exchange (Cond.code yX6_exchange cX6_exchange 6 none) { frames := 2, locals := 46, cells := 0, slots := 0 } [.ref (b 0), .int (nI p), .int (nI q)] [(b 0, .inr (5, mF b i j)), (b 1, .inl (1, 111, .inr (.inl r))), (b 6, .inl (1, 1110, .inr (.inl hy)))] (fun v w' => v = none ∧ w' = [(b 0, .inr (5, mF b (va_up (va_up (va_up i 0 0) 10 (nI (recN rc))) 11 0) j)), (b 1, .inl (1, 111, .inr (.inl (exQ r p q)))), (b 6, .inl (1, 1110, .inr (.inl (recH hy r rc))))]) (fun _ _ => False) := by
  intro V hV
  refine xMet_of RX6 hG rfl (by decide) (Nat.le_of_ble_eq_true rfl) fun C hC hQ hX hl hg _ => ?_
  subst hl hg
  obtain ⟨V0, hV0⟩ : ∃ V0, V0 = V := ⟨_, rfl⟩
  obtain ⟨F, hF⟩ : ∃ F, F = xF [(b 0, .inr (5, mF b i j)), (b 1, .inl (1, 111, .inr (.inl r))), (b 6, .inl (1, 1110, .inr (.inl hy)))] := ⟨_, rfl⟩
  refine rn.mono (J := xSt F V0 [(b 0, .inr (5, mF b i j)), (b 1, .inl (1, 111, .inr (.inl r))), (b 6, .inl (1, 1110, .inr (.inl hy)))]) (fun V9 h => by rw [h, hV0, hF]; exact hV.st) ?_
  show rn C (xSt F V0 [(b 0, .inr (5, mF b i j)), (b 1, .inl (1, 111, .inr (.inl r))), (b 6, .inl (1, 1110, .inr (.inl hy)))]) 0 0 0 [(0, .ref (b 0)), (1, .int (nI p)), (2, .int (nI q))] []
  refine r_aload_n hC 0 dX6_exchange_0 rfl 1 rfl ?_
  refine r_iload_n hC 1 dX6_exchange_1 rfl 2 rfl ?_
  refine r_invVw hC kX6 (b 0) [.int (nI p)] [(b 1, .inl (1, 111, .inr (.inl r))), (b 6, .inl (1, 1110, .inr (.inl hy)))] mVX6_noBody q2996 0 rfl (metX6_noBody0 _ _ hG b _ _ p (by omega)) [0] [1, 2] rfl rfl rfl rfl (by decide) ⟨rfl, rfl⟩ 0 0 rfl rfl (Nat.le_of_ble_eq_true rfl) (Nat.le_of_ble_eq_true rfl) rfl (Nat.le_of_ble_eq_true rfl) dX6_exchange_2 5 rfl (fun v1 w2 h3 => ?_) (fun _ _ h => h.elim)
  obtain ⟨rfl, rfl⟩ := h3
  show rn C (xSt F V0 [(b 1, .inl (1, 111, .inr (.inl r))), (b 6, .inl (1, 1110, .inr (.inl hy))), (b 0, .inr (5, mF b (va_up i 0 0) j))]) 0 0 5 [(0, .ref (b 0)), (1, .int (nI p)), (2, .int (nI q))] [.int 0]
  refine r_ifne hC 43 dX6_exchange_5 (by decide) 8 rfl (fun h => absurd h (by decide)) (fun _ => ?_)
  refine r_aload_n hC 0 dX6_exchange_8 rfl 9 rfl ?_
  refine r_iload_n hC 2 dX6_exchange_9 rfl 10 rfl ?_
  refine r_i2l hC ((nI q).toInt64) dX6_exchange_10 (rfl) 11 rfl ?_
  refine r_lconst hC 0 dX6_exchange_11 lc_0 12 rfl ?_
  refine r_ldc2 hC q2728 dX6_exchange_12 15 rfl ?_
  refine r_invSr hC [.long ((nI q).toInt64), .long 0, .long 2] (.int 1) mSX6_in q2891 (metX6_inB _ _ hG ((nI q).toInt64) 0 2 1 (in_n (N := 2) (by omega) rfl (by decide))) (fun _ _ => xIn.nil) ⟨rfl, rfl⟩ 0 0 rfl rfl (Nat.le_of_ble_eq_true rfl) (Nat.le_of_ble_eq_true rfl) rfl (Nat.le_of_ble_eq_true rfl) dX6_exchange_15 18 rfl ?_
  refine r_iconst hC 1 dX6_exchange_18 ic_1 19 rfl ?_
  refine r_invVr hC kX6 (b 0) [.int 1, .int 1] (.int 0) mVX6_fails q2894 (fun _ h => h.get 2 rfl) (metX6_fails1 _ _ hG b _ _ 1) (fun _ h => h.in.sub [2] rfl rfl) ⟨rfl, rfl⟩ 0 0 rfl rfl (Nat.le_of_ble_eq_true rfl) (Nat.le_of_ble_eq_true rfl) rfl (Nat.le_of_ble_eq_true rfl) dX6_exchange_19 22 rfl ?_
  refine r_ifne hC 43 dX6_exchange_22 (by decide) 25 rfl (fun h => absurd h (by decide)) (fun _ => ?_)
  refine r_aload_n hC 0 dX6_exchange_25 rfl 26 rfl ?_
  refine r_iload_n hC 1 dX6_exchange_26 rfl 27 rfl ?_
  refine r_iload_n hC 2 dX6_exchange_27 rfl 28 rfl ?_
  refine r_iceq hC 35 dX6_exchange_28 (by decide) 31 rfl (fun h => absurd h (fun e => hn ((nI_eq (by omega) (by omega)).mp e))) (fun _ => ?_)
  refine r_iconst hC 1 dX6_exchange_31 ic_1 32 rfl ?_
  refine r_goto hC 36 dX6_exchange_32 (by decide) ?_
  refine r_iconst hC 2 dX6_exchange_36 ic_2 37 rfl ?_
  refine r_invVr hC kX6 (b 0) [.int 1, .int 2] (.int 0) mVX6_fails q2894 (fun _ h => h.get 2 rfl) (metX6_fails1 _ _ hG b _ _ 2) (fun _ h => h.in.sub [2] rfl rfl) ⟨rfl, rfl⟩ 0 0 rfl rfl (Nat.le_of_ble_eq_true rfl) (Nat.le_of_ble_eq_true rfl) rfl (Nat.le_of_ble_eq_true rfl) dX6_exchange_37 40 rfl ?_
  refine r_ifeq hC 44 dX6_exchange_40 (by decide) 43 rfl (fun _ => ?_) (fun h => absurd h (by decide))
  refine r_aload_n hC 0 dX6_exchange_44 rfl 45 rfl ?_
  refine r_invVw hC kX6 (b 0) [] [] mVX6_begins q3114 2 rfl (metX6_begins _ _ hG b (va_up i 0 0) _ _ _ rc hrc (show (va_up i 0 0) 10 = nI rc from hi)) [2, 0, 1] [] rfl rfl rfl rfl (by decide) ⟨rfl, rfl⟩ 0 0 rfl rfl (Nat.le_of_ble_eq_true rfl) (Nat.le_of_ble_eq_true rfl) rfl (Nat.le_of_ble_eq_true rfl) dX6_exchange_45 48 rfl (fun v4 w5 h6 => ?_) (fun _ _ h => h.elim)
  obtain ⟨rfl, rfl⟩ := h6
  show rn C (xSt F V0 [(b 0, .inr (5, mF b (va_up (va_up (va_up i 0 0) 10 (nI (recN rc))) 11 0) j)), (b 1, .inl (1, 111, .inr (.inl r))), (b 6, .inl (1, 1110, .inr (.inl (recH hy r rc))))]) 0 0 48 [(0, .ref (b 0)), (1, .int (nI p)), (2, .int (nI q))] []
  refine r_iconst hC 0 dX6_exchange_48 ic_0 49 rfl ?_
  refine r_istore_n hC 3 [(3, .int 0), (0, .ref (b 0)), (1, .int (nI p)), (2, .int (nI q))] dX6_exchange_49 rfl (Nat.le_of_ble_eq_true rfl) rfl 50 rfl ?_
  refine r_iload_n hC 0 dX6_exchange_50 rfl 51 rfl ?_
  refine r_iconst hC 5 dX6_exchange_51 ic_5 52 rfl ?_
  refine r_icge hC 105 dX6_exchange_52 (by decide) 55 rfl (fun h => absurd h (by decide)) (fun _ => ?_)
  refine r_aload_n hC 1 dX6_exchange_55 rfl 56 rfl ?_
  refine r_get (v := .ref (b 1)) hC kX6 1 rfl q2754 (fun _ h => h.get 0 rfl) rfl dX6_exchange_56 59 rfl ?_
  refine r_iload_n hC 2 dX6_exchange_59 rfl 60 rfl ?_
  refine r_iload_n hC 0 dX6_exchange_60 rfl 61 rfl ?_
  refine r_invSr hC [.int (nI p), .int 0] (.int (nI (6 + 5 * p + 0))) mSX6_at q2711 (metX6_at _ _ hG p 0) (fun _ _ => xIn.nil) ⟨rfl, rfl⟩ 0 0 rfl rfl (Nat.le_of_ble_eq_true rfl) (Nat.le_of_ble_eq_true rfl) rfl (Nat.le_of_ble_eq_true rfl) dX6_exchange_61 64 rfl ?_
  refine r_lald hC (6 + 5 * p + 0) (xix_n (6 + 5 * p + 0) (by omega) (Nat.le_of_ble_eq_true rfl)) (fun _ h => h.get 1 rfl) (r (6 + 5 * p + 0)) (rfl) dX6_exchange_64 65 rfl ?_
  refine r_lstore hC 4 [(4, .long (r (6 + 5 * p + 0))), (3, .int 0), (0, .ref (b 0)), (1, .int (nI p)), (2, .int (nI q))] dX6_exchange_65 (Nat.le_of_ble_eq_true rfl) rfl 67 rfl ?_
  refine r_aload_n hC 2 dX6_exchange_67 rfl 68 rfl ?_
  refine r_get (v := .ref (b 1)) hC kX6 1 rfl q2754 (fun _ h => h.get 0 rfl) rfl dX6_exchange_68 71 rfl ?_
  refine r_iload_n hC 3 dX6_exchange_71 rfl 72 rfl ?_
  refine r_iload_n hC 1 dX6_exchange_72 rfl 73 rfl ?_
  refine r_invSr hC [.int (nI p), .int 0] (.int (nI (6 + 5 * p + 0))) mSX6_at q2711 (metX6_at _ _ hG p 0) (fun _ _ => xIn.nil) ⟨rfl, rfl⟩ 0 0 rfl rfl (Nat.le_of_ble_eq_true rfl) (Nat.le_of_ble_eq_true rfl) rfl (Nat.le_of_ble_eq_true rfl) dX6_exchange_73 76 rfl ?_
  refine r_aload_n hC 2 dX6_exchange_76 rfl 77 rfl ?_
  refine r_get (v := .ref (b 1)) hC kX6 1 rfl q2754 (fun _ h => h.get 0 rfl) rfl dX6_exchange_77 80 rfl ?_
  refine r_iload_n hC 4 dX6_exchange_80 rfl 81 rfl ?_
  refine r_iload_n hC 1 dX6_exchange_81 rfl 82 rfl ?_
  refine r_invSr hC [.int (nI q), .int 0] (.int (nI (6 + 5 * q + 0))) mSX6_at q2711 (metX6_at _ _ hG q 0) (fun _ _ => xIn.nil) ⟨rfl, rfl⟩ 0 0 rfl rfl (Nat.le_of_ble_eq_true rfl) (Nat.le_of_ble_eq_true rfl) rfl (Nat.le_of_ble_eq_true rfl) dX6_exchange_82 85 rfl ?_
  refine r_lald hC (6 + 5 * q + 0) (xix_n (6 + 5 * q + 0) (by omega) (Nat.le_of_ble_eq_true rfl)) (fun _ h => h.get 1 rfl) (r (6 + 5 * q + 0)) (rfl) dX6_exchange_85 86 rfl ?_
  refine r_last (J := xSt F V0 [(b 0, .inr (5, mF b (va_up (va_up (va_up i 0 0) 10 (nI (recN rc))) 11 0) j)), (b 1, .inl (1, 111, .inr (.inl (va_up r (6 + 5 * p + 0) (r (6 + 5 * q + 0)))))), (b 6, .inl (1, 1110, .inr (.inl (recH hy r rc))))]) hC (6 + 5 * p + 0) (xix_n (6 + 5 * p + 0) (by omega) (Nat.le_of_ble_eq_true rfl)) (fun _ h => h.get 1 rfl) dX6_exchange_86 (fun _ h => h.set 1 _ rfl) 87 rfl ?_
  generalize hu7 : va_up r (6 + 5 * p + 0) (r (6 + 5 * q + 0)) = u7
  refine r_aload_n hC 2 dX6_exchange_87 rfl 88 rfl ?_
  refine r_get (v := .ref (b 1)) hC kX6 1 rfl q2754 (fun _ h => h.get 0 rfl) rfl dX6_exchange_88 91 rfl ?_
  refine r_iload_n hC 4 dX6_exchange_91 rfl 92 rfl ?_
  refine r_iload_n hC 1 dX6_exchange_92 rfl 93 rfl ?_
  refine r_invSr hC [.int (nI q), .int 0] (.int (nI (6 + 5 * q + 0))) mSX6_at q2711 (metX6_at _ _ hG q 0) (fun _ _ => xIn.nil) ⟨rfl, rfl⟩ 0 0 rfl rfl (Nat.le_of_ble_eq_true rfl) (Nat.le_of_ble_eq_true rfl) rfl (Nat.le_of_ble_eq_true rfl) dX6_exchange_93 96 rfl ?_
  refine r_lload hC 0 dX6_exchange_96 rfl 98 rfl ?_
  refine r_last (J := xSt F V0 [(b 0, .inr (5, mF b (va_up (va_up (va_up i 0 0) 10 (nI (recN rc))) 11 0) j)), (b 1, .inl (1, 111, .inr (.inl (va_up u7 (6 + 5 * q + 0) (r (6 + 5 * p + 0)))))), (b 6, .inl (1, 1110, .inr (.inl (recH hy r rc))))]) hC (6 + 5 * q + 0) (xix_n (6 + 5 * q + 0) (by omega) (Nat.le_of_ble_eq_true rfl)) (fun _ h => h.get 1 rfl) dX6_exchange_98 (fun _ h => h.set 1 _ rfl) 99 rfl ?_
  generalize hu8 : va_up u7 (6 + 5 * q + 0) (r (6 + 5 * p + 0)) = u8
  refine r_iinc hC 1 3 1 [(3, .int 1), (4, .long (r (6 + 5 * p + 0))), (0, .ref (b 0)), (1, .int (nI p)), (2, .int (nI q))] dX6_exchange_99 rfl (by decide) (Nat.le_of_ble_eq_true rfl) rfl 102 rfl ?_
  refine r_goto hC 50 dX6_exchange_102 (by decide) ?_
  subst hu8
  subst hu7
  show rn C (xSt F V0 [(b 0, .inr (5, mF b (va_up (va_up (va_up i 0 0) 10 (nI (recN rc))) 11 0) j)), (b 1, .inl (1, 111, .inr (.inl (ex1 r p q 0)))), (b 6, .inl (1, 1110, .inr (.inl (recH hy r rc))))]) 0 0 50 [(3, .int 1), (4, .long (r (6 + 5 * p + 0))), (0, .ref (b 0)), (1, .int (nI p)), (2, .int (nI q))] []
  refine r_iload_n hC 0 dX6_exchange_50 rfl 51 rfl ?_
  refine r_iconst hC 5 dX6_exchange_51 ic_5 52 rfl ?_
  refine r_icge hC 105 dX6_exchange_52 (by decide) 55 rfl (fun h => absurd h (by decide)) (fun _ => ?_)
  refine r_aload_n hC 2 dX6_exchange_55 rfl 56 rfl ?_
  refine r_get (v := .ref (b 1)) hC kX6 1 rfl q2754 (fun _ h => h.get 0 rfl) rfl dX6_exchange_56 59 rfl ?_
  refine r_iload_n hC 3 dX6_exchange_59 rfl 60 rfl ?_
  refine r_iload_n hC 0 dX6_exchange_60 rfl 61 rfl ?_
  refine r_invSr hC [.int (nI p), .int 1] (.int (nI (6 + 5 * p + 1))) mSX6_at q2711 (metX6_at _ _ hG p 1) (fun _ _ => xIn.nil) ⟨rfl, rfl⟩ 0 0 rfl rfl (Nat.le_of_ble_eq_true rfl) (Nat.le_of_ble_eq_true rfl) rfl (Nat.le_of_ble_eq_true rfl) dX6_exchange_61 64 rfl ?_
  refine r_lald hC (6 + 5 * p + 1) (xix_n (6 + 5 * p + 1) (by omega) (Nat.le_of_ble_eq_true rfl)) (fun _ h => h.get 1 rfl) ((ex1 r p q 0) (6 + 5 * p + 1)) (rfl) dX6_exchange_64 65 rfl ?_
  refine r_lstore hC 4 [(4, .long ((ex1 r p q 0) (6 + 5 * p + 1))), (3, .int 1), (0, .ref (b 0)), (1, .int (nI p)), (2, .int (nI q))] dX6_exchange_65 (Nat.le_of_ble_eq_true rfl) rfl 67 rfl ?_
  refine r_aload_n hC 2 dX6_exchange_67 rfl 68 rfl ?_
  refine r_get (v := .ref (b 1)) hC kX6 1 rfl q2754 (fun _ h => h.get 0 rfl) rfl dX6_exchange_68 71 rfl ?_
  refine r_iload_n hC 3 dX6_exchange_71 rfl 72 rfl ?_
  refine r_iload_n hC 1 dX6_exchange_72 rfl 73 rfl ?_
  refine r_invSr hC [.int (nI p), .int 1] (.int (nI (6 + 5 * p + 1))) mSX6_at q2711 (metX6_at _ _ hG p 1) (fun _ _ => xIn.nil) ⟨rfl, rfl⟩ 0 0 rfl rfl (Nat.le_of_ble_eq_true rfl) (Nat.le_of_ble_eq_true rfl) rfl (Nat.le_of_ble_eq_true rfl) dX6_exchange_73 76 rfl ?_
  refine r_aload_n hC 2 dX6_exchange_76 rfl 77 rfl ?_
  refine r_get (v := .ref (b 1)) hC kX6 1 rfl q2754 (fun _ h => h.get 0 rfl) rfl dX6_exchange_77 80 rfl ?_
  refine r_iload_n hC 4 dX6_exchange_80 rfl 81 rfl ?_
  refine r_iload_n hC 1 dX6_exchange_81 rfl 82 rfl ?_
  refine r_invSr hC [.int (nI q), .int 1] (.int (nI (6 + 5 * q + 1))) mSX6_at q2711 (metX6_at _ _ hG q 1) (fun _ _ => xIn.nil) ⟨rfl, rfl⟩ 0 0 rfl rfl (Nat.le_of_ble_eq_true rfl) (Nat.le_of_ble_eq_true rfl) rfl (Nat.le_of_ble_eq_true rfl) dX6_exchange_82 85 rfl ?_
  refine r_lald hC (6 + 5 * q + 1) (xix_n (6 + 5 * q + 1) (by omega) (Nat.le_of_ble_eq_true rfl)) (fun _ h => h.get 1 rfl) ((ex1 r p q 0) (6 + 5 * q + 1)) (rfl) dX6_exchange_85 86 rfl ?_
  refine r_last (J := xSt F V0 [(b 0, .inr (5, mF b (va_up (va_up (va_up i 0 0) 10 (nI (recN rc))) 11 0) j)), (b 1, .inl (1, 111, .inr (.inl (va_up (ex1 r p q 0) (6 + 5 * p + 1) ((ex1 r p q 0) (6 + 5 * q + 1)))))), (b 6, .inl (1, 1110, .inr (.inl (recH hy r rc))))]) hC (6 + 5 * p + 1) (xix_n (6 + 5 * p + 1) (by omega) (Nat.le_of_ble_eq_true rfl)) (fun _ h => h.get 1 rfl) dX6_exchange_86 (fun _ h => h.set 1 _ rfl) 87 rfl ?_
  generalize hu9 : va_up (ex1 r p q 0) (6 + 5 * p + 1) ((ex1 r p q 0) (6 + 5 * q + 1)) = u9
  refine r_aload_n hC 2 dX6_exchange_87 rfl 88 rfl ?_
  refine r_get (v := .ref (b 1)) hC kX6 1 rfl q2754 (fun _ h => h.get 0 rfl) rfl dX6_exchange_88 91 rfl ?_
  refine r_iload_n hC 4 dX6_exchange_91 rfl 92 rfl ?_
  refine r_iload_n hC 1 dX6_exchange_92 rfl 93 rfl ?_
  refine r_invSr hC [.int (nI q), .int 1] (.int (nI (6 + 5 * q + 1))) mSX6_at q2711 (metX6_at _ _ hG q 1) (fun _ _ => xIn.nil) ⟨rfl, rfl⟩ 0 0 rfl rfl (Nat.le_of_ble_eq_true rfl) (Nat.le_of_ble_eq_true rfl) rfl (Nat.le_of_ble_eq_true rfl) dX6_exchange_93 96 rfl ?_
  refine r_lload hC 0 dX6_exchange_96 rfl 98 rfl ?_
  refine r_last (J := xSt F V0 [(b 0, .inr (5, mF b (va_up (va_up (va_up i 0 0) 10 (nI (recN rc))) 11 0) j)), (b 1, .inl (1, 111, .inr (.inl (va_up u9 (6 + 5 * q + 1) ((ex1 r p q 0) (6 + 5 * p + 1)))))), (b 6, .inl (1, 1110, .inr (.inl (recH hy r rc))))]) hC (6 + 5 * q + 1) (xix_n (6 + 5 * q + 1) (by omega) (Nat.le_of_ble_eq_true rfl)) (fun _ h => h.get 1 rfl) dX6_exchange_98 (fun _ h => h.set 1 _ rfl) 99 rfl ?_
  generalize hu10 : va_up u9 (6 + 5 * q + 1) ((ex1 r p q 0) (6 + 5 * p + 1)) = u10
  refine r_iinc hC 2 3 1 [(3, .int 2), (4, .long ((ex1 r p q 0) (6 + 5 * p + 1))), (0, .ref (b 0)), (1, .int (nI p)), (2, .int (nI q))] dX6_exchange_99 rfl (by decide) (Nat.le_of_ble_eq_true rfl) rfl 102 rfl ?_
  refine r_goto hC 50 dX6_exchange_102 (by decide) ?_
  subst hu10
  subst hu9
  show rn C (xSt F V0 [(b 0, .inr (5, mF b (va_up (va_up (va_up i 0 0) 10 (nI (recN rc))) 11 0) j)), (b 1, .inl (1, 111, .inr (.inl (ex1 (ex1 r p q 0) p q 1)))), (b 6, .inl (1, 1110, .inr (.inl (recH hy r rc))))]) 0 0 50 [(3, .int 2), (4, .long ((ex1 r p q 0) (6 + 5 * p + 1))), (0, .ref (b 0)), (1, .int (nI p)), (2, .int (nI q))] []
  refine r_iload_n hC 0 dX6_exchange_50 rfl 51 rfl ?_
  refine r_iconst hC 5 dX6_exchange_51 ic_5 52 rfl ?_
  refine r_icge hC 105 dX6_exchange_52 (by decide) 55 rfl (fun h => absurd h (by decide)) (fun _ => ?_)
  refine r_aload_n hC 2 dX6_exchange_55 rfl 56 rfl ?_
  refine r_get (v := .ref (b 1)) hC kX6 1 rfl q2754 (fun _ h => h.get 0 rfl) rfl dX6_exchange_56 59 rfl ?_
  refine r_iload_n hC 3 dX6_exchange_59 rfl 60 rfl ?_
  refine r_iload_n hC 0 dX6_exchange_60 rfl 61 rfl ?_
  refine r_invSr hC [.int (nI p), .int 2] (.int (nI (6 + 5 * p + 2))) mSX6_at q2711 (metX6_at _ _ hG p 2) (fun _ _ => xIn.nil) ⟨rfl, rfl⟩ 0 0 rfl rfl (Nat.le_of_ble_eq_true rfl) (Nat.le_of_ble_eq_true rfl) rfl (Nat.le_of_ble_eq_true rfl) dX6_exchange_61 64 rfl ?_
  refine r_lald hC (6 + 5 * p + 2) (xix_n (6 + 5 * p + 2) (by omega) (Nat.le_of_ble_eq_true rfl)) (fun _ h => h.get 1 rfl) ((ex1 (ex1 r p q 0) p q 1) (6 + 5 * p + 2)) (rfl) dX6_exchange_64 65 rfl ?_
  refine r_lstore hC 4 [(4, .long ((ex1 (ex1 r p q 0) p q 1) (6 + 5 * p + 2))), (3, .int 2), (0, .ref (b 0)), (1, .int (nI p)), (2, .int (nI q))] dX6_exchange_65 (Nat.le_of_ble_eq_true rfl) rfl 67 rfl ?_
  refine r_aload_n hC 2 dX6_exchange_67 rfl 68 rfl ?_
  refine r_get (v := .ref (b 1)) hC kX6 1 rfl q2754 (fun _ h => h.get 0 rfl) rfl dX6_exchange_68 71 rfl ?_
  refine r_iload_n hC 3 dX6_exchange_71 rfl 72 rfl ?_
  refine r_iload_n hC 1 dX6_exchange_72 rfl 73 rfl ?_
  refine r_invSr hC [.int (nI p), .int 2] (.int (nI (6 + 5 * p + 2))) mSX6_at q2711 (metX6_at _ _ hG p 2) (fun _ _ => xIn.nil) ⟨rfl, rfl⟩ 0 0 rfl rfl (Nat.le_of_ble_eq_true rfl) (Nat.le_of_ble_eq_true rfl) rfl (Nat.le_of_ble_eq_true rfl) dX6_exchange_73 76 rfl ?_
  refine r_aload_n hC 2 dX6_exchange_76 rfl 77 rfl ?_
  refine r_get (v := .ref (b 1)) hC kX6 1 rfl q2754 (fun _ h => h.get 0 rfl) rfl dX6_exchange_77 80 rfl ?_
  refine r_iload_n hC 4 dX6_exchange_80 rfl 81 rfl ?_
  refine r_iload_n hC 1 dX6_exchange_81 rfl 82 rfl ?_
  refine r_invSr hC [.int (nI q), .int 2] (.int (nI (6 + 5 * q + 2))) mSX6_at q2711 (metX6_at _ _ hG q 2) (fun _ _ => xIn.nil) ⟨rfl, rfl⟩ 0 0 rfl rfl (Nat.le_of_ble_eq_true rfl) (Nat.le_of_ble_eq_true rfl) rfl (Nat.le_of_ble_eq_true rfl) dX6_exchange_82 85 rfl ?_
  refine r_lald hC (6 + 5 * q + 2) (xix_n (6 + 5 * q + 2) (by omega) (Nat.le_of_ble_eq_true rfl)) (fun _ h => h.get 1 rfl) ((ex1 (ex1 r p q 0) p q 1) (6 + 5 * q + 2)) (rfl) dX6_exchange_85 86 rfl ?_
  refine r_last (J := xSt F V0 [(b 0, .inr (5, mF b (va_up (va_up (va_up i 0 0) 10 (nI (recN rc))) 11 0) j)), (b 1, .inl (1, 111, .inr (.inl (va_up (ex1 (ex1 r p q 0) p q 1) (6 + 5 * p + 2) ((ex1 (ex1 r p q 0) p q 1) (6 + 5 * q + 2)))))), (b 6, .inl (1, 1110, .inr (.inl (recH hy r rc))))]) hC (6 + 5 * p + 2) (xix_n (6 + 5 * p + 2) (by omega) (Nat.le_of_ble_eq_true rfl)) (fun _ h => h.get 1 rfl) dX6_exchange_86 (fun _ h => h.set 1 _ rfl) 87 rfl ?_
  generalize hu11 : va_up (ex1 (ex1 r p q 0) p q 1) (6 + 5 * p + 2) ((ex1 (ex1 r p q 0) p q 1) (6 + 5 * q + 2)) = u11
  refine r_aload_n hC 2 dX6_exchange_87 rfl 88 rfl ?_
  refine r_get (v := .ref (b 1)) hC kX6 1 rfl q2754 (fun _ h => h.get 0 rfl) rfl dX6_exchange_88 91 rfl ?_
  refine r_iload_n hC 4 dX6_exchange_91 rfl 92 rfl ?_
  refine r_iload_n hC 1 dX6_exchange_92 rfl 93 rfl ?_
  refine r_invSr hC [.int (nI q), .int 2] (.int (nI (6 + 5 * q + 2))) mSX6_at q2711 (metX6_at _ _ hG q 2) (fun _ _ => xIn.nil) ⟨rfl, rfl⟩ 0 0 rfl rfl (Nat.le_of_ble_eq_true rfl) (Nat.le_of_ble_eq_true rfl) rfl (Nat.le_of_ble_eq_true rfl) dX6_exchange_93 96 rfl ?_
  refine r_lload hC 0 dX6_exchange_96 rfl 98 rfl ?_
  refine r_last (J := xSt F V0 [(b 0, .inr (5, mF b (va_up (va_up (va_up i 0 0) 10 (nI (recN rc))) 11 0) j)), (b 1, .inl (1, 111, .inr (.inl (va_up u11 (6 + 5 * q + 2) ((ex1 (ex1 r p q 0) p q 1) (6 + 5 * p + 2)))))), (b 6, .inl (1, 1110, .inr (.inl (recH hy r rc))))]) hC (6 + 5 * q + 2) (xix_n (6 + 5 * q + 2) (by omega) (Nat.le_of_ble_eq_true rfl)) (fun _ h => h.get 1 rfl) dX6_exchange_98 (fun _ h => h.set 1 _ rfl) 99 rfl ?_
  generalize hu12 : va_up u11 (6 + 5 * q + 2) ((ex1 (ex1 r p q 0) p q 1) (6 + 5 * p + 2)) = u12
  refine r_iinc hC 3 3 1 [(3, .int 3), (4, .long ((ex1 (ex1 r p q 0) p q 1) (6 + 5 * p + 2))), (0, .ref (b 0)), (1, .int (nI p)), (2, .int (nI q))] dX6_exchange_99 rfl (by decide) (Nat.le_of_ble_eq_true rfl) rfl 102 rfl ?_
  refine r_goto hC 50 dX6_exchange_102 (by decide) ?_
  subst hu12
  subst hu11
  show rn C (xSt F V0 [(b 0, .inr (5, mF b (va_up (va_up (va_up i 0 0) 10 (nI (recN rc))) 11 0) j)), (b 1, .inl (1, 111, .inr (.inl (ex1 (ex1 (ex1 r p q 0) p q 1) p q 2)))), (b 6, .inl (1, 1110, .inr (.inl (recH hy r rc))))]) 0 0 50 [(3, .int 3), (4, .long ((ex1 (ex1 r p q 0) p q 1) (6 + 5 * p + 2))), (0, .ref (b 0)), (1, .int (nI p)), (2, .int (nI q))] []
  refine r_iload_n hC 0 dX6_exchange_50 rfl 51 rfl ?_
  refine r_iconst hC 5 dX6_exchange_51 ic_5 52 rfl ?_
  refine r_icge hC 105 dX6_exchange_52 (by decide) 55 rfl (fun h => absurd h (by decide)) (fun _ => ?_)
  refine r_aload_n hC 2 dX6_exchange_55 rfl 56 rfl ?_
  refine r_get (v := .ref (b 1)) hC kX6 1 rfl q2754 (fun _ h => h.get 0 rfl) rfl dX6_exchange_56 59 rfl ?_
  refine r_iload_n hC 3 dX6_exchange_59 rfl 60 rfl ?_
  refine r_iload_n hC 0 dX6_exchange_60 rfl 61 rfl ?_
  refine r_invSr hC [.int (nI p), .int 3] (.int (nI (6 + 5 * p + 3))) mSX6_at q2711 (metX6_at _ _ hG p 3) (fun _ _ => xIn.nil) ⟨rfl, rfl⟩ 0 0 rfl rfl (Nat.le_of_ble_eq_true rfl) (Nat.le_of_ble_eq_true rfl) rfl (Nat.le_of_ble_eq_true rfl) dX6_exchange_61 64 rfl ?_
  refine r_lald hC (6 + 5 * p + 3) (xix_n (6 + 5 * p + 3) (by omega) (Nat.le_of_ble_eq_true rfl)) (fun _ h => h.get 1 rfl) ((ex1 (ex1 (ex1 r p q 0) p q 1) p q 2) (6 + 5 * p + 3)) (rfl) dX6_exchange_64 65 rfl ?_
  refine r_lstore hC 4 [(4, .long ((ex1 (ex1 (ex1 r p q 0) p q 1) p q 2) (6 + 5 * p + 3))), (3, .int 3), (0, .ref (b 0)), (1, .int (nI p)), (2, .int (nI q))] dX6_exchange_65 (Nat.le_of_ble_eq_true rfl) rfl 67 rfl ?_
  refine r_aload_n hC 2 dX6_exchange_67 rfl 68 rfl ?_
  refine r_get (v := .ref (b 1)) hC kX6 1 rfl q2754 (fun _ h => h.get 0 rfl) rfl dX6_exchange_68 71 rfl ?_
  refine r_iload_n hC 3 dX6_exchange_71 rfl 72 rfl ?_
  refine r_iload_n hC 1 dX6_exchange_72 rfl 73 rfl ?_
  refine r_invSr hC [.int (nI p), .int 3] (.int (nI (6 + 5 * p + 3))) mSX6_at q2711 (metX6_at _ _ hG p 3) (fun _ _ => xIn.nil) ⟨rfl, rfl⟩ 0 0 rfl rfl (Nat.le_of_ble_eq_true rfl) (Nat.le_of_ble_eq_true rfl) rfl (Nat.le_of_ble_eq_true rfl) dX6_exchange_73 76 rfl ?_
  refine r_aload_n hC 2 dX6_exchange_76 rfl 77 rfl ?_
  refine r_get (v := .ref (b 1)) hC kX6 1 rfl q2754 (fun _ h => h.get 0 rfl) rfl dX6_exchange_77 80 rfl ?_
  refine r_iload_n hC 4 dX6_exchange_80 rfl 81 rfl ?_
  refine r_iload_n hC 1 dX6_exchange_81 rfl 82 rfl ?_
  refine r_invSr hC [.int (nI q), .int 3] (.int (nI (6 + 5 * q + 3))) mSX6_at q2711 (metX6_at _ _ hG q 3) (fun _ _ => xIn.nil) ⟨rfl, rfl⟩ 0 0 rfl rfl (Nat.le_of_ble_eq_true rfl) (Nat.le_of_ble_eq_true rfl) rfl (Nat.le_of_ble_eq_true rfl) dX6_exchange_82 85 rfl ?_
  refine r_lald hC (6 + 5 * q + 3) (xix_n (6 + 5 * q + 3) (by omega) (Nat.le_of_ble_eq_true rfl)) (fun _ h => h.get 1 rfl) ((ex1 (ex1 (ex1 r p q 0) p q 1) p q 2) (6 + 5 * q + 3)) (rfl) dX6_exchange_85 86 rfl ?_
  refine r_last (J := xSt F V0 [(b 0, .inr (5, mF b (va_up (va_up (va_up i 0 0) 10 (nI (recN rc))) 11 0) j)), (b 1, .inl (1, 111, .inr (.inl (va_up (ex1 (ex1 (ex1 r p q 0) p q 1) p q 2) (6 + 5 * p + 3) ((ex1 (ex1 (ex1 r p q 0) p q 1) p q 2) (6 + 5 * q + 3)))))), (b 6, .inl (1, 1110, .inr (.inl (recH hy r rc))))]) hC (6 + 5 * p + 3) (xix_n (6 + 5 * p + 3) (by omega) (Nat.le_of_ble_eq_true rfl)) (fun _ h => h.get 1 rfl) dX6_exchange_86 (fun _ h => h.set 1 _ rfl) 87 rfl ?_
  generalize hu13 : va_up (ex1 (ex1 (ex1 r p q 0) p q 1) p q 2) (6 + 5 * p + 3) ((ex1 (ex1 (ex1 r p q 0) p q 1) p q 2) (6 + 5 * q + 3)) = u13
  refine r_aload_n hC 2 dX6_exchange_87 rfl 88 rfl ?_
  refine r_get (v := .ref (b 1)) hC kX6 1 rfl q2754 (fun _ h => h.get 0 rfl) rfl dX6_exchange_88 91 rfl ?_
  refine r_iload_n hC 4 dX6_exchange_91 rfl 92 rfl ?_
  refine r_iload_n hC 1 dX6_exchange_92 rfl 93 rfl ?_
  refine r_invSr hC [.int (nI q), .int 3] (.int (nI (6 + 5 * q + 3))) mSX6_at q2711 (metX6_at _ _ hG q 3) (fun _ _ => xIn.nil) ⟨rfl, rfl⟩ 0 0 rfl rfl (Nat.le_of_ble_eq_true rfl) (Nat.le_of_ble_eq_true rfl) rfl (Nat.le_of_ble_eq_true rfl) dX6_exchange_93 96 rfl ?_
  refine r_lload hC 0 dX6_exchange_96 rfl 98 rfl ?_
  refine r_last (J := xSt F V0 [(b 0, .inr (5, mF b (va_up (va_up (va_up i 0 0) 10 (nI (recN rc))) 11 0) j)), (b 1, .inl (1, 111, .inr (.inl (va_up u13 (6 + 5 * q + 3) ((ex1 (ex1 (ex1 r p q 0) p q 1) p q 2) (6 + 5 * p + 3)))))), (b 6, .inl (1, 1110, .inr (.inl (recH hy r rc))))]) hC (6 + 5 * q + 3) (xix_n (6 + 5 * q + 3) (by omega) (Nat.le_of_ble_eq_true rfl)) (fun _ h => h.get 1 rfl) dX6_exchange_98 (fun _ h => h.set 1 _ rfl) 99 rfl ?_
  generalize hu14 : va_up u13 (6 + 5 * q + 3) ((ex1 (ex1 (ex1 r p q 0) p q 1) p q 2) (6 + 5 * p + 3)) = u14
  refine r_iinc hC 4 3 1 [(3, .int 4), (4, .long ((ex1 (ex1 (ex1 r p q 0) p q 1) p q 2) (6 + 5 * p + 3))), (0, .ref (b 0)), (1, .int (nI p)), (2, .int (nI q))] dX6_exchange_99 rfl (by decide) (Nat.le_of_ble_eq_true rfl) rfl 102 rfl ?_
  refine r_goto hC 50 dX6_exchange_102 (by decide) ?_
  subst hu14
  subst hu13
  show rn C (xSt F V0 [(b 0, .inr (5, mF b (va_up (va_up (va_up i 0 0) 10 (nI (recN rc))) 11 0) j)), (b 1, .inl (1, 111, .inr (.inl (ex1 (ex1 (ex1 (ex1 r p q 0) p q 1) p q 2) p q 3)))), (b 6, .inl (1, 1110, .inr (.inl (recH hy r rc))))]) 0 0 50 [(3, .int 4), (4, .long ((ex1 (ex1 (ex1 r p q 0) p q 1) p q 2) (6 + 5 * p + 3))), (0, .ref (b 0)), (1, .int (nI p)), (2, .int (nI q))] []
  refine r_iload_n hC 0 dX6_exchange_50 rfl 51 rfl ?_
  refine r_iconst hC 5 dX6_exchange_51 ic_5 52 rfl ?_
  refine r_icge hC 105 dX6_exchange_52 (by decide) 55 rfl (fun h => absurd h (by decide)) (fun _ => ?_)
  refine r_aload_n hC 2 dX6_exchange_55 rfl 56 rfl ?_
  refine r_get (v := .ref (b 1)) hC kX6 1 rfl q2754 (fun _ h => h.get 0 rfl) rfl dX6_exchange_56 59 rfl ?_
  refine r_iload_n hC 3 dX6_exchange_59 rfl 60 rfl ?_
  refine r_iload_n hC 0 dX6_exchange_60 rfl 61 rfl ?_
  refine r_invSr hC [.int (nI p), .int 4] (.int (nI (6 + 5 * p + 4))) mSX6_at q2711 (metX6_at _ _ hG p 4) (fun _ _ => xIn.nil) ⟨rfl, rfl⟩ 0 0 rfl rfl (Nat.le_of_ble_eq_true rfl) (Nat.le_of_ble_eq_true rfl) rfl (Nat.le_of_ble_eq_true rfl) dX6_exchange_61 64 rfl ?_
  refine r_lald hC (6 + 5 * p + 4) (xix_n (6 + 5 * p + 4) (by omega) (Nat.le_of_ble_eq_true rfl)) (fun _ h => h.get 1 rfl) ((ex1 (ex1 (ex1 (ex1 r p q 0) p q 1) p q 2) p q 3) (6 + 5 * p + 4)) (rfl) dX6_exchange_64 65 rfl ?_
  refine r_lstore hC 4 [(4, .long ((ex1 (ex1 (ex1 (ex1 r p q 0) p q 1) p q 2) p q 3) (6 + 5 * p + 4))), (3, .int 4), (0, .ref (b 0)), (1, .int (nI p)), (2, .int (nI q))] dX6_exchange_65 (Nat.le_of_ble_eq_true rfl) rfl 67 rfl ?_
  refine r_aload_n hC 2 dX6_exchange_67 rfl 68 rfl ?_
  refine r_get (v := .ref (b 1)) hC kX6 1 rfl q2754 (fun _ h => h.get 0 rfl) rfl dX6_exchange_68 71 rfl ?_
  refine r_iload_n hC 3 dX6_exchange_71 rfl 72 rfl ?_
  refine r_iload_n hC 1 dX6_exchange_72 rfl 73 rfl ?_
  refine r_invSr hC [.int (nI p), .int 4] (.int (nI (6 + 5 * p + 4))) mSX6_at q2711 (metX6_at _ _ hG p 4) (fun _ _ => xIn.nil) ⟨rfl, rfl⟩ 0 0 rfl rfl (Nat.le_of_ble_eq_true rfl) (Nat.le_of_ble_eq_true rfl) rfl (Nat.le_of_ble_eq_true rfl) dX6_exchange_73 76 rfl ?_
  refine r_aload_n hC 2 dX6_exchange_76 rfl 77 rfl ?_
  refine r_get (v := .ref (b 1)) hC kX6 1 rfl q2754 (fun _ h => h.get 0 rfl) rfl dX6_exchange_77 80 rfl ?_
  refine r_iload_n hC 4 dX6_exchange_80 rfl 81 rfl ?_
  refine r_iload_n hC 1 dX6_exchange_81 rfl 82 rfl ?_
  refine r_invSr hC [.int (nI q), .int 4] (.int (nI (6 + 5 * q + 4))) mSX6_at q2711 (metX6_at _ _ hG q 4) (fun _ _ => xIn.nil) ⟨rfl, rfl⟩ 0 0 rfl rfl (Nat.le_of_ble_eq_true rfl) (Nat.le_of_ble_eq_true rfl) rfl (Nat.le_of_ble_eq_true rfl) dX6_exchange_82 85 rfl ?_
  refine r_lald hC (6 + 5 * q + 4) (xix_n (6 + 5 * q + 4) (by omega) (Nat.le_of_ble_eq_true rfl)) (fun _ h => h.get 1 rfl) ((ex1 (ex1 (ex1 (ex1 r p q 0) p q 1) p q 2) p q 3) (6 + 5 * q + 4)) (rfl) dX6_exchange_85 86 rfl ?_
  refine r_last (J := xSt F V0 [(b 0, .inr (5, mF b (va_up (va_up (va_up i 0 0) 10 (nI (recN rc))) 11 0) j)), (b 1, .inl (1, 111, .inr (.inl (va_up (ex1 (ex1 (ex1 (ex1 r p q 0) p q 1) p q 2) p q 3) (6 + 5 * p + 4) ((ex1 (ex1 (ex1 (ex1 r p q 0) p q 1) p q 2) p q 3) (6 + 5 * q + 4)))))), (b 6, .inl (1, 1110, .inr (.inl (recH hy r rc))))]) hC (6 + 5 * p + 4) (xix_n (6 + 5 * p + 4) (by omega) (Nat.le_of_ble_eq_true rfl)) (fun _ h => h.get 1 rfl) dX6_exchange_86 (fun _ h => h.set 1 _ rfl) 87 rfl ?_
  generalize hu15 : va_up (ex1 (ex1 (ex1 (ex1 r p q 0) p q 1) p q 2) p q 3) (6 + 5 * p + 4) ((ex1 (ex1 (ex1 (ex1 r p q 0) p q 1) p q 2) p q 3) (6 + 5 * q + 4)) = u15
  refine r_aload_n hC 2 dX6_exchange_87 rfl 88 rfl ?_
  refine r_get (v := .ref (b 1)) hC kX6 1 rfl q2754 (fun _ h => h.get 0 rfl) rfl dX6_exchange_88 91 rfl ?_
  refine r_iload_n hC 4 dX6_exchange_91 rfl 92 rfl ?_
  refine r_iload_n hC 1 dX6_exchange_92 rfl 93 rfl ?_
  refine r_invSr hC [.int (nI q), .int 4] (.int (nI (6 + 5 * q + 4))) mSX6_at q2711 (metX6_at _ _ hG q 4) (fun _ _ => xIn.nil) ⟨rfl, rfl⟩ 0 0 rfl rfl (Nat.le_of_ble_eq_true rfl) (Nat.le_of_ble_eq_true rfl) rfl (Nat.le_of_ble_eq_true rfl) dX6_exchange_93 96 rfl ?_
  refine r_lload hC 0 dX6_exchange_96 rfl 98 rfl ?_
  refine r_last (J := xSt F V0 [(b 0, .inr (5, mF b (va_up (va_up (va_up i 0 0) 10 (nI (recN rc))) 11 0) j)), (b 1, .inl (1, 111, .inr (.inl (va_up u15 (6 + 5 * q + 4) ((ex1 (ex1 (ex1 (ex1 r p q 0) p q 1) p q 2) p q 3) (6 + 5 * p + 4)))))), (b 6, .inl (1, 1110, .inr (.inl (recH hy r rc))))]) hC (6 + 5 * q + 4) (xix_n (6 + 5 * q + 4) (by omega) (Nat.le_of_ble_eq_true rfl)) (fun _ h => h.get 1 rfl) dX6_exchange_98 (fun _ h => h.set 1 _ rfl) 99 rfl ?_
  generalize hu16 : va_up u15 (6 + 5 * q + 4) ((ex1 (ex1 (ex1 (ex1 r p q 0) p q 1) p q 2) p q 3) (6 + 5 * p + 4)) = u16
  refine r_iinc hC 5 3 1 [(3, .int 5), (4, .long ((ex1 (ex1 (ex1 (ex1 r p q 0) p q 1) p q 2) p q 3) (6 + 5 * p + 4))), (0, .ref (b 0)), (1, .int (nI p)), (2, .int (nI q))] dX6_exchange_99 rfl (by decide) (Nat.le_of_ble_eq_true rfl) rfl 102 rfl ?_
  refine r_goto hC 50 dX6_exchange_102 (by decide) ?_
  subst hu16
  subst hu15
  show rn C (xSt F V0 [(b 0, .inr (5, mF b (va_up (va_up (va_up i 0 0) 10 (nI (recN rc))) 11 0) j)), (b 1, .inl (1, 111, .inr (.inl (ex1 (ex1 (ex1 (ex1 (ex1 r p q 0) p q 1) p q 2) p q 3) p q 4)))), (b 6, .inl (1, 1110, .inr (.inl (recH hy r rc))))]) 0 0 50 [(3, .int 5), (4, .long ((ex1 (ex1 (ex1 (ex1 r p q 0) p q 1) p q 2) p q 3) (6 + 5 * p + 4))), (0, .ref (b 0)), (1, .int (nI p)), (2, .int (nI q))] []
  refine r_iload_n hC 0 dX6_exchange_50 rfl 51 rfl ?_
  refine r_iconst hC 5 dX6_exchange_51 ic_5 52 rfl ?_
  refine r_icge hC 105 dX6_exchange_52 (by decide) 55 rfl (fun _ => ?_) (fun h => absurd h (by decide))
  exact r_vret hC (Nat.le_of_ble_eq_true rfl) (Nat.le_of_ble_eq_true rfl) (fun V9 h => hQ _ _ ⟨[(b 0, .inr (5, mF b (va_up (va_up (va_up i 0 0) 10 (nI (recN rc))) 11 0) j)), (b 1, .inl (1, 111, .inr (.inl (ex1 (ex1 (ex1 (ex1 (ex1 r p q 0) p q 1) p q 2) p q 3) p q 4)))), (b 6, .inl (1, 1110, .inr (.inl (recH hy r rc))))], ⟨rfl, rfl⟩, by rw [← hV0, ← hF]; exact h⟩) dX6_exchange_105
set_option maxHeartbeats 4000000 in
set_option maxRecDepth 100000 in
theorem metX6_exchangeB1 (l : Launch) (G : xG) (hG : xGood G) (b : Nat → Nat) (i : Nat → Int32) (j : Nat → Int64) (r hy : Nat → Int64) (x y : Int32) (hx : bI (m_in x.toInt64 0 2) = 0) : xWm l G yX6_exchange (Cond.code yX6_exchange cX6_exchange 6 none) { frames := 2, locals := 46, cells := 0, slots := 0 } [.ref (b 0), .int x, .int y] [(b 0, .inr (5, mF b i j)), (b 1, .inl (1, 111, .inr (.inl r))), (b 6, .inl (1, 1110, .inr (.inl hy)))] (fun v w' => v = none ∧ w' = [(b 0, .inr (5, mF b (va_up i 0 1) j)), (b 1, .inl (1, 111, .inr (.inl r))), (b 6, .inl (1, 1110, .inr (.inl hy)))]) (fun _ _ => False) := by
  intro V hV
  refine xMet_of RX6 hG rfl (by decide) (Nat.le_of_ble_eq_true rfl) fun C hC hQ hX hl hg _ => ?_
  subst hl hg
  obtain ⟨V0, hV0⟩ : ∃ V0, V0 = V := ⟨_, rfl⟩
  obtain ⟨F, hF⟩ : ∃ F, F = xF [(b 0, .inr (5, mF b i j)), (b 1, .inl (1, 111, .inr (.inl r))), (b 6, .inl (1, 1110, .inr (.inl hy)))] := ⟨_, rfl⟩
  refine rn.mono (J := xSt F V0 [(b 0, .inr (5, mF b i j)), (b 1, .inl (1, 111, .inr (.inl r))), (b 6, .inl (1, 1110, .inr (.inl hy)))]) (fun V9 h => by rw [h, hV0, hF]; exact hV.st) ?_
  show rn C (xSt F V0 [(b 0, .inr (5, mF b i j)), (b 1, .inl (1, 111, .inr (.inl r))), (b 6, .inl (1, 1110, .inr (.inl hy)))]) 0 0 0 [(0, .ref (b 0)), (1, .int x), (2, .int y)] []
  refine r_aload_n hC 0 dX6_exchange_0 rfl 1 rfl ?_
  refine r_iload_n hC 1 dX6_exchange_1 rfl 2 rfl ?_
  refine r_invVw hC kX6 (b 0) [.int x] [(b 1, .inl (1, 111, .inr (.inl r))), (b 6, .inl (1, 1110, .inr (.inl hy)))] mVX6_noBody q2996 0 rfl (metX6_noBody1 _ _ hG b _ _ x (hx)) [0] [1, 2] rfl rfl rfl rfl (by decide) ⟨rfl, rfl⟩ 0 0 rfl rfl (Nat.le_of_ble_eq_true rfl) (Nat.le_of_ble_eq_true rfl) rfl (Nat.le_of_ble_eq_true rfl) dX6_exchange_2 5 rfl (fun v1 w2 h3 => ?_) (fun _ _ h => h.elim)
  obtain ⟨rfl, rfl⟩ := h3
  show rn C (xSt F V0 [(b 1, .inl (1, 111, .inr (.inl r))), (b 6, .inl (1, 1110, .inr (.inl hy))), (b 0, .inr (5, mF b (va_up i 0 1) j))]) 0 0 5 [(0, .ref (b 0)), (1, .int x), (2, .int y)] [.int 1]
  refine r_ifne hC 43 dX6_exchange_5 (by decide) 8 rfl (fun _ => ?_) (fun h => absurd h (by decide))
  exact r_vret hC (Nat.le_of_ble_eq_true rfl) (Nat.le_of_ble_eq_true rfl) (fun V9 h => hQ _ _ ⟨[(b 0, .inr (5, mF b (va_up i 0 1) j)), (b 1, .inl (1, 111, .inr (.inl r))), (b 6, .inl (1, 1110, .inr (.inl hy)))], ⟨rfl, by simp only [bx_uu]⟩, by rw [← hV0, ← hF]; exact (h.sub [2, 0, 1] rfl rfl)⟩) dX6_exchange_43
set_option maxHeartbeats 4000000 in
set_option maxRecDepth 100000 in
theorem metX6_exchangeB2 (l : Launch) (G : xG) (hG : xGood G) (b : Nat → Nat) (i : Nat → Int32) (j : Nat → Int64) (r hy : Nat → Int64) (p : Nat) (hp : p < 3) (y : Int32) (hy2 : bI (m_in y.toInt64 0 2) = 0) : xWm l G yX6_exchange (Cond.code yX6_exchange cX6_exchange 6 none) { frames := 2, locals := 46, cells := 0, slots := 0 } [.ref (b 0), .int (nI p), .int y] [(b 0, .inr (5, mF b i j)), (b 1, .inl (1, 111, .inr (.inl r))), (b 6, .inl (1, 1110, .inr (.inl hy)))] (fun v w' => v = none ∧ w' = [(b 0, .inr (5, mF b (va_up i 0 1) j)), (b 1, .inl (1, 111, .inr (.inl r))), (b 6, .inl (1, 1110, .inr (.inl hy)))]) (fun _ _ => False) := by
  intro V hV
  refine xMet_of RX6 hG rfl (by decide) (Nat.le_of_ble_eq_true rfl) fun C hC hQ hX hl hg _ => ?_
  subst hl hg
  obtain ⟨V0, hV0⟩ : ∃ V0, V0 = V := ⟨_, rfl⟩
  obtain ⟨F, hF⟩ : ∃ F, F = xF [(b 0, .inr (5, mF b i j)), (b 1, .inl (1, 111, .inr (.inl r))), (b 6, .inl (1, 1110, .inr (.inl hy)))] := ⟨_, rfl⟩
  refine rn.mono (J := xSt F V0 [(b 0, .inr (5, mF b i j)), (b 1, .inl (1, 111, .inr (.inl r))), (b 6, .inl (1, 1110, .inr (.inl hy)))]) (fun V9 h => by rw [h, hV0, hF]; exact hV.st) ?_
  show rn C (xSt F V0 [(b 0, .inr (5, mF b i j)), (b 1, .inl (1, 111, .inr (.inl r))), (b 6, .inl (1, 1110, .inr (.inl hy)))]) 0 0 0 [(0, .ref (b 0)), (1, .int (nI p)), (2, .int y)] []
  refine r_aload_n hC 0 dX6_exchange_0 rfl 1 rfl ?_
  refine r_iload_n hC 1 dX6_exchange_1 rfl 2 rfl ?_
  refine r_invVw hC kX6 (b 0) [.int (nI p)] [(b 1, .inl (1, 111, .inr (.inl r))), (b 6, .inl (1, 1110, .inr (.inl hy)))] mVX6_noBody q2996 0 rfl (metX6_noBody0 _ _ hG b _ _ p (by omega)) [0] [1, 2] rfl rfl rfl rfl (by decide) ⟨rfl, rfl⟩ 0 0 rfl rfl (Nat.le_of_ble_eq_true rfl) (Nat.le_of_ble_eq_true rfl) rfl (Nat.le_of_ble_eq_true rfl) dX6_exchange_2 5 rfl (fun v1 w2 h3 => ?_) (fun _ _ h => h.elim)
  obtain ⟨rfl, rfl⟩ := h3
  show rn C (xSt F V0 [(b 1, .inl (1, 111, .inr (.inl r))), (b 6, .inl (1, 1110, .inr (.inl hy))), (b 0, .inr (5, mF b (va_up i 0 0) j))]) 0 0 5 [(0, .ref (b 0)), (1, .int (nI p)), (2, .int y)] [.int 0]
  refine r_ifne hC 43 dX6_exchange_5 (by decide) 8 rfl (fun h => absurd h (by decide)) (fun _ => ?_)
  refine r_aload_n hC 0 dX6_exchange_8 rfl 9 rfl ?_
  refine r_iload_n hC 2 dX6_exchange_9 rfl 10 rfl ?_
  refine r_i2l hC y.toInt64 dX6_exchange_10 (rfl) 11 rfl ?_
  refine r_lconst hC 0 dX6_exchange_11 lc_0 12 rfl ?_
  refine r_ldc2 hC q2728 dX6_exchange_12 15 rfl ?_
  refine r_invSr hC [.long y.toInt64, .long 0, .long 2] (.int 0) mSX6_in q2891 (metX6_inB _ _ hG y.toInt64 0 2 0 (hy2)) (fun _ _ => xIn.nil) ⟨rfl, rfl⟩ 0 0 rfl rfl (Nat.le_of_ble_eq_true rfl) (Nat.le_of_ble_eq_true rfl) rfl (Nat.le_of_ble_eq_true rfl) dX6_exchange_15 18 rfl ?_
  refine r_iconst hC 1 dX6_exchange_18 ic_1 19 rfl ?_
  refine r_invVw hC kX6 (b 0) [.int 0, .int 1] [(b 1, .inl (1, 111, .inr (.inl r))), (b 6, .inl (1, 1110, .inr (.inl hy)))] mVX6_fails q2894 2 rfl (metX6_fails0 _ _ hG b _ _ 1) [2] [0, 1] rfl rfl rfl rfl (by decide) ⟨rfl, rfl⟩ 0 0 rfl rfl (Nat.le_of_ble_eq_true rfl) (Nat.le_of_ble_eq_true rfl) rfl (Nat.le_of_ble_eq_true rfl) dX6_exchange_19 22 rfl (fun v4 w5 h6 => ?_) (fun _ _ h => h.elim)
  obtain ⟨rfl, rfl⟩ := h6
  show rn C (xSt F V0 [(b 1, .inl (1, 111, .inr (.inl r))), (b 6, .inl (1, 1110, .inr (.inl hy))), (b 0, .inr (5, mF b (va_up (va_up i 0 0) 0 1) j))]) 0 0 22 [(0, .ref (b 0)), (1, .int (nI p)), (2, .int y)] [.int 1]
  refine r_ifne hC 43 dX6_exchange_22 (by decide) 25 rfl (fun _ => ?_) (fun h => absurd h (by decide))
  exact r_vret hC (Nat.le_of_ble_eq_true rfl) (Nat.le_of_ble_eq_true rfl) (fun V9 h => hQ _ _ ⟨[(b 0, .inr (5, mF b (va_up (va_up i 0 0) 0 1) j)), (b 1, .inl (1, 111, .inr (.inl r))), (b 6, .inl (1, 1110, .inr (.inl hy)))], ⟨rfl, by simp only [bx_uu]⟩, by rw [← hV0, ← hF]; exact (h.sub [2, 0, 1] rfl rfl)⟩) dX6_exchange_43
set_option maxHeartbeats 4000000 in
set_option maxRecDepth 100000 in
theorem metX6_exchangeC (l : Launch) (G : xG) (hG : xGood G) (b : Nat → Nat) (i : Nat → Int32) (j : Nat → Int64) (r hy : Nat → Int64) (p : Nat) (hp : p < 3) : xWm l G yX6_exchange (Cond.code yX6_exchange cX6_exchange 6 none) { frames := 2, locals := 46, cells := 0, slots := 0 } [.ref (b 0), .int (nI p), .int (nI p)] [(b 0, .inr (5, mF b i j)), (b 1, .inl (1, 111, .inr (.inl r))), (b 6, .inl (1, 1110, .inr (.inl hy)))] (fun v w' => v = none ∧ w' = [(b 0, .inr (5, mF b (va_up i 0 2) j)), (b 1, .inl (1, 111, .inr (.inl r))), (b 6, .inl (1, 1110, .inr (.inl hy)))]) (fun _ _ => False) := by
  intro V hV
  refine xMet_of RX6 hG rfl (by decide) (Nat.le_of_ble_eq_true rfl) fun C hC hQ hX hl hg _ => ?_
  subst hl hg
  obtain ⟨V0, hV0⟩ : ∃ V0, V0 = V := ⟨_, rfl⟩
  obtain ⟨F, hF⟩ : ∃ F, F = xF [(b 0, .inr (5, mF b i j)), (b 1, .inl (1, 111, .inr (.inl r))), (b 6, .inl (1, 1110, .inr (.inl hy)))] := ⟨_, rfl⟩
  refine rn.mono (J := xSt F V0 [(b 0, .inr (5, mF b i j)), (b 1, .inl (1, 111, .inr (.inl r))), (b 6, .inl (1, 1110, .inr (.inl hy)))]) (fun V9 h => by rw [h, hV0, hF]; exact hV.st) ?_
  show rn C (xSt F V0 [(b 0, .inr (5, mF b i j)), (b 1, .inl (1, 111, .inr (.inl r))), (b 6, .inl (1, 1110, .inr (.inl hy)))]) 0 0 0 [(0, .ref (b 0)), (1, .int (nI p)), (2, .int (nI p))] []
  refine r_aload_n hC 0 dX6_exchange_0 rfl 1 rfl ?_
  refine r_iload_n hC 1 dX6_exchange_1 rfl 2 rfl ?_
  refine r_invVw hC kX6 (b 0) [.int (nI p)] [(b 1, .inl (1, 111, .inr (.inl r))), (b 6, .inl (1, 1110, .inr (.inl hy)))] mVX6_noBody q2996 0 rfl (metX6_noBody0 _ _ hG b _ _ p (by omega)) [0] [1, 2] rfl rfl rfl rfl (by decide) ⟨rfl, rfl⟩ 0 0 rfl rfl (Nat.le_of_ble_eq_true rfl) (Nat.le_of_ble_eq_true rfl) rfl (Nat.le_of_ble_eq_true rfl) dX6_exchange_2 5 rfl (fun v1 w2 h3 => ?_) (fun _ _ h => h.elim)
  obtain ⟨rfl, rfl⟩ := h3
  show rn C (xSt F V0 [(b 1, .inl (1, 111, .inr (.inl r))), (b 6, .inl (1, 1110, .inr (.inl hy))), (b 0, .inr (5, mF b (va_up i 0 0) j))]) 0 0 5 [(0, .ref (b 0)), (1, .int (nI p)), (2, .int (nI p))] [.int 0]
  refine r_ifne hC 43 dX6_exchange_5 (by decide) 8 rfl (fun h => absurd h (by decide)) (fun _ => ?_)
  refine r_aload_n hC 0 dX6_exchange_8 rfl 9 rfl ?_
  refine r_iload_n hC 2 dX6_exchange_9 rfl 10 rfl ?_
  refine r_i2l hC ((nI p).toInt64) dX6_exchange_10 (rfl) 11 rfl ?_
  refine r_lconst hC 0 dX6_exchange_11 lc_0 12 rfl ?_
  refine r_ldc2 hC q2728 dX6_exchange_12 15 rfl ?_
  refine r_invSr hC [.long ((nI p).toInt64), .long 0, .long 2] (.int 1) mSX6_in q2891 (metX6_inB _ _ hG ((nI p).toInt64) 0 2 1 (in_n (N := 2) (by omega) rfl (by decide))) (fun _ _ => xIn.nil) ⟨rfl, rfl⟩ 0 0 rfl rfl (Nat.le_of_ble_eq_true rfl) (Nat.le_of_ble_eq_true rfl) rfl (Nat.le_of_ble_eq_true rfl) dX6_exchange_15 18 rfl ?_
  refine r_iconst hC 1 dX6_exchange_18 ic_1 19 rfl ?_
  refine r_invVr hC kX6 (b 0) [.int 1, .int 1] (.int 0) mVX6_fails q2894 (fun _ h => h.get 2 rfl) (metX6_fails1 _ _ hG b _ _ 1) (fun _ h => h.in.sub [2] rfl rfl) ⟨rfl, rfl⟩ 0 0 rfl rfl (Nat.le_of_ble_eq_true rfl) (Nat.le_of_ble_eq_true rfl) rfl (Nat.le_of_ble_eq_true rfl) dX6_exchange_19 22 rfl ?_
  refine r_ifne hC 43 dX6_exchange_22 (by decide) 25 rfl (fun h => absurd h (by decide)) (fun _ => ?_)
  refine r_aload_n hC 0 dX6_exchange_25 rfl 26 rfl ?_
  refine r_iload_n hC 1 dX6_exchange_26 rfl 27 rfl ?_
  refine r_iload_n hC 2 dX6_exchange_27 rfl 28 rfl ?_
  refine r_iceq hC 35 dX6_exchange_28 (by decide) 31 rfl (fun _ => ?_) (fun h => absurd (rfl) h)
  refine r_iconst hC 0 dX6_exchange_35 ic_0 36 rfl ?_
  refine r_iconst hC 2 dX6_exchange_36 ic_2 37 rfl ?_
  refine r_invVw hC kX6 (b 0) [.int 0, .int 2] [(b 1, .inl (1, 111, .inr (.inl r))), (b 6, .inl (1, 1110, .inr (.inl hy)))] mVX6_fails q2894 2 rfl (metX6_fails0 _ _ hG b _ _ 2) [2] [0, 1] rfl rfl rfl rfl (by decide) ⟨rfl, rfl⟩ 0 0 rfl rfl (Nat.le_of_ble_eq_true rfl) (Nat.le_of_ble_eq_true rfl) rfl (Nat.le_of_ble_eq_true rfl) dX6_exchange_37 40 rfl (fun v4 w5 h6 => ?_) (fun _ _ h => h.elim)
  obtain ⟨rfl, rfl⟩ := h6
  show rn C (xSt F V0 [(b 1, .inl (1, 111, .inr (.inl r))), (b 6, .inl (1, 1110, .inr (.inl hy))), (b 0, .inr (5, mF b (va_up (va_up i 0 0) 0 2) j))]) 0 0 40 [(0, .ref (b 0)), (1, .int (nI p)), (2, .int (nI p))] [.int 1]
  refine r_ifeq hC 44 dX6_exchange_40 (by decide) 43 rfl (fun h => absurd h (by decide)) (fun _ => ?_)
  exact r_vret hC (Nat.le_of_ble_eq_true rfl) (Nat.le_of_ble_eq_true rfl) (fun V9 h => hQ _ _ ⟨[(b 0, .inr (5, mF b (va_up (va_up i 0 0) 0 2) j)), (b 1, .inl (1, 111, .inr (.inl r))), (b 6, .inl (1, 1110, .inr (.inl hy)))], ⟨rfl, by simp only [bx_uu]⟩, by rw [← hV0, ← hF]; exact (h.sub [2, 0, 1] rfl rfl)⟩) dX6_exchange_43
def remQ (mm r : Nat → Int64) (m : Nat) : Nat → Int64 := if m = 0 then va_up (va_up (va_up mm 0 (lN (distQ r 0))) 1 (lN (distQ r 1))) 2 (lN (distQ r 2)) else if m = 1 then va_up (va_up (va_up mm 3 (lN (distQ r 0))) 4 (lN (distQ r 1))) 5 (lN (distQ r 2)) else va_up (va_up (va_up (va_up (va_up (va_up mm 0 (mm 3)) 1 (mm 4)) 2 (mm 5)) 3 (lN (distQ r 0))) 4 (lN (distQ r 1))) 5 (lN (distQ r 2))
set_option maxHeartbeats 4000000 in
set_option maxRecDepth 100000 in
theorem metX6_remembers0 (l : Launch) (G : xG) (hG : xGood G) (b : Nat → Nat) (i : Nat → Int32) (j : Nat → Int64) (r mm : Nat → Int64) (hi : i 11 = 0) : xWm l G yX6_remembers (Cond.code yX6_remembers cX6_remembers 2 none) { frames := 3, locals := 73, cells := 0, slots := 0 } [.ref (b 0)] [(b 0, .inr (5, mF b i j)), (b 1, .inl (1, 111, .inr (.inl r))), (b 12, .inl (1, 6, .inr (.inl mm)))] (fun v w' => v = none ∧ w' = [(b 0, .inr (5, mF b (va_up i 11 1) j)), (b 1, .inl (1, 111, .inr (.inl r))), (b 12, .inl (1, 6, .inr (.inl (remQ mm r 0))))]) (fun _ _ => False) := by
  intro V hV
  refine xMet_of RX6 hG rfl (by decide) (Nat.le_of_ble_eq_true rfl) fun C hC hQ hX hl hg _ => ?_
  subst hl hg
  obtain ⟨V0, hV0⟩ : ∃ V0, V0 = V := ⟨_, rfl⟩
  obtain ⟨F, hF⟩ : ∃ F, F = xF [(b 0, .inr (5, mF b i j)), (b 1, .inl (1, 111, .inr (.inl r))), (b 12, .inl (1, 6, .inr (.inl mm)))] := ⟨_, rfl⟩
  refine rn.mono (J := xSt F V0 [(b 0, .inr (5, mF b i j)), (b 1, .inl (1, 111, .inr (.inl r))), (b 12, .inl (1, 6, .inr (.inl mm)))]) (fun V9 h => by rw [h, hV0, hF]; exact hV.st) ?_
  show rn C (xSt F V0 [(b 0, .inr (5, mF b i j)), (b 1, .inl (1, 111, .inr (.inl r))), (b 12, .inl (1, 6, .inr (.inl mm)))]) 0 0 0 [(0, .ref (b 0))] []
  refine r_aload_n hC 0 dX6_remembers_0 rfl 1 rfl ?_
  refine r_get (v := .int (i 11)) hC kX6 11 rfl q2764 (fun _ h => h.get 0 rfl) rfl dX6_remembers_1 4 rfl ?_
  refine r_eqi (y := 0) (hi) ?_
  refine r_iconst hC 2 dX6_remembers_4 ic_2 5 rfl ?_
  refine r_icne hC 45 dX6_remembers_5 (by decide) 8 rfl (fun _ => ?_) (fun h => absurd h (by decide))
  refine r_iconst hC 0 dX6_remembers_45 ic_0 46 rfl ?_
  refine r_istore_n hC 1 [(1, .int 0), (0, .ref (b 0))] dX6_remembers_46 rfl (Nat.le_of_ble_eq_true rfl) rfl 47 rfl ?_
  refine r_iload_n hC 0 dX6_remembers_47 rfl 48 rfl ?_
  refine r_iconst hC 3 dX6_remembers_48 ic_3 49 rfl ?_
  refine r_icge hC 79 dX6_remembers_49 (by decide) 52 rfl (fun h => absurd h (by decide)) (fun _ => ?_)
  refine r_aload_n hC 1 dX6_remembers_52 rfl 53 rfl ?_
  refine r_get (v := .ref (b 12)) hC kX6 12 rfl q2765 (fun _ h => h.get 0 rfl) rfl dX6_remembers_53 56 rfl ?_
  refine r_iconst hC 3 dX6_remembers_56 ic_3 57 rfl ?_
  refine r_aload_n hC 1 dX6_remembers_57 rfl 58 rfl ?_
  refine r_get (v := .int (i 11)) hC kX6 11 rfl q2764 (fun _ h => h.get 0 rfl) rfl dX6_remembers_58 61 rfl ?_
  refine r_eqi (y := 0) (hi) ?_
  refine r_imul hC 0 dX6_remembers_61  (by decide) 62 rfl ?_
  refine r_iload_n hC 0 dX6_remembers_62 rfl 63 rfl ?_
  refine r_iadd hC 0 dX6_remembers_63  (by decide) 64 rfl ?_
  refine r_aload_n hC 1 dX6_remembers_64 rfl 65 rfl ?_
  refine r_get (v := .ref (b 1)) hC kX6 1 rfl q2754 (fun _ h => h.get 0 rfl) rfl dX6_remembers_65 68 rfl ?_
  refine r_iload_n hC 0 dX6_remembers_68 rfl 69 rfl ?_
  refine r_invSr hC [.ref (b 1), .int 0] (.long (lN (distQ r 0))) mSX6_distanceOf q2743 (metX6_distanceOf _ _ hG (b 1) _ 0 (Nat.le_of_ble_eq_true rfl)) (fun _ h => h.in.sub [1] rfl rfl) ⟨rfl, rfl⟩ 0 0 rfl rfl (Nat.le_of_ble_eq_true rfl) (Nat.le_of_ble_eq_true rfl) rfl (Nat.le_of_ble_eq_true rfl) dX6_remembers_69 72 rfl ?_
  refine r_last (J := xSt F V0 [(b 0, .inr (5, mF b i j)), (b 1, .inl (1, 111, .inr (.inl r))), (b 12, .inl (1, 6, .inr (.inl (va_up mm 0 (lN (distQ r 0))))))]) hC 0 (xix_n 0 (Nat.le_of_ble_eq_true rfl) (Nat.le_of_ble_eq_true rfl)) (fun _ h => h.get 2 rfl) dX6_remembers_72 (fun _ h => h.set 2 _ rfl) 73 rfl ?_
  generalize hu1 : va_up mm 0 (lN (distQ r 0)) = u1
  refine r_iinc hC 1 1 0 [(1, .int 1), (0, .ref (b 0))] dX6_remembers_73 rfl (by decide) (Nat.le_of_ble_eq_true rfl) rfl 76 rfl ?_
  refine r_goto hC 47 dX6_remembers_76 (by decide) ?_
  refine r_iload_n hC 0 dX6_remembers_47 rfl 48 rfl ?_
  refine r_iconst hC 3 dX6_remembers_48 ic_3 49 rfl ?_
  refine r_icge hC 79 dX6_remembers_49 (by decide) 52 rfl (fun h => absurd h (by decide)) (fun _ => ?_)
  refine r_aload_n hC 1 dX6_remembers_52 rfl 53 rfl ?_
  refine r_get (v := .ref (b 12)) hC kX6 12 rfl q2765 (fun _ h => h.get 0 rfl) rfl dX6_remembers_53 56 rfl ?_
  refine r_iconst hC 3 dX6_remembers_56 ic_3 57 rfl ?_
  refine r_aload_n hC 1 dX6_remembers_57 rfl 58 rfl ?_
  refine r_get (v := .int (i 11)) hC kX6 11 rfl q2764 (fun _ h => h.get 0 rfl) rfl dX6_remembers_58 61 rfl ?_
  refine r_eqi (y := 0) (hi) ?_
  refine r_imul hC 0 dX6_remembers_61  (by decide) 62 rfl ?_
  refine r_iload_n hC 0 dX6_remembers_62 rfl 63 rfl ?_
  refine r_iadd hC 1 dX6_remembers_63  (by decide) 64 rfl ?_
  refine r_aload_n hC 1 dX6_remembers_64 rfl 65 rfl ?_
  refine r_get (v := .ref (b 1)) hC kX6 1 rfl q2754 (fun _ h => h.get 0 rfl) rfl dX6_remembers_65 68 rfl ?_
  refine r_iload_n hC 0 dX6_remembers_68 rfl 69 rfl ?_
  refine r_invSr hC [.ref (b 1), .int 1] (.long (lN (distQ r 1))) mSX6_distanceOf q2743 (metX6_distanceOf _ _ hG (b 1) _ 1 (Nat.le_of_ble_eq_true rfl)) (fun _ h => h.in.sub [1] rfl rfl) ⟨rfl, rfl⟩ 0 0 rfl rfl (Nat.le_of_ble_eq_true rfl) (Nat.le_of_ble_eq_true rfl) rfl (Nat.le_of_ble_eq_true rfl) dX6_remembers_69 72 rfl ?_
  refine r_last (J := xSt F V0 [(b 0, .inr (5, mF b i j)), (b 1, .inl (1, 111, .inr (.inl r))), (b 12, .inl (1, 6, .inr (.inl (va_up u1 1 (lN (distQ r 1))))))]) hC 1 (xix_n 1 (Nat.le_of_ble_eq_true rfl) (Nat.le_of_ble_eq_true rfl)) (fun _ h => h.get 2 rfl) dX6_remembers_72 (fun _ h => h.set 2 _ rfl) 73 rfl ?_
  generalize hu2 : va_up u1 1 (lN (distQ r 1)) = u2
  refine r_iinc hC 2 1 0 [(1, .int 2), (0, .ref (b 0))] dX6_remembers_73 rfl (by decide) (Nat.le_of_ble_eq_true rfl) rfl 76 rfl ?_
  refine r_goto hC 47 dX6_remembers_76 (by decide) ?_
  refine r_iload_n hC 0 dX6_remembers_47 rfl 48 rfl ?_
  refine r_iconst hC 3 dX6_remembers_48 ic_3 49 rfl ?_
  refine r_icge hC 79 dX6_remembers_49 (by decide) 52 rfl (fun h => absurd h (by decide)) (fun _ => ?_)
  refine r_aload_n hC 1 dX6_remembers_52 rfl 53 rfl ?_
  refine r_get (v := .ref (b 12)) hC kX6 12 rfl q2765 (fun _ h => h.get 0 rfl) rfl dX6_remembers_53 56 rfl ?_
  refine r_iconst hC 3 dX6_remembers_56 ic_3 57 rfl ?_
  refine r_aload_n hC 1 dX6_remembers_57 rfl 58 rfl ?_
  refine r_get (v := .int (i 11)) hC kX6 11 rfl q2764 (fun _ h => h.get 0 rfl) rfl dX6_remembers_58 61 rfl ?_
  refine r_eqi (y := 0) (hi) ?_
  refine r_imul hC 0 dX6_remembers_61  (by decide) 62 rfl ?_
  refine r_iload_n hC 0 dX6_remembers_62 rfl 63 rfl ?_
  refine r_iadd hC 2 dX6_remembers_63  (by decide) 64 rfl ?_
  refine r_aload_n hC 1 dX6_remembers_64 rfl 65 rfl ?_
  refine r_get (v := .ref (b 1)) hC kX6 1 rfl q2754 (fun _ h => h.get 0 rfl) rfl dX6_remembers_65 68 rfl ?_
  refine r_iload_n hC 0 dX6_remembers_68 rfl 69 rfl ?_
  refine r_invSr hC [.ref (b 1), .int 2] (.long (lN (distQ r 2))) mSX6_distanceOf q2743 (metX6_distanceOf _ _ hG (b 1) _ 2 (Nat.le_of_ble_eq_true rfl)) (fun _ h => h.in.sub [1] rfl rfl) ⟨rfl, rfl⟩ 0 0 rfl rfl (Nat.le_of_ble_eq_true rfl) (Nat.le_of_ble_eq_true rfl) rfl (Nat.le_of_ble_eq_true rfl) dX6_remembers_69 72 rfl ?_
  refine r_last (J := xSt F V0 [(b 0, .inr (5, mF b i j)), (b 1, .inl (1, 111, .inr (.inl r))), (b 12, .inl (1, 6, .inr (.inl (va_up u2 2 (lN (distQ r 2))))))]) hC 2 (xix_n 2 (Nat.le_of_ble_eq_true rfl) (Nat.le_of_ble_eq_true rfl)) (fun _ h => h.get 2 rfl) dX6_remembers_72 (fun _ h => h.set 2 _ rfl) 73 rfl ?_
  generalize hu3 : va_up u2 2 (lN (distQ r 2)) = u3
  refine r_iinc hC 3 1 0 [(1, .int 3), (0, .ref (b 0))] dX6_remembers_73 rfl (by decide) (Nat.le_of_ble_eq_true rfl) rfl 76 rfl ?_
  refine r_goto hC 47 dX6_remembers_76 (by decide) ?_
  refine r_iload_n hC 0 dX6_remembers_47 rfl 48 rfl ?_
  refine r_iconst hC 3 dX6_remembers_48 ic_3 49 rfl ?_
  refine r_icge hC 79 dX6_remembers_49 (by decide) 52 rfl (fun _ => ?_) (fun h => absurd h (by decide))
  refine r_aload_n hC 1 dX6_remembers_79 rfl 80 rfl ?_
  refine r_dup hC dX6_remembers_80 rfl 81 rfl ?_
  refine r_get (v := .int (i 11)) hC kX6 11 rfl q2764 (fun _ h => h.get 0 rfl) rfl dX6_remembers_81 84 rfl ?_
  refine r_eqi (y := 0) (hi) ?_
  refine r_iconst hC 1 dX6_remembers_84 ic_1 85 rfl ?_
  refine r_iadd hC 1 dX6_remembers_85  (by decide) 86 rfl ?_
  refine r_put (J := xSt F V0 [(b 0, .inr (5, mF b (va_up i 11 1) j)), (b 1, .inl (1, 111, .inr (.inl r))), (b 12, .inl (1, 6, .inr (.inl u3)))]) hC kX6 11 rfl q2764 rfl (fun _ h => h.get 0 rfl) (Nat.le_of_ble_eq_true rfl) rfl rfl dX6_remembers_86 (fun _ h => h.set 0 _ rfl) 89 rfl ?_
  subst hu3
  subst hu2
  subst hu1
  exact r_vret hC (Nat.le_of_ble_eq_true rfl) (Nat.le_of_ble_eq_true rfl) (fun V9 h => hQ _ _ ⟨[(b 0, .inr (5, mF b (va_up i 11 1) j)), (b 1, .inl (1, 111, .inr (.inl r))), (b 12, .inl (1, 6, .inr (.inl (va_up (va_up (va_up mm 0 (lN (distQ r 0))) 1 (lN (distQ r 1))) 2 (lN (distQ r 2))))))], ⟨rfl, by first | rfl | (simp only [bx_uu]; rfl)⟩, by rw [← hV0, ← hF]; exact h⟩) dX6_remembers_89
set_option maxHeartbeats 4000000 in
set_option maxRecDepth 100000 in
theorem metX6_remembers1 (l : Launch) (G : xG) (hG : xGood G) (b : Nat → Nat) (i : Nat → Int32) (j : Nat → Int64) (r mm : Nat → Int64) (hi : i 11 = 1) : xWm l G yX6_remembers (Cond.code yX6_remembers cX6_remembers 2 none) { frames := 3, locals := 73, cells := 0, slots := 0 } [.ref (b 0)] [(b 0, .inr (5, mF b i j)), (b 1, .inl (1, 111, .inr (.inl r))), (b 12, .inl (1, 6, .inr (.inl mm)))] (fun v w' => v = none ∧ w' = [(b 0, .inr (5, mF b (va_up i 11 2) j)), (b 1, .inl (1, 111, .inr (.inl r))), (b 12, .inl (1, 6, .inr (.inl (remQ mm r 1))))]) (fun _ _ => False) := by
  intro V hV
  refine xMet_of RX6 hG rfl (by decide) (Nat.le_of_ble_eq_true rfl) fun C hC hQ hX hl hg _ => ?_
  subst hl hg
  obtain ⟨V0, hV0⟩ : ∃ V0, V0 = V := ⟨_, rfl⟩
  obtain ⟨F, hF⟩ : ∃ F, F = xF [(b 0, .inr (5, mF b i j)), (b 1, .inl (1, 111, .inr (.inl r))), (b 12, .inl (1, 6, .inr (.inl mm)))] := ⟨_, rfl⟩
  refine rn.mono (J := xSt F V0 [(b 0, .inr (5, mF b i j)), (b 1, .inl (1, 111, .inr (.inl r))), (b 12, .inl (1, 6, .inr (.inl mm)))]) (fun V9 h => by rw [h, hV0, hF]; exact hV.st) ?_
  show rn C (xSt F V0 [(b 0, .inr (5, mF b i j)), (b 1, .inl (1, 111, .inr (.inl r))), (b 12, .inl (1, 6, .inr (.inl mm)))]) 0 0 0 [(0, .ref (b 0))] []
  refine r_aload_n hC 0 dX6_remembers_0 rfl 1 rfl ?_
  refine r_get (v := .int (i 11)) hC kX6 11 rfl q2764 (fun _ h => h.get 0 rfl) rfl dX6_remembers_1 4 rfl ?_
  refine r_eqi (y := 1) (hi) ?_
  refine r_iconst hC 2 dX6_remembers_4 ic_2 5 rfl ?_
  refine r_icne hC 45 dX6_remembers_5 (by decide) 8 rfl (fun _ => ?_) (fun h => absurd h (by decide))
  refine r_iconst hC 0 dX6_remembers_45 ic_0 46 rfl ?_
  refine r_istore_n hC 1 [(1, .int 0), (0, .ref (b 0))] dX6_remembers_46 rfl (Nat.le_of_ble_eq_true rfl) rfl 47 rfl ?_
  refine r_iload_n hC 0 dX6_remembers_47 rfl 48 rfl ?_
  refine r_iconst hC 3 dX6_remembers_48 ic_3 49 rfl ?_
  refine r_icge hC 79 dX6_remembers_49 (by decide) 52 rfl (fun h => absurd h (by decide)) (fun _ => ?_)
  refine r_aload_n hC 1 dX6_remembers_52 rfl 53 rfl ?_
  refine r_get (v := .ref (b 12)) hC kX6 12 rfl q2765 (fun _ h => h.get 0 rfl) rfl dX6_remembers_53 56 rfl ?_
  refine r_iconst hC 3 dX6_remembers_56 ic_3 57 rfl ?_
  refine r_aload_n hC 1 dX6_remembers_57 rfl 58 rfl ?_
  refine r_get (v := .int (i 11)) hC kX6 11 rfl q2764 (fun _ h => h.get 0 rfl) rfl dX6_remembers_58 61 rfl ?_
  refine r_eqi (y := 1) (hi) ?_
  refine r_imul hC 3 dX6_remembers_61  (by decide) 62 rfl ?_
  refine r_iload_n hC 0 dX6_remembers_62 rfl 63 rfl ?_
  refine r_iadd hC 3 dX6_remembers_63  (by decide) 64 rfl ?_
  refine r_aload_n hC 1 dX6_remembers_64 rfl 65 rfl ?_
  refine r_get (v := .ref (b 1)) hC kX6 1 rfl q2754 (fun _ h => h.get 0 rfl) rfl dX6_remembers_65 68 rfl ?_
  refine r_iload_n hC 0 dX6_remembers_68 rfl 69 rfl ?_
  refine r_invSr hC [.ref (b 1), .int 0] (.long (lN (distQ r 0))) mSX6_distanceOf q2743 (metX6_distanceOf _ _ hG (b 1) _ 0 (Nat.le_of_ble_eq_true rfl)) (fun _ h => h.in.sub [1] rfl rfl) ⟨rfl, rfl⟩ 0 0 rfl rfl (Nat.le_of_ble_eq_true rfl) (Nat.le_of_ble_eq_true rfl) rfl (Nat.le_of_ble_eq_true rfl) dX6_remembers_69 72 rfl ?_
  refine r_last (J := xSt F V0 [(b 0, .inr (5, mF b i j)), (b 1, .inl (1, 111, .inr (.inl r))), (b 12, .inl (1, 6, .inr (.inl (va_up mm 3 (lN (distQ r 0))))))]) hC 3 (xix_n 3 (Nat.le_of_ble_eq_true rfl) (Nat.le_of_ble_eq_true rfl)) (fun _ h => h.get 2 rfl) dX6_remembers_72 (fun _ h => h.set 2 _ rfl) 73 rfl ?_
  generalize hu1 : va_up mm 3 (lN (distQ r 0)) = u1
  refine r_iinc hC 1 1 0 [(1, .int 1), (0, .ref (b 0))] dX6_remembers_73 rfl (by decide) (Nat.le_of_ble_eq_true rfl) rfl 76 rfl ?_
  refine r_goto hC 47 dX6_remembers_76 (by decide) ?_
  refine r_iload_n hC 0 dX6_remembers_47 rfl 48 rfl ?_
  refine r_iconst hC 3 dX6_remembers_48 ic_3 49 rfl ?_
  refine r_icge hC 79 dX6_remembers_49 (by decide) 52 rfl (fun h => absurd h (by decide)) (fun _ => ?_)
  refine r_aload_n hC 1 dX6_remembers_52 rfl 53 rfl ?_
  refine r_get (v := .ref (b 12)) hC kX6 12 rfl q2765 (fun _ h => h.get 0 rfl) rfl dX6_remembers_53 56 rfl ?_
  refine r_iconst hC 3 dX6_remembers_56 ic_3 57 rfl ?_
  refine r_aload_n hC 1 dX6_remembers_57 rfl 58 rfl ?_
  refine r_get (v := .int (i 11)) hC kX6 11 rfl q2764 (fun _ h => h.get 0 rfl) rfl dX6_remembers_58 61 rfl ?_
  refine r_eqi (y := 1) (hi) ?_
  refine r_imul hC 3 dX6_remembers_61  (by decide) 62 rfl ?_
  refine r_iload_n hC 0 dX6_remembers_62 rfl 63 rfl ?_
  refine r_iadd hC 4 dX6_remembers_63  (by decide) 64 rfl ?_
  refine r_aload_n hC 1 dX6_remembers_64 rfl 65 rfl ?_
  refine r_get (v := .ref (b 1)) hC kX6 1 rfl q2754 (fun _ h => h.get 0 rfl) rfl dX6_remembers_65 68 rfl ?_
  refine r_iload_n hC 0 dX6_remembers_68 rfl 69 rfl ?_
  refine r_invSr hC [.ref (b 1), .int 1] (.long (lN (distQ r 1))) mSX6_distanceOf q2743 (metX6_distanceOf _ _ hG (b 1) _ 1 (Nat.le_of_ble_eq_true rfl)) (fun _ h => h.in.sub [1] rfl rfl) ⟨rfl, rfl⟩ 0 0 rfl rfl (Nat.le_of_ble_eq_true rfl) (Nat.le_of_ble_eq_true rfl) rfl (Nat.le_of_ble_eq_true rfl) dX6_remembers_69 72 rfl ?_
  refine r_last (J := xSt F V0 [(b 0, .inr (5, mF b i j)), (b 1, .inl (1, 111, .inr (.inl r))), (b 12, .inl (1, 6, .inr (.inl (va_up u1 4 (lN (distQ r 1))))))]) hC 4 (xix_n 4 (Nat.le_of_ble_eq_true rfl) (Nat.le_of_ble_eq_true rfl)) (fun _ h => h.get 2 rfl) dX6_remembers_72 (fun _ h => h.set 2 _ rfl) 73 rfl ?_
  generalize hu2 : va_up u1 4 (lN (distQ r 1)) = u2
  refine r_iinc hC 2 1 0 [(1, .int 2), (0, .ref (b 0))] dX6_remembers_73 rfl (by decide) (Nat.le_of_ble_eq_true rfl) rfl 76 rfl ?_
  refine r_goto hC 47 dX6_remembers_76 (by decide) ?_
  refine r_iload_n hC 0 dX6_remembers_47 rfl 48 rfl ?_
  refine r_iconst hC 3 dX6_remembers_48 ic_3 49 rfl ?_
  refine r_icge hC 79 dX6_remembers_49 (by decide) 52 rfl (fun h => absurd h (by decide)) (fun _ => ?_)
  refine r_aload_n hC 1 dX6_remembers_52 rfl 53 rfl ?_
  refine r_get (v := .ref (b 12)) hC kX6 12 rfl q2765 (fun _ h => h.get 0 rfl) rfl dX6_remembers_53 56 rfl ?_
  refine r_iconst hC 3 dX6_remembers_56 ic_3 57 rfl ?_
  refine r_aload_n hC 1 dX6_remembers_57 rfl 58 rfl ?_
  refine r_get (v := .int (i 11)) hC kX6 11 rfl q2764 (fun _ h => h.get 0 rfl) rfl dX6_remembers_58 61 rfl ?_
  refine r_eqi (y := 1) (hi) ?_
  refine r_imul hC 3 dX6_remembers_61  (by decide) 62 rfl ?_
  refine r_iload_n hC 0 dX6_remembers_62 rfl 63 rfl ?_
  refine r_iadd hC 5 dX6_remembers_63  (by decide) 64 rfl ?_
  refine r_aload_n hC 1 dX6_remembers_64 rfl 65 rfl ?_
  refine r_get (v := .ref (b 1)) hC kX6 1 rfl q2754 (fun _ h => h.get 0 rfl) rfl dX6_remembers_65 68 rfl ?_
  refine r_iload_n hC 0 dX6_remembers_68 rfl 69 rfl ?_
  refine r_invSr hC [.ref (b 1), .int 2] (.long (lN (distQ r 2))) mSX6_distanceOf q2743 (metX6_distanceOf _ _ hG (b 1) _ 2 (Nat.le_of_ble_eq_true rfl)) (fun _ h => h.in.sub [1] rfl rfl) ⟨rfl, rfl⟩ 0 0 rfl rfl (Nat.le_of_ble_eq_true rfl) (Nat.le_of_ble_eq_true rfl) rfl (Nat.le_of_ble_eq_true rfl) dX6_remembers_69 72 rfl ?_
  refine r_last (J := xSt F V0 [(b 0, .inr (5, mF b i j)), (b 1, .inl (1, 111, .inr (.inl r))), (b 12, .inl (1, 6, .inr (.inl (va_up u2 5 (lN (distQ r 2))))))]) hC 5 (xix_n 5 (Nat.le_of_ble_eq_true rfl) (Nat.le_of_ble_eq_true rfl)) (fun _ h => h.get 2 rfl) dX6_remembers_72 (fun _ h => h.set 2 _ rfl) 73 rfl ?_
  generalize hu3 : va_up u2 5 (lN (distQ r 2)) = u3
  refine r_iinc hC 3 1 0 [(1, .int 3), (0, .ref (b 0))] dX6_remembers_73 rfl (by decide) (Nat.le_of_ble_eq_true rfl) rfl 76 rfl ?_
  refine r_goto hC 47 dX6_remembers_76 (by decide) ?_
  refine r_iload_n hC 0 dX6_remembers_47 rfl 48 rfl ?_
  refine r_iconst hC 3 dX6_remembers_48 ic_3 49 rfl ?_
  refine r_icge hC 79 dX6_remembers_49 (by decide) 52 rfl (fun _ => ?_) (fun h => absurd h (by decide))
  refine r_aload_n hC 1 dX6_remembers_79 rfl 80 rfl ?_
  refine r_dup hC dX6_remembers_80 rfl 81 rfl ?_
  refine r_get (v := .int (i 11)) hC kX6 11 rfl q2764 (fun _ h => h.get 0 rfl) rfl dX6_remembers_81 84 rfl ?_
  refine r_eqi (y := 1) (hi) ?_
  refine r_iconst hC 1 dX6_remembers_84 ic_1 85 rfl ?_
  refine r_iadd hC 2 dX6_remembers_85  (by decide) 86 rfl ?_
  refine r_put (J := xSt F V0 [(b 0, .inr (5, mF b (va_up i 11 2) j)), (b 1, .inl (1, 111, .inr (.inl r))), (b 12, .inl (1, 6, .inr (.inl u3)))]) hC kX6 11 rfl q2764 rfl (fun _ h => h.get 0 rfl) (Nat.le_of_ble_eq_true rfl) rfl rfl dX6_remembers_86 (fun _ h => h.set 0 _ rfl) 89 rfl ?_
  subst hu3
  subst hu2
  subst hu1
  exact r_vret hC (Nat.le_of_ble_eq_true rfl) (Nat.le_of_ble_eq_true rfl) (fun V9 h => hQ _ _ ⟨[(b 0, .inr (5, mF b (va_up i 11 2) j)), (b 1, .inl (1, 111, .inr (.inl r))), (b 12, .inl (1, 6, .inr (.inl (va_up (va_up (va_up mm 3 (lN (distQ r 0))) 4 (lN (distQ r 1))) 5 (lN (distQ r 2))))))], ⟨rfl, by first | rfl | (simp only [bx_uu]; rfl)⟩, by rw [← hV0, ← hF]; exact h⟩) dX6_remembers_89
set_option maxHeartbeats 4000000 in
set_option maxRecDepth 100000 in
theorem metX6_remembers2 (l : Launch) (G : xG) (hG : xGood G) (b : Nat → Nat) (i : Nat → Int32) (j : Nat → Int64) (r mm : Nat → Int64) (hi : i 11 = 2) : xWm l G yX6_remembers (Cond.code yX6_remembers cX6_remembers 2 none) { frames := 3, locals := 73, cells := 0, slots := 0 } [.ref (b 0)] [(b 0, .inr (5, mF b i j)), (b 1, .inl (1, 111, .inr (.inl r))), (b 12, .inl (1, 6, .inr (.inl mm)))] (fun v w' => v = none ∧ w' = [(b 0, .inr (5, mF b (va_up i 11 2) j)), (b 1, .inl (1, 111, .inr (.inl r))), (b 12, .inl (1, 6, .inr (.inl (remQ mm r 2))))]) (fun _ _ => False) := by
  intro V hV
  refine xMet_of RX6 hG rfl (by decide) (Nat.le_of_ble_eq_true rfl) fun C hC hQ hX hl hg _ => ?_
  subst hl hg
  obtain ⟨V0, hV0⟩ : ∃ V0, V0 = V := ⟨_, rfl⟩
  obtain ⟨F, hF⟩ : ∃ F, F = xF [(b 0, .inr (5, mF b i j)), (b 1, .inl (1, 111, .inr (.inl r))), (b 12, .inl (1, 6, .inr (.inl mm)))] := ⟨_, rfl⟩
  refine rn.mono (J := xSt F V0 [(b 0, .inr (5, mF b i j)), (b 1, .inl (1, 111, .inr (.inl r))), (b 12, .inl (1, 6, .inr (.inl mm)))]) (fun V9 h => by rw [h, hV0, hF]; exact hV.st) ?_
  show rn C (xSt F V0 [(b 0, .inr (5, mF b i j)), (b 1, .inl (1, 111, .inr (.inl r))), (b 12, .inl (1, 6, .inr (.inl mm)))]) 0 0 0 [(0, .ref (b 0))] []
  refine r_aload_n hC 0 dX6_remembers_0 rfl 1 rfl ?_
  refine r_get (v := .int (i 11)) hC kX6 11 rfl q2764 (fun _ h => h.get 0 rfl) rfl dX6_remembers_1 4 rfl ?_
  refine r_eqi (y := 2) (hi) ?_
  refine r_iconst hC 2 dX6_remembers_4 ic_2 5 rfl ?_
  refine r_icne hC 45 dX6_remembers_5 (by decide) 8 rfl (fun h => absurd h (by decide)) (fun _ => ?_)
  refine r_iconst hC 0 dX6_remembers_8 ic_0 9 rfl ?_
  refine r_istore_n hC 1 [(1, .int 0), (0, .ref (b 0))] dX6_remembers_9 rfl (Nat.le_of_ble_eq_true rfl) rfl 10 rfl ?_
  refine r_iload_n hC 0 dX6_remembers_10 rfl 11 rfl ?_
  refine r_iconst hC 3 dX6_remembers_11 ic_3 12 rfl ?_
  refine r_icge hC 35 dX6_remembers_12 (by decide) 15 rfl (fun h => absurd h (by decide)) (fun _ => ?_)
  refine r_aload_n hC 1 dX6_remembers_15 rfl 16 rfl ?_
  refine r_get (v := .ref (b 12)) hC kX6 12 rfl q2765 (fun _ h => h.get 0 rfl) rfl dX6_remembers_16 19 rfl ?_
  refine r_iload_n hC 0 dX6_remembers_19 rfl 20 rfl ?_
  refine r_aload_n hC 1 dX6_remembers_20 rfl 21 rfl ?_
  refine r_get (v := .ref (b 12)) hC kX6 12 rfl q2765 (fun _ h => h.get 0 rfl) rfl dX6_remembers_21 24 rfl ?_
  refine r_iconst hC 3 dX6_remembers_24 ic_3 25 rfl ?_
  refine r_iload_n hC 0 dX6_remembers_25 rfl 26 rfl ?_
  refine r_iadd hC 3 dX6_remembers_26  (by decide) 27 rfl ?_
  refine r_lald hC 3 (xix_n 3 (Nat.le_of_ble_eq_true rfl) (Nat.le_of_ble_eq_true rfl)) (fun _ h => h.get 2 rfl) (mm 3) (rfl) dX6_remembers_27 28 rfl ?_
  refine r_last (J := xSt F V0 [(b 0, .inr (5, mF b i j)), (b 1, .inl (1, 111, .inr (.inl r))), (b 12, .inl (1, 6, .inr (.inl (va_up mm 0 (mm 3)))))]) hC 0 (xix_n 0 (Nat.le_of_ble_eq_true rfl) (Nat.le_of_ble_eq_true rfl)) (fun _ h => h.get 2 rfl) dX6_remembers_28 (fun _ h => h.set 2 _ rfl) 29 rfl ?_
  generalize hu1 : va_up mm 0 (mm 3) = u1
  refine r_iinc hC 1 1 0 [(1, .int 1), (0, .ref (b 0))] dX6_remembers_29 rfl (by decide) (Nat.le_of_ble_eq_true rfl) rfl 32 rfl ?_
  refine r_goto hC 10 dX6_remembers_32 (by decide) ?_
  refine r_iload_n hC 0 dX6_remembers_10 rfl 11 rfl ?_
  refine r_iconst hC 3 dX6_remembers_11 ic_3 12 rfl ?_
  refine r_icge hC 35 dX6_remembers_12 (by decide) 15 rfl (fun h => absurd h (by decide)) (fun _ => ?_)
  refine r_aload_n hC 1 dX6_remembers_15 rfl 16 rfl ?_
  refine r_get (v := .ref (b 12)) hC kX6 12 rfl q2765 (fun _ h => h.get 0 rfl) rfl dX6_remembers_16 19 rfl ?_
  refine r_iload_n hC 0 dX6_remembers_19 rfl 20 rfl ?_
  refine r_aload_n hC 1 dX6_remembers_20 rfl 21 rfl ?_
  refine r_get (v := .ref (b 12)) hC kX6 12 rfl q2765 (fun _ h => h.get 0 rfl) rfl dX6_remembers_21 24 rfl ?_
  refine r_iconst hC 3 dX6_remembers_24 ic_3 25 rfl ?_
  refine r_iload_n hC 0 dX6_remembers_25 rfl 26 rfl ?_
  refine r_iadd hC 4 dX6_remembers_26  (by decide) 27 rfl ?_
  refine r_lald hC 4 (xix_n 4 (Nat.le_of_ble_eq_true rfl) (Nat.le_of_ble_eq_true rfl)) (fun _ h => h.get 2 rfl) (mm 4) (by rw [← hu1]; rfl) dX6_remembers_27 28 rfl ?_
  refine r_last (J := xSt F V0 [(b 0, .inr (5, mF b i j)), (b 1, .inl (1, 111, .inr (.inl r))), (b 12, .inl (1, 6, .inr (.inl (va_up u1 1 (mm 4)))))]) hC 1 (xix_n 1 (Nat.le_of_ble_eq_true rfl) (Nat.le_of_ble_eq_true rfl)) (fun _ h => h.get 2 rfl) dX6_remembers_28 (fun _ h => h.set 2 _ rfl) 29 rfl ?_
  generalize hu2 : va_up u1 1 (mm 4) = u2
  refine r_iinc hC 2 1 0 [(1, .int 2), (0, .ref (b 0))] dX6_remembers_29 rfl (by decide) (Nat.le_of_ble_eq_true rfl) rfl 32 rfl ?_
  refine r_goto hC 10 dX6_remembers_32 (by decide) ?_
  refine r_iload_n hC 0 dX6_remembers_10 rfl 11 rfl ?_
  refine r_iconst hC 3 dX6_remembers_11 ic_3 12 rfl ?_
  refine r_icge hC 35 dX6_remembers_12 (by decide) 15 rfl (fun h => absurd h (by decide)) (fun _ => ?_)
  refine r_aload_n hC 1 dX6_remembers_15 rfl 16 rfl ?_
  refine r_get (v := .ref (b 12)) hC kX6 12 rfl q2765 (fun _ h => h.get 0 rfl) rfl dX6_remembers_16 19 rfl ?_
  refine r_iload_n hC 0 dX6_remembers_19 rfl 20 rfl ?_
  refine r_aload_n hC 1 dX6_remembers_20 rfl 21 rfl ?_
  refine r_get (v := .ref (b 12)) hC kX6 12 rfl q2765 (fun _ h => h.get 0 rfl) rfl dX6_remembers_21 24 rfl ?_
  refine r_iconst hC 3 dX6_remembers_24 ic_3 25 rfl ?_
  refine r_iload_n hC 0 dX6_remembers_25 rfl 26 rfl ?_
  refine r_iadd hC 5 dX6_remembers_26  (by decide) 27 rfl ?_
  refine r_lald hC 5 (xix_n 5 (Nat.le_of_ble_eq_true rfl) (Nat.le_of_ble_eq_true rfl)) (fun _ h => h.get 2 rfl) (mm 5) (by rw [← hu2, ← hu1]; rfl) dX6_remembers_27 28 rfl ?_
  refine r_last (J := xSt F V0 [(b 0, .inr (5, mF b i j)), (b 1, .inl (1, 111, .inr (.inl r))), (b 12, .inl (1, 6, .inr (.inl (va_up u2 2 (mm 5)))))]) hC 2 (xix_n 2 (Nat.le_of_ble_eq_true rfl) (Nat.le_of_ble_eq_true rfl)) (fun _ h => h.get 2 rfl) dX6_remembers_28 (fun _ h => h.set 2 _ rfl) 29 rfl ?_
  generalize hu3 : va_up u2 2 (mm 5) = u3
  refine r_iinc hC 3 1 0 [(1, .int 3), (0, .ref (b 0))] dX6_remembers_29 rfl (by decide) (Nat.le_of_ble_eq_true rfl) rfl 32 rfl ?_
  refine r_goto hC 10 dX6_remembers_32 (by decide) ?_
  refine r_iload_n hC 0 dX6_remembers_10 rfl 11 rfl ?_
  refine r_iconst hC 3 dX6_remembers_11 ic_3 12 rfl ?_
  refine r_icge hC 35 dX6_remembers_12 (by decide) 15 rfl (fun _ => ?_) (fun h => absurd h (by decide))
  refine r_aload_n hC 1 dX6_remembers_35 rfl 36 rfl ?_
  refine r_dup hC dX6_remembers_36 rfl 37 rfl ?_
  refine r_get (v := .int (i 11)) hC kX6 11 rfl q2764 (fun _ h => h.get 0 rfl) rfl dX6_remembers_37 40 rfl ?_
  refine r_eqi (y := 2) (hi) ?_
  refine r_iconst hC 1 dX6_remembers_40 ic_1 41 rfl ?_
  refine r_isub hC 1 dX6_remembers_41  (by decide) 42 rfl ?_
  refine r_put (J := xSt F V0 [(b 0, .inr (5, mF b (va_up i 11 1) j)), (b 1, .inl (1, 111, .inr (.inl r))), (b 12, .inl (1, 6, .inr (.inl u3)))]) hC kX6 11 rfl q2764 rfl (fun _ h => h.get 0 rfl) (Nat.le_of_ble_eq_true rfl) rfl rfl dX6_remembers_42 (fun _ h => h.set 0 _ rfl) 45 rfl ?_
  refine r_iconst hC 0 dX6_remembers_45 ic_0 46 rfl ?_
  refine r_istore_n hC 1 [(1, .int 0), (0, .ref (b 0))] dX6_remembers_46 rfl (Nat.le_of_ble_eq_true rfl) rfl 47 rfl ?_
  refine r_iload_n hC 0 dX6_remembers_47 rfl 48 rfl ?_
  refine r_iconst hC 3 dX6_remembers_48 ic_3 49 rfl ?_
  refine r_icge hC 79 dX6_remembers_49 (by decide) 52 rfl (fun h => absurd h (by decide)) (fun _ => ?_)
  refine r_aload_n hC 1 dX6_remembers_52 rfl 53 rfl ?_
  refine r_get (v := .ref (b 12)) hC kX6 12 rfl q2765 (fun _ h => h.get 0 rfl) rfl dX6_remembers_53 56 rfl ?_
  refine r_iconst hC 3 dX6_remembers_56 ic_3 57 rfl ?_
  refine r_aload_n hC 1 dX6_remembers_57 rfl 58 rfl ?_
  refine r_get (v := .int 1) hC kX6 11 rfl q2764 (fun _ h => h.get 0 rfl) rfl dX6_remembers_58 61 rfl ?_
  refine r_imul hC 3 dX6_remembers_61  (by decide) 62 rfl ?_
  refine r_iload_n hC 0 dX6_remembers_62 rfl 63 rfl ?_
  refine r_iadd hC 3 dX6_remembers_63  (by decide) 64 rfl ?_
  refine r_aload_n hC 1 dX6_remembers_64 rfl 65 rfl ?_
  refine r_get (v := .ref (b 1)) hC kX6 1 rfl q2754 (fun _ h => h.get 0 rfl) rfl dX6_remembers_65 68 rfl ?_
  refine r_iload_n hC 0 dX6_remembers_68 rfl 69 rfl ?_
  refine r_invSr hC [.ref (b 1), .int 0] (.long (lN (distQ r 0))) mSX6_distanceOf q2743 (metX6_distanceOf _ _ hG (b 1) _ 0 (Nat.le_of_ble_eq_true rfl)) (fun _ h => h.in.sub [1] rfl rfl) ⟨rfl, rfl⟩ 0 0 rfl rfl (Nat.le_of_ble_eq_true rfl) (Nat.le_of_ble_eq_true rfl) rfl (Nat.le_of_ble_eq_true rfl) dX6_remembers_69 72 rfl ?_
  refine r_last (J := xSt F V0 [(b 0, .inr (5, mF b (va_up i 11 1) j)), (b 1, .inl (1, 111, .inr (.inl r))), (b 12, .inl (1, 6, .inr (.inl (va_up u3 3 (lN (distQ r 0))))))]) hC 3 (xix_n 3 (Nat.le_of_ble_eq_true rfl) (Nat.le_of_ble_eq_true rfl)) (fun _ h => h.get 2 rfl) dX6_remembers_72 (fun _ h => h.set 2 _ rfl) 73 rfl ?_
  generalize hu4 : va_up u3 3 (lN (distQ r 0)) = u4
  refine r_iinc hC 1 1 0 [(1, .int 1), (0, .ref (b 0))] dX6_remembers_73 rfl (by decide) (Nat.le_of_ble_eq_true rfl) rfl 76 rfl ?_
  refine r_goto hC 47 dX6_remembers_76 (by decide) ?_
  refine r_iload_n hC 0 dX6_remembers_47 rfl 48 rfl ?_
  refine r_iconst hC 3 dX6_remembers_48 ic_3 49 rfl ?_
  refine r_icge hC 79 dX6_remembers_49 (by decide) 52 rfl (fun h => absurd h (by decide)) (fun _ => ?_)
  refine r_aload_n hC 1 dX6_remembers_52 rfl 53 rfl ?_
  refine r_get (v := .ref (b 12)) hC kX6 12 rfl q2765 (fun _ h => h.get 0 rfl) rfl dX6_remembers_53 56 rfl ?_
  refine r_iconst hC 3 dX6_remembers_56 ic_3 57 rfl ?_
  refine r_aload_n hC 1 dX6_remembers_57 rfl 58 rfl ?_
  refine r_get (v := .int 1) hC kX6 11 rfl q2764 (fun _ h => h.get 0 rfl) rfl dX6_remembers_58 61 rfl ?_
  refine r_imul hC 3 dX6_remembers_61  (by decide) 62 rfl ?_
  refine r_iload_n hC 0 dX6_remembers_62 rfl 63 rfl ?_
  refine r_iadd hC 4 dX6_remembers_63  (by decide) 64 rfl ?_
  refine r_aload_n hC 1 dX6_remembers_64 rfl 65 rfl ?_
  refine r_get (v := .ref (b 1)) hC kX6 1 rfl q2754 (fun _ h => h.get 0 rfl) rfl dX6_remembers_65 68 rfl ?_
  refine r_iload_n hC 0 dX6_remembers_68 rfl 69 rfl ?_
  refine r_invSr hC [.ref (b 1), .int 1] (.long (lN (distQ r 1))) mSX6_distanceOf q2743 (metX6_distanceOf _ _ hG (b 1) _ 1 (Nat.le_of_ble_eq_true rfl)) (fun _ h => h.in.sub [1] rfl rfl) ⟨rfl, rfl⟩ 0 0 rfl rfl (Nat.le_of_ble_eq_true rfl) (Nat.le_of_ble_eq_true rfl) rfl (Nat.le_of_ble_eq_true rfl) dX6_remembers_69 72 rfl ?_
  refine r_last (J := xSt F V0 [(b 0, .inr (5, mF b (va_up i 11 1) j)), (b 1, .inl (1, 111, .inr (.inl r))), (b 12, .inl (1, 6, .inr (.inl (va_up u4 4 (lN (distQ r 1))))))]) hC 4 (xix_n 4 (Nat.le_of_ble_eq_true rfl) (Nat.le_of_ble_eq_true rfl)) (fun _ h => h.get 2 rfl) dX6_remembers_72 (fun _ h => h.set 2 _ rfl) 73 rfl ?_
  generalize hu5 : va_up u4 4 (lN (distQ r 1)) = u5
  refine r_iinc hC 2 1 0 [(1, .int 2), (0, .ref (b 0))] dX6_remembers_73 rfl (by decide) (Nat.le_of_ble_eq_true rfl) rfl 76 rfl ?_
  refine r_goto hC 47 dX6_remembers_76 (by decide) ?_
  refine r_iload_n hC 0 dX6_remembers_47 rfl 48 rfl ?_
  refine r_iconst hC 3 dX6_remembers_48 ic_3 49 rfl ?_
  refine r_icge hC 79 dX6_remembers_49 (by decide) 52 rfl (fun h => absurd h (by decide)) (fun _ => ?_)
  refine r_aload_n hC 1 dX6_remembers_52 rfl 53 rfl ?_
  refine r_get (v := .ref (b 12)) hC kX6 12 rfl q2765 (fun _ h => h.get 0 rfl) rfl dX6_remembers_53 56 rfl ?_
  refine r_iconst hC 3 dX6_remembers_56 ic_3 57 rfl ?_
  refine r_aload_n hC 1 dX6_remembers_57 rfl 58 rfl ?_
  refine r_get (v := .int 1) hC kX6 11 rfl q2764 (fun _ h => h.get 0 rfl) rfl dX6_remembers_58 61 rfl ?_
  refine r_imul hC 3 dX6_remembers_61  (by decide) 62 rfl ?_
  refine r_iload_n hC 0 dX6_remembers_62 rfl 63 rfl ?_
  refine r_iadd hC 5 dX6_remembers_63  (by decide) 64 rfl ?_
  refine r_aload_n hC 1 dX6_remembers_64 rfl 65 rfl ?_
  refine r_get (v := .ref (b 1)) hC kX6 1 rfl q2754 (fun _ h => h.get 0 rfl) rfl dX6_remembers_65 68 rfl ?_
  refine r_iload_n hC 0 dX6_remembers_68 rfl 69 rfl ?_
  refine r_invSr hC [.ref (b 1), .int 2] (.long (lN (distQ r 2))) mSX6_distanceOf q2743 (metX6_distanceOf _ _ hG (b 1) _ 2 (Nat.le_of_ble_eq_true rfl)) (fun _ h => h.in.sub [1] rfl rfl) ⟨rfl, rfl⟩ 0 0 rfl rfl (Nat.le_of_ble_eq_true rfl) (Nat.le_of_ble_eq_true rfl) rfl (Nat.le_of_ble_eq_true rfl) dX6_remembers_69 72 rfl ?_
  refine r_last (J := xSt F V0 [(b 0, .inr (5, mF b (va_up i 11 1) j)), (b 1, .inl (1, 111, .inr (.inl r))), (b 12, .inl (1, 6, .inr (.inl (va_up u5 5 (lN (distQ r 2))))))]) hC 5 (xix_n 5 (Nat.le_of_ble_eq_true rfl) (Nat.le_of_ble_eq_true rfl)) (fun _ h => h.get 2 rfl) dX6_remembers_72 (fun _ h => h.set 2 _ rfl) 73 rfl ?_
  generalize hu6 : va_up u5 5 (lN (distQ r 2)) = u6
  refine r_iinc hC 3 1 0 [(1, .int 3), (0, .ref (b 0))] dX6_remembers_73 rfl (by decide) (Nat.le_of_ble_eq_true rfl) rfl 76 rfl ?_
  refine r_goto hC 47 dX6_remembers_76 (by decide) ?_
  refine r_iload_n hC 0 dX6_remembers_47 rfl 48 rfl ?_
  refine r_iconst hC 3 dX6_remembers_48 ic_3 49 rfl ?_
  refine r_icge hC 79 dX6_remembers_49 (by decide) 52 rfl (fun _ => ?_) (fun h => absurd h (by decide))
  refine r_aload_n hC 1 dX6_remembers_79 rfl 80 rfl ?_
  refine r_dup hC dX6_remembers_80 rfl 81 rfl ?_
  refine r_get (v := .int 1) hC kX6 11 rfl q2764 (fun _ h => h.get 0 rfl) rfl dX6_remembers_81 84 rfl ?_
  refine r_iconst hC 1 dX6_remembers_84 ic_1 85 rfl ?_
  refine r_iadd hC 2 dX6_remembers_85  (by decide) 86 rfl ?_
  refine r_put (J := xSt F V0 [(b 0, .inr (5, mF b (va_up (va_up i 11 1) 11 2) j)), (b 1, .inl (1, 111, .inr (.inl r))), (b 12, .inl (1, 6, .inr (.inl u6)))]) hC kX6 11 rfl q2764 rfl (fun _ h => h.get 0 rfl) (Nat.le_of_ble_eq_true rfl) rfl rfl dX6_remembers_86 (fun _ h => h.set 0 _ rfl) 89 rfl ?_
  subst hu6
  subst hu5
  subst hu4
  subst hu3
  subst hu2
  subst hu1
  exact r_vret hC (Nat.le_of_ble_eq_true rfl) (Nat.le_of_ble_eq_true rfl) (fun V9 h => hQ _ _ ⟨[(b 0, .inr (5, mF b (va_up (va_up i 11 1) 11 2) j)), (b 1, .inl (1, 111, .inr (.inl r))), (b 12, .inl (1, 6, .inr (.inl (va_up (va_up (va_up (va_up (va_up (va_up mm 0 (mm 3)) 1 (mm 4)) 2 (mm 5)) 3 (lN (distQ r 0))) 4 (lN (distQ r 1))) 5 (lN (distQ r 2))))))], ⟨rfl, by first | rfl | (simp only [bx_uu]; rfl)⟩, by rw [← hV0, ← hF]; exact h⟩) dX6_remembers_89
set_option maxHeartbeats 4000000 in
set_option maxRecDepth 100000 in
def remN (m : Nat) : Nat := if m = 0 then 1 else 2
theorem metX6_remembers (l : Launch) (G : xG) (hG : xGood G) (b : Nat → Nat) (i : Nat → Int32) (j : Nat → Int64) (r mm : Nat → Int64) (m : Nat) (hm2 : m ≤ 2) (hi : i 11 = nI m) : xWm l G yX6_remembers (Cond.code yX6_remembers cX6_remembers 2 none) { frames := 3, locals := 73, cells := 0, slots := 0 } [.ref (b 0)] [(b 0, .inr (5, mF b i j)), (b 1, .inl (1, 111, .inr (.inl r))), (b 12, .inl (1, 6, .inr (.inl mm)))] (fun v w' => v = none ∧ w' = [(b 0, .inr (5, mF b (va_up i 11 (nI (remN m))) j)), (b 1, .inl (1, 111, .inr (.inl r))), (b 12, .inl (1, 6, .inr (.inl (remQ mm r m))))]) (fun _ _ => False) := by
  rcases (show m = 0 ∨ m = 1 ∨ m = 2 by omega) with rfl | rfl | rfl
  · exact metX6_remembers0 l G hG b i j r mm hi
  · exact metX6_remembers1 l G hG b i j r mm hi
  · exact metX6_remembers2 l G hG b i j r mm hi
def keepA (r : Nat → Int64) (q : Nat) (ck p d : Int64) : Nat → Int64 := va_up (va_up (va_up (va_up r (21 + 3 * q) ck) (21 + 3 * q + 1) p) (21 + 3 * q + 2) d) 5 (lN (q + 1))
def downA (r : Nat → Int64) : Nat → Int64 := va_cpy r r 24 21 87
def keepQ (r : Nat → Int64) (q : Nat) (ck p d : Int64) : Nat → Int64 := if q < 30 then keepA r q ck p d else keepA (va_up (downA r) 5 29) 29 ck p d
set_option maxHeartbeats 4000000 in
set_option maxRecDepth 100000 in
theorem lpX6_keep {C : xC} {F : Nat → Prop} {V0 : xV} {k n : Nat} {rm : Room} (hC : xCtx C RX6 cX6_keepsApproach 7 none rm) (b : Nat → Nat) (i : Nat → Int32) (j : Nat → Int64) (r : Nat → Int64) (q : Nat) (ck d : Int64) (p : Nat) (kx : rn C (xSt F V0 [(b 0, .inr (5, mF b i j)), (b 1, .inl (1, 111, .inr (.inl (va_cpy r r 24 21 87))))]) k n 46 [(0, .ref (b 0)), (1, .long ck), (3, .int (nI p)), (4, .long d)] []) : ∀ m c : Nat, c + m = 87 → rn C (xSt F V0 [(b 0, .inr (5, mF b i j)), (b 1, .inl (1, 111, .inr (.inl (va_cpy r r 24 21 c))))]) k n 17 [(6, .int (nI (24 + c))), (0, .ref (b 0)), (1, .long ck), (3, .int (nI p)), (4, .long d)] [] := by
  intro m
  induction m with
  | zero =>
    intro c hc
    have hc : c = 87 := by omega
    subst hc
    refine r_iload hC 0 dX6_keepsApproach_17 rfl 19 rfl ?_
    refine r_bipush hC 111 dX6_keepsApproach_19 bp_111 21 rfl ?_
    refine r_icge hC 46 dX6_keepsApproach_21 (by decide) 24 rfl (fun _ => ?_) (fun h => absurd (Int32.le_refl _) h)
    refine rn.sub (lv' := [(0, .ref (b 0)), (1, .long ck), (3, .int (nI p)), (4, .long d)]) [1, 2, 3, 4] rfl ?_
    exact kx
  | succ m ih =>
    intro c hc
    refine r_iload hC 0 dX6_keepsApproach_17 rfl 19 rfl ?_
    refine r_bipush hC 111 dX6_keepsApproach_19 bp_111 21 rfl ?_
    refine r_icge hC 46 dX6_keepsApproach_21 (by decide) 24 rfl (fun h => absurd h (nI_ge (a := 24 + c) (b := 111) (by omega) (by decide))) (fun _ => ?_)
    refine r_aload_n hC 1 dX6_keepsApproach_24 rfl 25 rfl ?_
    refine r_get (v := .ref (b 1)) hC kX6 1 rfl q2754 (fun _ h => h.get 0 rfl) rfl dX6_keepsApproach_25 28 rfl ?_
    refine r_iload hC 0 dX6_keepsApproach_28 rfl 30 rfl ?_
    refine r_iconst hC 3 dX6_keepsApproach_30 ic_3 31 rfl ?_
    refine r_isub hC (nI (21 + c)) dX6_keepsApproach_31  (by rw [show (3 : Int32) = nI 3 from rfl, pk_sub (by omega)]; congr 1; omega) 32 rfl ?_
    refine r_aload_n hC 1 dX6_keepsApproach_32 rfl 33 rfl ?_
    refine r_get (v := .ref (b 1)) hC kX6 1 rfl q2754 (fun _ h => h.get 0 rfl) rfl dX6_keepsApproach_33 36 rfl ?_
    refine r_iload hC 0 dX6_keepsApproach_36 rfl 38 rfl ?_
    refine r_lald hC (24 + c) (xix_n (24 + c) (by omega) (Nat.le_of_ble_eq_true rfl)) (fun _ h => h.get 1 rfl) ((va_cpy r r 24 21 c) (24 + c)) (rfl) dX6_keepsApproach_38 39 rfl ?_
    refine r_last (J := xSt F V0 [(b 0, .inr (5, mF b i j)), (b 1, .inl (1, 111, .inr (.inl (va_up (va_cpy r r 24 21 c) (21 + c) ((va_cpy r r 24 21 c) (24 + c))))))]) hC (21 + c) (xix_n (21 + c) (by omega) (Nat.le_of_ble_eq_true rfl)) (fun _ h => h.get 1 rfl) dX6_keepsApproach_39 (fun _ h => h.set 1 _ rfl) 40 rfl ?_
    refine r_iinc hC (nI (24 + c + 1)) 6 0 [(6, .int (nI (24 + c + 1))), (0, .ref (b 0)), (1, .long ck), (3, .int (nI p)), (4, .long d)] dX6_keepsApproach_40 rfl (nI_add (24 + c) 1) (Nat.le_of_ble_eq_true rfl) rfl 43 rfl ?_
    refine r_goto hC 17 dX6_keepsApproach_43 (by decide) ?_
    rw [show va_up (va_cpy r r 24 21 c) (21 + c) ((va_cpy r r 24 21 c) (24 + c)) = va_cpy r r 24 21 (c + 1) from cpy_step (by omega) (cpy_out (by omega))]
    refine rn.sub (lv' := [(6, .int (nI (24 + c + 1))), (0, .ref (b 0)), (1, .long ck), (3, .int (nI p)), (4, .long d)]) [0, 1, 2, 3, 4] rfl ?_
    exact ih (c + 1) (by omega)
set_option maxHeartbeats 4000000 in
set_option maxRecDepth 100000 in
theorem metX6_keepsApproachL (l : Launch) (G : xG) (hG : xGood G) (b : Nat → Nat) (i : Nat → Int32) (j : Nat → Int64) (r : Nat → Int64) (q : Nat) (ck d : Int64) (p : Nat) (hq : q < 30) (h5 : r 5 = lN q) : xWm l G yX6_keepsApproach (Cond.code yX6_keepsApproach cX6_keepsApproach 7 none) { frames := 0, locals := 0, cells := 0, slots := 0 } [.ref (b 0), .long ck, .int (nI p), .long d] [(b 0, .inr (5, mF b i j)), (b 1, .inl (1, 111, .inr (.inl r)))] (fun v w' => v = none ∧ w' = [(b 0, .inr (5, mF b i j)), (b 1, .inl (1, 111, .inr (.inl (keepA r q ck (nI p).toInt64 d))))]) (fun _ _ => False) := by
  intro V hV
  refine xMet_of RX6 hG rfl (by decide) (Nat.le_of_ble_eq_true rfl) fun C hC hQ hX hl hg _ => ?_
  subst hl hg
  obtain ⟨V0, hV0⟩ : ∃ V0, V0 = V := ⟨_, rfl⟩
  obtain ⟨F, hF⟩ : ∃ F, F = xF [(b 0, .inr (5, mF b i j)), (b 1, .inl (1, 111, .inr (.inl r)))] := ⟨_, rfl⟩
  refine rn.mono (J := xSt F V0 [(b 0, .inr (5, mF b i j)), (b 1, .inl (1, 111, .inr (.inl r)))]) (fun V9 h => by rw [h, hV0, hF]; exact hV.st) ?_
  show rn C (xSt F V0 [(b 0, .inr (5, mF b i j)), (b 1, .inl (1, 111, .inr (.inl r)))]) 0 0 0 [(0, .ref (b 0)), (1, .long ck), (3, .int (nI p)), (4, .long d)] []
  refine r_aload_n hC 0 dX6_keepsApproach_0 rfl 1 rfl ?_
  refine r_get (v := .ref (b 1)) hC kX6 1 rfl q2754 (fun _ h => h.get 0 rfl) rfl dX6_keepsApproach_1 4 rfl ?_
  refine r_iconst hC 5 dX6_keepsApproach_4 ic_5 5 rfl ?_
  refine r_lald hC 5 (xix_n 5 (Nat.le_of_ble_eq_true rfl) (Nat.le_of_ble_eq_true rfl)) (fun _ h => h.get 1 rfl) (r 5) (rfl) dX6_keepsApproach_5 6 rfl ?_
  refine r_eql (y := lN q) (h5) ?_
  refine r_ldc2 hC q3109 dX6_keepsApproach_6 9 rfl ?_
  refine r_lcne hC 56 dX6_keepsApproach_9 dX6_keepsApproach_10 (by decide) 13 rfl (fun _ => ?_) (fun h => absurd h (fun e => by have := (lN_eq (by omega) (by decide)).mp (show lN q = lN 30 from e); omega))
  refine r_bipush hC 21 dX6_keepsApproach_56 bp_21 58 rfl ?_
  refine r_iconst hC 3 dX6_keepsApproach_58 ic_3 59 rfl ?_
  refine r_aload_n hC 0 dX6_keepsApproach_59 rfl 60 rfl ?_
  refine r_get (v := .ref (b 1)) hC kX6 1 rfl q2754 (fun _ h => h.get 0 rfl) rfl dX6_keepsApproach_60 63 rfl ?_
  refine r_iconst hC 5 dX6_keepsApproach_63 ic_5 64 rfl ?_
  refine r_lald hC 5 (xix_n 5 (Nat.le_of_ble_eq_true rfl) (Nat.le_of_ble_eq_true rfl)) (fun _ h => h.get 1 rfl) (r 5) (rfl) dX6_keepsApproach_64 65 rfl ?_
  refine r_eql (y := lN q) (h5) ?_
  refine r_l2i hC (nI q) dX6_keepsApproach_65 (lN_i q) 66 rfl ?_
  refine r_imul hC (nI (3 * q)) dX6_keepsApproach_66  (pk_mul 3 q) 67 rfl ?_
  refine r_iadd hC (nI (21 + 3 * q)) dX6_keepsApproach_67  (nI_add 21 (3 * q)) 68 rfl ?_
  refine r_istore hC 6 [(6, .int (nI (21 + 3 * q))), (0, .ref (b 0)), (1, .long ck), (3, .int (nI p)), (4, .long d)] dX6_keepsApproach_68 (Nat.le_of_ble_eq_true rfl) rfl 70 rfl ?_
  refine r_aload_n hC 1 dX6_keepsApproach_70 rfl 71 rfl ?_
  refine r_get (v := .ref (b 1)) hC kX6 1 rfl q2754 (fun _ h => h.get 0 rfl) rfl dX6_keepsApproach_71 74 rfl ?_
  refine r_iload hC 0 dX6_keepsApproach_74 rfl 76 rfl ?_
  refine r_lload_n hC 2 dX6_keepsApproach_76 rfl 77 rfl ?_
  refine r_last (J := xSt F V0 [(b 0, .inr (5, mF b i j)), (b 1, .inl (1, 111, .inr (.inl (va_up r (21 + 3 * q) ck))))]) hC (21 + 3 * q) (xix_n (21 + 3 * q) (by omega) (Nat.le_of_ble_eq_true rfl)) (fun _ h => h.get 1 rfl) dX6_keepsApproach_77 (fun _ h => h.set 1 _ rfl) 78 rfl ?_
  generalize hu1 : va_up r (21 + 3 * q) ck = u1
  refine r_aload_n hC 1 dX6_keepsApproach_78 rfl 79 rfl ?_
  refine r_get (v := .ref (b 1)) hC kX6 1 rfl q2754 (fun _ h => h.get 0 rfl) rfl dX6_keepsApproach_79 82 rfl ?_
  refine r_iload hC 0 dX6_keepsApproach_82 rfl 84 rfl ?_
  refine r_iconst hC 1 dX6_keepsApproach_84 ic_1 85 rfl ?_
  refine r_iadd hC (nI (21 + 3 * q + 1)) dX6_keepsApproach_85  (nI_add (21 + 3 * q) 1) 86 rfl ?_
  refine r_iload_n hC 3 dX6_keepsApproach_86 rfl 87 rfl ?_
  refine r_i2l hC ((nI p).toInt64) dX6_keepsApproach_87 (rfl) 88 rfl ?_
  refine r_last (J := xSt F V0 [(b 0, .inr (5, mF b i j)), (b 1, .inl (1, 111, .inr (.inl (va_up u1 (21 + 3 * q + 1) ((nI p).toInt64)))))]) hC (21 + 3 * q + 1) (xix_n (21 + 3 * q + 1) (by omega) (Nat.le_of_ble_eq_true rfl)) (fun _ h => h.get 1 rfl) dX6_keepsApproach_88 (fun _ h => h.set 1 _ rfl) 89 rfl ?_
  generalize hu2 : va_up u1 (21 + 3 * q + 1) ((nI p).toInt64) = u2
  refine r_aload_n hC 1 dX6_keepsApproach_89 rfl 90 rfl ?_
  refine r_get (v := .ref (b 1)) hC kX6 1 rfl q2754 (fun _ h => h.get 0 rfl) rfl dX6_keepsApproach_90 93 rfl ?_
  refine r_iload hC 0 dX6_keepsApproach_93 rfl 95 rfl ?_
  refine r_iconst hC 2 dX6_keepsApproach_95 ic_2 96 rfl ?_
  refine r_iadd hC (nI (21 + 3 * q + 2)) dX6_keepsApproach_96  (nI_add (21 + 3 * q) 2) 97 rfl ?_
  refine r_lload hC 4 dX6_keepsApproach_97 rfl 99 rfl ?_
  refine r_last (J := xSt F V0 [(b 0, .inr (5, mF b i j)), (b 1, .inl (1, 111, .inr (.inl (va_up u2 (21 + 3 * q + 2) d))))]) hC (21 + 3 * q + 2) (xix_n (21 + 3 * q + 2) (by omega) (Nat.le_of_ble_eq_true rfl)) (fun _ h => h.get 1 rfl) dX6_keepsApproach_99 (fun _ h => h.set 1 _ rfl) 100 rfl ?_
  generalize hu3 : va_up u2 (21 + 3 * q + 2) d = u3
  refine r_aload_n hC 1 dX6_keepsApproach_100 rfl 101 rfl ?_
  refine r_get (v := .ref (b 1)) hC kX6 1 rfl q2754 (fun _ h => h.get 0 rfl) rfl dX6_keepsApproach_101 104 rfl ?_
  refine r_iconst hC 5 dX6_keepsApproach_104 ic_5 105 rfl ?_
  refine r_dup2 hC dX6_keepsApproach_105 rfl rfl 106 rfl ?_
  refine r_lald hC 5 (xix_n 5 (Nat.le_of_ble_eq_true rfl) (Nat.le_of_ble_eq_true rfl)) (fun _ h => h.get 1 rfl) (u3 5) (rfl) dX6_keepsApproach_106 107 rfl ?_
  refine r_eql (y := lN q) (by rw [← hu3, up_ne (by omega), ← hu2, up_ne (by omega), ← hu1, up_ne (by omega)]; exact h5) ?_
  refine r_lconst hC 1 dX6_keepsApproach_107 lc_1 108 rfl ?_
  refine r_ladd hC (lN (q + 1)) dX6_keepsApproach_108  (lN_add q 1) 109 rfl ?_
  refine r_last (J := xSt F V0 [(b 0, .inr (5, mF b i j)), (b 1, .inl (1, 111, .inr (.inl (va_up u3 5 (lN (q + 1))))))]) hC 5 (xix_n 5 (Nat.le_of_ble_eq_true rfl) (Nat.le_of_ble_eq_true rfl)) (fun _ h => h.get 1 rfl) dX6_keepsApproach_109 (fun _ h => h.set 1 _ rfl) 110 rfl ?_
  generalize hu4 : va_up u3 5 (lN (q + 1)) = u4
  subst hu4
  subst hu3
  subst hu2
  subst hu1
  exact r_vret hC (Nat.le_of_ble_eq_true rfl) (Nat.le_of_ble_eq_true rfl) (fun V9 h => hQ _ _ ⟨[(b 0, .inr (5, mF b i j)), (b 1, .inl (1, 111, .inr (.inl (va_up (va_up (va_up (va_up r (21 + 3 * q) ck) (21 + 3 * q + 1) ((nI p).toInt64)) (21 + 3 * q + 2) d) 5 (lN (q + 1))))))], ⟨rfl, rfl⟩, by rw [← hV0, ← hF]; exact h⟩) dX6_keepsApproach_110
set_option maxHeartbeats 4000000 in
set_option maxRecDepth 100000 in
theorem metX6_keepsApproachF (l : Launch) (G : xG) (hG : xGood G) (b : Nat → Nat) (i : Nat → Int32) (j : Nat → Int64) (r : Nat → Int64) (ck d : Int64) (p : Nat) (h5 : r 5 = 30) : xWm l G yX6_keepsApproach (Cond.code yX6_keepsApproach cX6_keepsApproach 7 none) { frames := 0, locals := 0, cells := 0, slots := 0 } [.ref (b 0), .long ck, .int (nI p), .long d] [(b 0, .inr (5, mF b i j)), (b 1, .inl (1, 111, .inr (.inl r)))] (fun v w' => v = none ∧ w' = [(b 0, .inr (5, mF b i j)), (b 1, .inl (1, 111, .inr (.inl (keepA (va_up (downA r) 5 29) 29 ck (nI p).toInt64 d))))]) (fun _ _ => False) := by
  intro V hV
  refine xMet_of RX6 hG rfl (by decide) (Nat.le_of_ble_eq_true rfl) fun C hC hQ hX hl hg _ => ?_
  subst hl hg
  obtain ⟨V0, hV0⟩ : ∃ V0, V0 = V := ⟨_, rfl⟩
  obtain ⟨F, hF⟩ : ∃ F, F = xF [(b 0, .inr (5, mF b i j)), (b 1, .inl (1, 111, .inr (.inl r)))] := ⟨_, rfl⟩
  refine rn.mono (J := xSt F V0 [(b 0, .inr (5, mF b i j)), (b 1, .inl (1, 111, .inr (.inl r)))]) (fun V9 h => by rw [h, hV0, hF]; exact hV.st) ?_
  show rn C (xSt F V0 [(b 0, .inr (5, mF b i j)), (b 1, .inl (1, 111, .inr (.inl r)))]) 0 0 0 [(0, .ref (b 0)), (1, .long ck), (3, .int (nI p)), (4, .long d)] []
  refine r_aload_n hC 0 dX6_keepsApproach_0 rfl 1 rfl ?_
  refine r_get (v := .ref (b 1)) hC kX6 1 rfl q2754 (fun _ h => h.get 0 rfl) rfl dX6_keepsApproach_1 4 rfl ?_
  refine r_iconst hC 5 dX6_keepsApproach_4 ic_5 5 rfl ?_
  refine r_lald hC 5 (xix_n 5 (Nat.le_of_ble_eq_true rfl) (Nat.le_of_ble_eq_true rfl)) (fun _ h => h.get 1 rfl) (r 5) (rfl) dX6_keepsApproach_5 6 rfl ?_
  refine r_eql (y := 30) (h5) ?_
  refine r_ldc2 hC q3109 dX6_keepsApproach_6 9 rfl ?_
  refine r_lcne hC 56 dX6_keepsApproach_9 dX6_keepsApproach_10 (by decide) 13 rfl (fun h => absurd h (by decide)) (fun _ => ?_)
  refine r_bipush hC 24 dX6_keepsApproach_13 bp_24 15 rfl ?_
  refine r_istore hC 6 [(6, .int 24), (0, .ref (b 0)), (1, .long ck), (3, .int (nI p)), (4, .long d)] dX6_keepsApproach_15 (Nat.le_of_ble_eq_true rfl) rfl 17 rfl ?_
  refine rn.sub (lv' := [(6, .int 24), (0, .ref (b 0)), (1, .long ck), (3, .int (nI p)), (4, .long d)]) [0, 1, 2, 3, 4] rfl ?_
  refine rn.mono (J := xSt F V0 [(b 0, .inr (5, mF b i j)), (b 1, .inl (1, 111, .inr (.inl (va_cpy r r 24 21 0))))]) (fun _ h => by rw [cpy_0]; exact h) ?_
  refine lpX6_keep hC b i j r 30 ck d p ?_ 87 0 rfl
  show rn C (xSt F V0 [(b 0, .inr (5, mF b i j)), (b 1, .inl (1, 111, .inr (.inl (downA r))))]) 0 0 46 [(0, .ref (b 0)), (1, .long ck), (3, .int (nI p)), (4, .long d)] []
  refine r_aload_n hC 0 dX6_keepsApproach_46 rfl 47 rfl ?_
  refine r_get (v := .ref (b 1)) hC kX6 1 rfl q2754 (fun _ h => h.get 0 rfl) rfl dX6_keepsApproach_47 50 rfl ?_
  refine r_iconst hC 5 dX6_keepsApproach_50 ic_5 51 rfl ?_
  refine r_dup2 hC dX6_keepsApproach_51 rfl rfl 52 rfl ?_
  refine r_lald hC 5 (xix_n 5 (Nat.le_of_ble_eq_true rfl) (Nat.le_of_ble_eq_true rfl)) (fun _ h => h.get 1 rfl) ((downA r) 5) (rfl) dX6_keepsApproach_52 53 rfl ?_
  refine r_eql (y := 30) ((show (downA r) 5 = r 5 from cpy_out (by omega)).trans h5) ?_
  refine r_lconst hC 1 dX6_keepsApproach_53 lc_1 54 rfl ?_
  refine r_lsub hC 29 dX6_keepsApproach_54  (by decide) 55 rfl ?_
  refine r_last (J := xSt F V0 [(b 0, .inr (5, mF b i j)), (b 1, .inl (1, 111, .inr (.inl (va_up (downA r) 5 29))))]) hC 5 (xix_n 5 (Nat.le_of_ble_eq_true rfl) (Nat.le_of_ble_eq_true rfl)) (fun _ h => h.get 1 rfl) dX6_keepsApproach_55 (fun _ h => h.set 1 _ rfl) 56 rfl ?_
  generalize hu1 : va_up (downA r) 5 29 = u1
  refine r_bipush hC 21 dX6_keepsApproach_56 bp_21 58 rfl ?_
  refine r_iconst hC 3 dX6_keepsApproach_58 ic_3 59 rfl ?_
  refine r_aload_n hC 0 dX6_keepsApproach_59 rfl 60 rfl ?_
  refine r_get (v := .ref (b 1)) hC kX6 1 rfl q2754 (fun _ h => h.get 0 rfl) rfl dX6_keepsApproach_60 63 rfl ?_
  refine r_iconst hC 5 dX6_keepsApproach_63 ic_5 64 rfl ?_
  refine r_lald hC 5 (xix_n 5 (Nat.le_of_ble_eq_true rfl) (Nat.le_of_ble_eq_true rfl)) (fun _ h => h.get 1 rfl) 29 (by rw [← hu1]; rfl) dX6_keepsApproach_64 65 rfl ?_
  refine r_l2i hC 29 dX6_keepsApproach_65 (by decide) 66 rfl ?_
  refine r_imul hC 87 dX6_keepsApproach_66  (by decide) 67 rfl ?_
  refine r_iadd hC 108 dX6_keepsApproach_67  (by decide) 68 rfl ?_
  refine r_istore hC 6 [(6, .int 108), (0, .ref (b 0)), (1, .long ck), (3, .int (nI p)), (4, .long d)] dX6_keepsApproach_68 (Nat.le_of_ble_eq_true rfl) rfl 70 rfl ?_
  refine r_aload_n hC 1 dX6_keepsApproach_70 rfl 71 rfl ?_
  refine r_get (v := .ref (b 1)) hC kX6 1 rfl q2754 (fun _ h => h.get 0 rfl) rfl dX6_keepsApproach_71 74 rfl ?_
  refine r_iload hC 0 dX6_keepsApproach_74 rfl 76 rfl ?_
  refine r_lload_n hC 2 dX6_keepsApproach_76 rfl 77 rfl ?_
  refine r_last (J := xSt F V0 [(b 0, .inr (5, mF b i j)), (b 1, .inl (1, 111, .inr (.inl (va_up u1 108 ck))))]) hC 108 (xix_n 108 (Nat.le_of_ble_eq_true rfl) (Nat.le_of_ble_eq_true rfl)) (fun _ h => h.get 1 rfl) dX6_keepsApproach_77 (fun _ h => h.set 1 _ rfl) 78 rfl ?_
  generalize hu2 : va_up u1 108 ck = u2
  refine r_aload_n hC 1 dX6_keepsApproach_78 rfl 79 rfl ?_
  refine r_get (v := .ref (b 1)) hC kX6 1 rfl q2754 (fun _ h => h.get 0 rfl) rfl dX6_keepsApproach_79 82 rfl ?_
  refine r_iload hC 0 dX6_keepsApproach_82 rfl 84 rfl ?_
  refine r_iconst hC 1 dX6_keepsApproach_84 ic_1 85 rfl ?_
  refine r_iadd hC 109 dX6_keepsApproach_85  (by decide) 86 rfl ?_
  refine r_iload_n hC 3 dX6_keepsApproach_86 rfl 87 rfl ?_
  refine r_i2l hC ((nI p).toInt64) dX6_keepsApproach_87 (rfl) 88 rfl ?_
  refine r_last (J := xSt F V0 [(b 0, .inr (5, mF b i j)), (b 1, .inl (1, 111, .inr (.inl (va_up u2 109 ((nI p).toInt64)))))]) hC 109 (xix_n 109 (Nat.le_of_ble_eq_true rfl) (Nat.le_of_ble_eq_true rfl)) (fun _ h => h.get 1 rfl) dX6_keepsApproach_88 (fun _ h => h.set 1 _ rfl) 89 rfl ?_
  generalize hu3 : va_up u2 109 ((nI p).toInt64) = u3
  refine r_aload_n hC 1 dX6_keepsApproach_89 rfl 90 rfl ?_
  refine r_get (v := .ref (b 1)) hC kX6 1 rfl q2754 (fun _ h => h.get 0 rfl) rfl dX6_keepsApproach_90 93 rfl ?_
  refine r_iload hC 0 dX6_keepsApproach_93 rfl 95 rfl ?_
  refine r_iconst hC 2 dX6_keepsApproach_95 ic_2 96 rfl ?_
  refine r_iadd hC 110 dX6_keepsApproach_96  (by decide) 97 rfl ?_
  refine r_lload hC 4 dX6_keepsApproach_97 rfl 99 rfl ?_
  refine r_last (J := xSt F V0 [(b 0, .inr (5, mF b i j)), (b 1, .inl (1, 111, .inr (.inl (va_up u3 110 d))))]) hC 110 (xix_n 110 (Nat.le_of_ble_eq_true rfl) (Nat.le_of_ble_eq_true rfl)) (fun _ h => h.get 1 rfl) dX6_keepsApproach_99 (fun _ h => h.set 1 _ rfl) 100 rfl ?_
  generalize hu4 : va_up u3 110 d = u4
  refine r_aload_n hC 1 dX6_keepsApproach_100 rfl 101 rfl ?_
  refine r_get (v := .ref (b 1)) hC kX6 1 rfl q2754 (fun _ h => h.get 0 rfl) rfl dX6_keepsApproach_101 104 rfl ?_
  refine r_iconst hC 5 dX6_keepsApproach_104 ic_5 105 rfl ?_
  refine r_dup2 hC dX6_keepsApproach_105 rfl rfl 106 rfl ?_
  refine r_lald hC 5 (xix_n 5 (Nat.le_of_ble_eq_true rfl) (Nat.le_of_ble_eq_true rfl)) (fun _ h => h.get 1 rfl) 29 (by rw [← hu4, ← hu3, ← hu2, ← hu1]; rfl) dX6_keepsApproach_106 107 rfl ?_
  refine r_lconst hC 1 dX6_keepsApproach_107 lc_1 108 rfl ?_
  refine r_ladd hC 30 dX6_keepsApproach_108  (by decide) 109 rfl ?_
  refine r_last (J := xSt F V0 [(b 0, .inr (5, mF b i j)), (b 1, .inl (1, 111, .inr (.inl (va_up u4 5 30))))]) hC 5 (xix_n 5 (Nat.le_of_ble_eq_true rfl) (Nat.le_of_ble_eq_true rfl)) (fun _ h => h.get 1 rfl) dX6_keepsApproach_109 (fun _ h => h.set 1 _ rfl) 110 rfl ?_
  generalize hu5 : va_up u4 5 30 = u5
  subst hu5
  subst hu4
  subst hu3
  subst hu2
  subst hu1
  exact r_vret hC (Nat.le_of_ble_eq_true rfl) (Nat.le_of_ble_eq_true rfl) (fun V9 h => hQ _ _ ⟨[(b 0, .inr (5, mF b i j)), (b 1, .inl (1, 111, .inr (.inl (va_up (va_up (va_up (va_up (va_up (downA r) 5 29) 108 ck) 109 ((nI p).toInt64)) 110 d) 5 30))))], ⟨rfl, rfl⟩, by rw [← hV0, ← hF]; exact h⟩) dX6_keepsApproach_110
set_option maxHeartbeats 4000000 in
set_option maxRecDepth 100000 in
theorem metX6_keeps (l : Launch) (G : xG) (hG : xGood G) (b : Nat → Nat) (i : Nat → Int32) (j : Nat → Int64) (r : Nat → Int64) (q : Nat) (ck d : Int64) (p : Nat) (hq : q ≤ 30) (h5 : r 5 = lN q) : xWm l G yX6_keepsApproach (Cond.code yX6_keepsApproach cX6_keepsApproach 7 none) { frames := 0, locals := 0, cells := 0, slots := 0 } [.ref (b 0), .long ck, .int (nI p), .long d] [(b 0, .inr (5, mF b i j)), (b 1, .inl (1, 111, .inr (.inl r)))] (fun v w' => v = none ∧ w' = [(b 0, .inr (5, mF b i j)), (b 1, .inl (1, 111, .inr (.inl (keepQ r q ck (nI p).toInt64 d))))]) (fun _ _ => False) := by
  by_cases hlt : q < 30
  · have := metX6_keepsApproachL l G hG b i j r q ck d p hlt h5
    rw [keepQ, if_pos hlt]
    exact this
  · have he : q = 30 := by omega
    subst he
    have := metX6_keepsApproachF l G hG b i j r ck d p h5
    rw [keepQ, if_neg hlt]
    exact this
