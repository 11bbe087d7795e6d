/-! ===== the reference: recurs ===== -/
set_option maxRecDepth 100000
def likeQ (f g : Nat → Int64) (x y : Nat) : Bool := decide (f (6 + 5 * x + 0) = g (6 + 5 * y + 0)) && decide (f (6 + 5 * x + 1) = g (6 + 5 * y + 1)) && decide (f (6 + 5 * x + 2) = g (6 + 5 * y + 2)) && decide (f (6 + 5 * x + 3) = g (6 + 5 * y + 3)) && decide (f (6 + 5 * x + 4) = g (6 + 5 * y + 4))
def trioQ (f g : Nat → Int64) (a b c : Nat) : Bool := likeQ f g 0 a && likeQ f g 1 b && likeQ f g 2 c
set_option maxHeartbeats 4000000 in
set_option maxRecDepth 100000 in
theorem metX6_isLike (l : Launch) (G : xG) (hG : xGood G) (a d : Nat) (f g : Nat → Int64) (x y : Nat) (hx : x < 3) (hy : y < 3) (z : Int32) (hz : bI (likeQ f g x y) = z) : xRm l G yX6_isLike (Cond.code yX6_isLike cX6_isLike 5 (some .boolean)) { frames := 1, locals := 21, cells := 0, slots := 0 } [.ref a, .int (nI x), .ref d, .int (nI y)] [(a, .inl (1, 111, .inr (.inl f))), (d, .inl (1, 111, .inr (.inl g)))] (some (.int z)) := by
  intro V hV
  refine xMet_of RX6 hG rfl (by decide) (Nat.le_of_ble_eq_true rfl) fun C hC hQ hX hl hg _ => ?_
  subst hl hg
  refine rn.mono (J := xRo [(a, .inl (1, 111, .inr (.inl f))), (d, .inl (1, 111, .inr (.inl g)))] V) (fun V9 h => ⟨h, hV⟩) ?_
  show rn C (xRo [(a, .inl (1, 111, .inr (.inl f))), (d, .inl (1, 111, .inr (.inl g)))] V) 0 0 0 [(0, .ref a), (1, .int (nI x)), (2, .ref d), (3, .int (nI y))] []
  refine r_iconst hC 0 dX6_isLike_0 ic_0 1 rfl ?_
  refine r_istore hC 4 [(4, .int 0), (0, .ref a), (1, .int (nI x)), (2, .ref d), (3, .int (nI y))] dX6_isLike_1 (Nat.le_of_ble_eq_true rfl) rfl 3 rfl ?_
  refine r_iload hC 0 dX6_isLike_3 rfl 5 rfl ?_
  refine r_iconst hC 5 dX6_isLike_5 ic_5 6 rfl ?_
  refine r_icge hC 37 dX6_isLike_6 (by decide) 9 rfl (fun h => absurd h (by decide)) (fun _ => ?_)
  refine r_aload_n hC 1 dX6_isLike_9 rfl 10 rfl ?_
  refine r_iload_n hC 2 dX6_isLike_10 rfl 11 rfl ?_
  refine r_iload hC 0 dX6_isLike_11 rfl 13 rfl ?_
  refine r_invSr hC [.int (nI x), .int 0] (.int (nI (6 + 5 * x + 0))) mSX6_at q2711 (metX6_at _ _ hG x 0) (fun _ _ => xIn.nil) ⟨rfl, rfl⟩ 0 0 rfl rfl (Nat.le_of_ble_eq_true rfl) (Nat.le_of_ble_eq_true rfl) rfl (Nat.le_of_ble_eq_true rfl) dX6_isLike_13 16 rfl ?_
  refine r_lald hC (6 + 5 * x + 0) (xix_n (6 + 5 * x + 0) (by omega) (Nat.le_of_ble_eq_true rfl)) (fun _ h => h.get 0 rfl) (f (6 + 5 * x + 0)) (rfl) dX6_isLike_16 17 rfl ?_
  refine r_aload_n hC 3 dX6_isLike_17 rfl 18 rfl ?_
  refine r_iload_n hC 4 dX6_isLike_18 rfl 19 rfl ?_
  refine r_iload hC 0 dX6_isLike_19 rfl 21 rfl ?_
  refine r_invSr hC [.int (nI y), .int 0] (.int (nI (6 + 5 * y + 0))) mSX6_at q2711 (metX6_at _ _ hG y 0) (fun _ _ => xIn.nil) ⟨rfl, rfl⟩ 0 0 rfl rfl (Nat.le_of_ble_eq_true rfl) (Nat.le_of_ble_eq_true rfl) rfl (Nat.le_of_ble_eq_true rfl) dX6_isLike_21 24 rfl ?_
  refine r_lald hC (6 + 5 * y + 0) (xix_n (6 + 5 * y + 0) (by omega) (Nat.le_of_ble_eq_true rfl)) (fun _ h => h.get 1 rfl) (g (6 + 5 * y + 0)) (rfl) dX6_isLike_24 25 rfl ?_
  refine r_lceq hC 31 dX6_isLike_25 dX6_isLike_26 (by decide) 29 rfl (fun c1 => ?_) (fun c1 => ?_)
  · skip
    refine r_iinc hC 1 4 0 [(4, .int 1), (0, .ref a), (1, .int (nI x)), (2, .ref d), (3, .int (nI y))] dX6_isLike_31 rfl (by decide) (Nat.le_of_ble_eq_true rfl) rfl 34 rfl ?_
    refine r_goto hC 3 dX6_isLike_34 (by decide) ?_
    refine r_iload hC 0 dX6_isLike_3 rfl 5 rfl ?_
    refine r_iconst hC 5 dX6_isLike_5 ic_5 6 rfl ?_
    refine r_icge hC 37 dX6_isLike_6 (by decide) 9 rfl (fun h => absurd h (by decide)) (fun _ => ?_)
    refine r_aload_n hC 1 dX6_isLike_9 rfl 10 rfl ?_
    refine r_iload_n hC 2 dX6_isLike_10 rfl 11 rfl ?_
    refine r_iload hC 0 dX6_isLike_11 rfl 13 rfl ?_
    refine r_invSr hC [.int (nI x), .int 1] (.int (nI (6 + 5 * x + 1))) mSX6_at q2711 (metX6_at _ _ hG x 1) (fun _ _ => xIn.nil) ⟨rfl, rfl⟩ 0 0 rfl rfl (Nat.le_of_ble_eq_true rfl) (Nat.le_of_ble_eq_true rfl) rfl (Nat.le_of_ble_eq_true rfl) dX6_isLike_13 16 rfl ?_
    refine r_lald hC (6 + 5 * x + 1) (xix_n (6 + 5 * x + 1) (by omega) (Nat.le_of_ble_eq_true rfl)) (fun _ h => h.get 0 rfl) (f (6 + 5 * x + 1)) (rfl) dX6_isLike_16 17 rfl ?_
    refine r_aload_n hC 3 dX6_isLike_17 rfl 18 rfl ?_
    refine r_iload_n hC 4 dX6_isLike_18 rfl 19 rfl ?_
    refine r_iload hC 0 dX6_isLike_19 rfl 21 rfl ?_
    refine r_invSr hC [.int (nI y), .int 1] (.int (nI (6 + 5 * y + 1))) mSX6_at q2711 (metX6_at _ _ hG y 1) (fun _ _ => xIn.nil) ⟨rfl, rfl⟩ 0 0 rfl rfl (Nat.le_of_ble_eq_true rfl) (Nat.le_of_ble_eq_true rfl) rfl (Nat.le_of_ble_eq_true rfl) dX6_isLike_21 24 rfl ?_
    refine r_lald hC (6 + 5 * y + 1) (xix_n (6 + 5 * y + 1) (by omega) (Nat.le_of_ble_eq_true rfl)) (fun _ h => h.get 1 rfl) (g (6 + 5 * y + 1)) (rfl) dX6_isLike_24 25 rfl ?_
    refine r_lceq hC 31 dX6_isLike_25 dX6_isLike_26 (by decide) 29 rfl (fun c2 => ?_) (fun c2 => ?_)
    · skip
      refine r_iinc hC 2 4 0 [(4, .int 2), (0, .ref a), (1, .int (nI x)), (2, .ref d), (3, .int (nI y))] dX6_isLike_31 rfl (by decide) (Nat.le_of_ble_eq_true rfl) rfl 34 rfl ?_
      refine r_goto hC 3 dX6_isLike_34 (by decide) ?_
      refine r_iload hC 0 dX6_isLike_3 rfl 5 rfl ?_
      refine r_iconst hC 5 dX6_isLike_5 ic_5 6 rfl ?_
      refine r_icge hC 37 dX6_isLike_6 (by decide) 9 rfl (fun h => absurd h (by decide)) (fun _ => ?_)
      refine r_aload_n hC 1 dX6_isLike_9 rfl 10 rfl ?_
      refine r_iload_n hC 2 dX6_isLike_10 rfl 11 rfl ?_
      refine r_iload hC 0 dX6_isLike_11 rfl 13 rfl ?_
      refine r_invSr hC [.int (nI x), .int 2] (.int (nI (6 + 5 * x + 2))) mSX6_at q2711 (metX6_at _ _ hG x 2) (fun _ _ => xIn.nil) ⟨rfl, rfl⟩ 0 0 rfl rfl (Nat.le_of_ble_eq_true rfl) (Nat.le_of_ble_eq_true rfl) rfl (Nat.le_of_ble_eq_true rfl) dX6_isLike_13 16 rfl ?_
      refine r_lald hC (6 + 5 * x + 2) (xix_n (6 + 5 * x + 2) (by omega) (Nat.le_of_ble_eq_true rfl)) (fun _ h => h.get 0 rfl) (f (6 + 5 * x + 2)) (rfl) dX6_isLike_16 17 rfl ?_
      refine r_aload_n hC 3 dX6_isLike_17 rfl 18 rfl ?_
      refine r_iload_n hC 4 dX6_isLike_18 rfl 19 rfl ?_
      refine r_iload hC 0 dX6_isLike_19 rfl 21 rfl ?_
      refine r_invSr hC [.int (nI y), .int 2] (.int (nI (6 + 5 * y + 2))) mSX6_at q2711 (metX6_at _ _ hG y 2) (fun _ _ => xIn.nil) ⟨rfl, rfl⟩ 0 0 rfl rfl (Nat.le_of_ble_eq_true rfl) (Nat.le_of_ble_eq_true rfl) rfl (Nat.le_of_ble_eq_true rfl) dX6_isLike_21 24 rfl ?_
      refine r_lald hC (6 + 5 * y + 2) (xix_n (6 + 5 * y + 2) (by omega) (Nat.le_of_ble_eq_true rfl)) (fun _ h => h.get 1 rfl) (g (6 + 5 * y + 2)) (rfl) dX6_isLike_24 25 rfl ?_
      refine r_lceq hC 31 dX6_isLike_25 dX6_isLike_26 (by decide) 29 rfl (fun c3 => ?_) (fun c3 => ?_)
      · skip
        refine r_iinc hC 3 4 0 [(4, .int 3), (0, .ref a), (1, .int (nI x)), (2, .ref d), (3, .int (nI y))] dX6_isLike_31 rfl (by decide) (Nat.le_of_ble_eq_true rfl) rfl 34 rfl ?_
        refine r_goto hC 3 dX6_isLike_34 (by decide) ?_
        refine r_iload hC 0 dX6_isLike_3 rfl 5 rfl ?_
        refine r_iconst hC 5 dX6_isLike_5 ic_5 6 rfl ?_
        refine r_icge hC 37 dX6_isLike_6 (by decide) 9 rfl (fun h => absurd h (by decide)) (fun _ => ?_)
        refine r_aload_n hC 1 dX6_isLike_9 rfl 10 rfl ?_
        refine r_iload_n hC 2 dX6_isLike_10 rfl 11 rfl ?_
        refine r_iload hC 0 dX6_isLike_11 rfl 13 rfl ?_
        refine r_invSr hC [.int (nI x), .int 3] (.int (nI (6 + 5 * x + 3))) mSX6_at q2711 (metX6_at _ _ hG x 3) (fun _ _ => xIn.nil) ⟨rfl, rfl⟩ 0 0 rfl rfl (Nat.le_of_ble_eq_true rfl) (Nat.le_of_ble_eq_true rfl) rfl (Nat.le_of_ble_eq_true rfl) dX6_isLike_13 16 rfl ?_
        refine r_lald hC (6 + 5 * x + 3) (xix_n (6 + 5 * x + 3) (by omega) (Nat.le_of_ble_eq_true rfl)) (fun _ h => h.get 0 rfl) (f (6 + 5 * x + 3)) (rfl) dX6_isLike_16 17 rfl ?_
        refine r_aload_n hC 3 dX6_isLike_17 rfl 18 rfl ?_
        refine r_iload_n hC 4 dX6_isLike_18 rfl 19 rfl ?_
        refine r_iload hC 0 dX6_isLike_19 rfl 21 rfl ?_
        refine r_invSr hC [.int (nI y), .int 3] (.int (nI (6 + 5 * y + 3))) mSX6_at q2711 (metX6_at _ _ hG y 3) (fun _ _ => xIn.nil) ⟨rfl, rfl⟩ 0 0 rfl rfl (Nat.le_of_ble_eq_true rfl) (Nat.le_of_ble_eq_true rfl) rfl (Nat.le_of_ble_eq_true rfl) dX6_isLike_21 24 rfl ?_
        refine r_lald hC (6 + 5 * y + 3) (xix_n (6 + 5 * y + 3) (by omega) (Nat.le_of_ble_eq_true rfl)) (fun _ h => h.get 1 rfl) (g (6 + 5 * y + 3)) (rfl) dX6_isLike_24 25 rfl ?_
        refine r_lceq hC 31 dX6_isLike_25 dX6_isLike_26 (by decide) 29 rfl (fun c4 => ?_) (fun c4 => ?_)
        · skip
          refine r_iinc hC 4 4 0 [(4, .int 4), (0, .ref a), (1, .int (nI x)), (2, .ref d), (3, .int (nI y))] dX6_isLike_31 rfl (by decide) (Nat.le_of_ble_eq_true rfl) rfl 34 rfl ?_
          refine r_goto hC 3 dX6_isLike_34 (by decide) ?_
          refine r_iload hC 0 dX6_isLike_3 rfl 5 rfl ?_
          refine r_iconst hC 5 dX6_isLike_5 ic_5 6 rfl ?_
          refine r_icge hC 37 dX6_isLike_6 (by decide) 9 rfl (fun h => absurd h (by decide)) (fun _ => ?_)
          refine r_aload_n hC 1 dX6_isLike_9 rfl 10 rfl ?_
          refine r_iload_n hC 2 dX6_isLike_10 rfl 11 rfl ?_
          refine r_iload hC 0 dX6_isLike_11 rfl 13 rfl ?_
          refine r_invSr hC [.int (nI x), .int 4] (.int (nI (6 + 5 * x + 4))) mSX6_at q2711 (metX6_at _ _ hG x 4) (fun _ _ => xIn.nil) ⟨rfl, rfl⟩ 0 0 rfl rfl (Nat.le_of_ble_eq_true rfl) (Nat.le_of_ble_eq_true rfl) rfl (Nat.le_of_ble_eq_true rfl) dX6_isLike_13 16 rfl ?_
          refine r_lald hC (6 + 5 * x + 4) (xix_n (6 + 5 * x + 4) (by omega) (Nat.le_of_ble_eq_true rfl)) (fun _ h => h.get 0 rfl) (f (6 + 5 * x + 4)) (rfl) dX6_isLike_16 17 rfl ?_
          refine r_aload_n hC 3 dX6_isLike_17 rfl 18 rfl ?_
          refine r_iload_n hC 4 dX6_isLike_18 rfl 19 rfl ?_
          refine r_iload hC 0 dX6_isLike_19 rfl 21 rfl ?_
          refine r_invSr hC [.int (nI y), .int 4] (.int (nI (6 + 5 * y + 4))) mSX6_at q2711 (metX6_at _ _ hG y 4) (fun _ _ => xIn.nil) ⟨rfl, rfl⟩ 0 0 rfl rfl (Nat.le_of_ble_eq_true rfl) (Nat.le_of_ble_eq_true rfl) rfl (Nat.le_of_ble_eq_true rfl) dX6_isLike_21 24 rfl ?_
          refine r_lald hC (6 + 5 * y + 4) (xix_n (6 + 5 * y + 4) (by omega) (Nat.le_of_ble_eq_true rfl)) (fun _ h => h.get 1 rfl) (g (6 + 5 * y + 4)) (rfl) dX6_isLike_24 25 rfl ?_
          refine r_lceq hC 31 dX6_isLike_25 dX6_isLike_26 (by decide) 29 rfl (fun c5 => ?_) (fun c5 => ?_)
          · skip
            refine r_iinc hC 5 4 0 [(4, .int 5), (0, .ref a), (1, .int (nI x)), (2, .ref d), (3, .int (nI y))] dX6_isLike_31 rfl (by decide) (Nat.le_of_ble_eq_true rfl) rfl 34 rfl ?_
            refine r_goto hC 3 dX6_isLike_34 (by decide) ?_
            refine r_iload hC 0 dX6_isLike_3 rfl 5 rfl ?_
            refine r_iconst hC 5 dX6_isLike_5 ic_5 6 rfl ?_
            refine r_icge hC 37 dX6_isLike_6 (by decide) 9 rfl (fun _ => ?_) (fun h => absurd h (by decide))
            refine r_iconst hC 1 dX6_isLike_37 ic_1 38 rfl ?_
            exact r_zret hC (by decide) (Nat.le_of_ble_eq_true rfl) (Nat.le_of_ble_eq_true rfl) (fun V9 h => hQ _ _ ⟨by rw [← hz, likeQ, decide_eq_true c1, decide_eq_true c2, decide_eq_true c3, decide_eq_true c4, decide_eq_true c5]; simp [bI], h.1⟩) dX6_isLike_38
          · skip
            refine r_iconst hC 0 dX6_isLike_29 ic_0 30 rfl ?_
            exact r_zret hC (by decide) (Nat.le_of_ble_eq_true rfl) (Nat.le_of_ble_eq_true rfl) (fun V9 h => hQ _ _ ⟨by rw [← hz, likeQ, decide_eq_true c1, decide_eq_true c2, decide_eq_true c3, decide_eq_true c4, decide_eq_false c5]; simp [bI], h.1⟩) dX6_isLike_30
        · skip
          refine r_iconst hC 0 dX6_isLike_29 ic_0 30 rfl ?_
          exact r_zret hC (by decide) (Nat.le_of_ble_eq_true rfl) (Nat.le_of_ble_eq_true rfl) (fun V9 h => hQ _ _ ⟨by rw [← hz, likeQ, decide_eq_true c1, decide_eq_true c2, decide_eq_true c3, decide_eq_false c4]; simp [bI], h.1⟩) dX6_isLike_30
      · skip
        refine r_iconst hC 0 dX6_isLike_29 ic_0 30 rfl ?_
        exact r_zret hC (by decide) (Nat.le_of_ble_eq_true rfl) (Nat.le_of_ble_eq_true rfl) (fun V9 h => hQ _ _ ⟨by rw [← hz, likeQ, decide_eq_true c1, decide_eq_true c2, decide_eq_false c3]; simp [bI], h.1⟩) dX6_isLike_30
    · skip
      refine r_iconst hC 0 dX6_isLike_29 ic_0 30 rfl ?_
      exact r_zret hC (by decide) (Nat.le_of_ble_eq_true rfl) (Nat.le_of_ble_eq_true rfl) (fun V9 h => hQ _ _ ⟨by rw [← hz, likeQ, decide_eq_true c1, decide_eq_false c2]; simp [bI], h.1⟩) dX6_isLike_30
  · skip
    refine r_iconst hC 0 dX6_isLike_29 ic_0 30 rfl ?_
    exact r_zret hC (by decide) (Nat.le_of_ble_eq_true rfl) (Nat.le_of_ble_eq_true rfl) (fun V9 h => hQ _ _ ⟨by rw [← hz, likeQ, decide_eq_false c1]; simp [bI], h.1⟩) dX6_isLike_30
def backQ (f g : Nat → Int64) (re : Bool) : Bool := if re = true then trioQ f g 0 1 2 || (trioQ f g 0 2 1 || (trioQ f g 1 0 2 || (trioQ f g 1 2 0 || (trioQ f g 2 0 1 || (trioQ f g 2 1 0 || false))))) else trioQ f g 0 1 2 || false
theorem trio_f1 {f g : Nat → Int64} {a b c : Nat} {u : Bool} (h : likeQ f g 0 a = false) : (trioQ f g a b c || u) = u := by rw [trioQ, h]; rfl
theorem trio_f2 {f g : Nat → Int64} {a b c : Nat} {u : Bool} (h0 : likeQ f g 0 a = true) (h : likeQ f g 1 b = false) : (trioQ f g a b c || u) = u := by rw [trioQ, h0, h]; rfl
theorem trio_f3 {f g : Nat → Int64} {a b c : Nat} {u : Bool} (h0 : likeQ f g 0 a = true) (h1 : likeQ f g 1 b = true) (h : likeQ f g 2 c = false) : (trioQ f g a b c || u) = u := by rw [trioQ, h0, h1, h]; rfl
theorem trio_t {f g : Nat → Int64} {a b c : Nat} {u : Bool} (h0 : likeQ f g 0 a = true) (h1 : likeQ f g 1 b = true) (h : likeQ f g 2 c = true) : (trioQ f g a b c || u) = true := by rw [trioQ, h0, h1, h]; rfl
set_option maxHeartbeats 4000000 in
set_option maxRecDepth 100000 in
theorem metX6_isBack1 (l : Launch) (G : xG) (hG : xGood G) (b : Nat → Nat) (i : Nat → Int32) (j : Nat → Int64) (th r : Nat → Int64) (z : Int32) (hz : bI (trioQ th r 0 1 2 || (trioQ th r 0 2 1 || (trioQ th r 1 0 2 || (trioQ th r 1 2 0 || (trioQ th r 2 0 1 || (trioQ th r 2 1 0 || false)))))) = z) : xRm l G yX6_isBack (Cond.code yX6_isBack cX6_isBack 5 (some .boolean)) { frames := 2, locals := 45, cells := 0, slots := 0 } [.ref (b 0), .int 1] [(b 0, .inr (5, mF b i j)), (b 2, .inl (1, 111, .inr (.inl th))), (b 1, .inl (1, 111, .inr (.inl r)))] (some (.int z)) := by
  intro V hV
  refine xMet_of RX6 hG rfl (by decide) (Nat.le_of_ble_eq_true rfl) fun C hC hQ hX hl hg _ => ?_
  subst hl hg
  refine rn.mono (J := xRo [(b 0, .inr (5, mF b i j)), (b 2, .inl (1, 111, .inr (.inl th))), (b 1, .inl (1, 111, .inr (.inl r)))] V) (fun V9 h => ⟨h, hV⟩) ?_
  show rn C (xRo [(b 0, .inr (5, mF b i j)), (b 2, .inl (1, 111, .inr (.inl th))), (b 1, .inl (1, 111, .inr (.inl r)))] V) 0 0 0 [(0, .ref (b 0)), (1, .int 1)] []
  refine r_iconst hC 0 dX6_isBack_0 ic_0 1 rfl ?_
  refine r_istore_n hC 2 [(2, .int 0), (0, .ref (b 0)), (1, .int 1)] dX6_isBack_1 rfl (Nat.le_of_ble_eq_true rfl) rfl 2 rfl ?_
  refine r_iload_n hC 0 dX6_isBack_2 rfl 3 rfl ?_
  refine r_iconst hC 3 dX6_isBack_3 ic_3 4 rfl ?_
  refine r_icge hC 118 dX6_isBack_4 (by decide) 7 rfl (fun h => absurd h (by decide)) (fun _ => ?_)
  refine r_iconst hC 0 dX6_isBack_7 ic_0 8 rfl ?_
  refine r_istore_n hC 3 [(3, .int 0), (2, .int 0), (0, .ref (b 0)), (1, .int 1)] dX6_isBack_8 rfl (Nat.le_of_ble_eq_true rfl) rfl 9 rfl ?_
  refine rn.sub (lv' := [(3, .int 0), (2, .int 0), (0, .ref (b 0)), (1, .int 1)]) [0, 1, 2, 3] rfl ?_
  have hT22 : bI (false) = z → rn C (xRo [(b 0, .inr (5, mF b i j)), (b 2, .inl (1, 111, .inr (.inl th))), (b 1, .inl (1, 111, .inr (.inl r)))] V) 0 0 9 [(3, .int 2), (2, .int 2), (0, .ref (b 0)), (1, .int 1)] [] := by
    intro hz
    refine r_iload_n hC 0 dX6_isBack_9 rfl 10 rfl ?_
    refine r_iconst hC 3 dX6_isBack_10 ic_3 11 rfl ?_
    refine r_icge hC 112 dX6_isBack_11 (by decide) 14 rfl (fun h => absurd h (by decide)) (fun _ => ?_)
    refine r_iload_n hC 3 dX6_isBack_14 rfl 15 rfl ?_
    refine r_ifeq hC 31 dX6_isBack_15 (by decide) 18 rfl (fun h => absurd h (by decide)) (fun _ => ?_)
    refine r_iload_n hC 1 dX6_isBack_18 rfl 19 rfl ?_
    refine r_iload_n hC 0 dX6_isBack_19 rfl 20 rfl ?_
    refine r_iceq hC 27 dX6_isBack_20 (by decide) 23 rfl (fun _ => ?_) (fun h => absurd h (by decide))
    refine r_iconst hC 0 dX6_isBack_27 ic_0 28 rfl ?_
    refine r_goto hC 45 dX6_isBack_28 (by decide) ?_
    refine r_istore hC 4 [(4, .int 0), (3, .int 2), (2, .int 2), (0, .ref (b 0)), (1, .int 1)] dX6_isBack_45 (Nat.le_of_ble_eq_true rfl) rfl 47 rfl ?_
    refine r_iload hC 0 dX6_isBack_47 rfl 49 rfl ?_
    refine r_ifeq hC 106 dX6_isBack_49 (by decide) 52 rfl (fun _ => ?_) (fun h => absurd h (by decide))
    refine r_iinc hC 3 3 1 [(3, .int 3), (4, .int 0), (2, .int 2), (0, .ref (b 0)), (1, .int 1)] dX6_isBack_106 rfl (by decide) (Nat.le_of_ble_eq_true rfl) rfl 109 rfl ?_
    refine r_goto hC 9 dX6_isBack_109 (by decide) ?_
    refine r_iload_n hC 0 dX6_isBack_9 rfl 10 rfl ?_
    refine r_iconst hC 3 dX6_isBack_10 ic_3 11 rfl ?_
    refine r_icge hC 112 dX6_isBack_11 (by decide) 14 rfl (fun _ => ?_) (fun h => absurd h (by decide))
    refine r_iinc hC 3 2 2 [(2, .int 3), (3, .int 3), (4, .int 0), (0, .ref (b 0)), (1, .int 1)] dX6_isBack_112 rfl (by decide) (Nat.le_of_ble_eq_true rfl) rfl 115 rfl ?_
    refine r_goto hC 2 dX6_isBack_115 (by decide) ?_
    refine r_iload_n hC 0 dX6_isBack_2 rfl 3 rfl ?_
    refine r_iconst hC 3 dX6_isBack_3 ic_3 4 rfl ?_
    refine r_icge hC 118 dX6_isBack_4 (by decide) 7 rfl (fun _ => ?_) (fun h => absurd h (by decide))
    refine r_iconst hC 0 dX6_isBack_118 ic_0 119 rfl ?_
    exact r_zret hC (by decide) (Nat.le_of_ble_eq_true rfl) (Nat.le_of_ble_eq_true rfl) (fun V9 h => hQ _ _ ⟨by rw [← hz]; rfl, h.1⟩) dX6_isBack_119
  have hT21 : bI (trioQ th r 2 1 0 || false) = z → rn C (xRo [(b 0, .inr (5, mF b i j)), (b 2, .inl (1, 111, .inr (.inl th))), (b 1, .inl (1, 111, .inr (.inl r)))] V) 0 0 9 [(3, .int 1), (2, .int 2), (0, .ref (b 0)), (1, .int 1)] [] := by
    intro hz
    refine r_iload_n hC 0 dX6_isBack_9 rfl 10 rfl ?_
    refine r_iconst hC 3 dX6_isBack_10 ic_3 11 rfl ?_
    refine r_icge hC 112 dX6_isBack_11 (by decide) 14 rfl (fun h => absurd h (by decide)) (fun _ => ?_)
    refine r_iload_n hC 3 dX6_isBack_14 rfl 15 rfl ?_
    refine r_ifeq hC 31 dX6_isBack_15 (by decide) 18 rfl (fun h => absurd h (by decide)) (fun _ => ?_)
    refine r_iload_n hC 1 dX6_isBack_18 rfl 19 rfl ?_
    refine r_iload_n hC 0 dX6_isBack_19 rfl 20 rfl ?_
    refine r_iceq hC 27 dX6_isBack_20 (by decide) 23 rfl (fun h => absurd h (by decide)) (fun _ => ?_)
    refine r_iconst hC 1 dX6_isBack_23 ic_1 24 rfl ?_
    refine r_goto hC 45 dX6_isBack_24 (by decide) ?_
    refine r_istore hC 4 [(4, .int 1), (3, .int 1), (2, .int 2), (0, .ref (b 0)), (1, .int 1)] dX6_isBack_45 (Nat.le_of_ble_eq_true rfl) rfl 47 rfl ?_
    refine r_iload hC 0 dX6_isBack_47 rfl 49 rfl ?_
    refine r_ifeq hC 106 dX6_isBack_49 (by decide) 52 rfl (fun h => absurd h (by decide)) (fun _ => ?_)
    refine r_aload_n hC 3 dX6_isBack_52 rfl 53 rfl ?_
    refine r_get (v := .ref (b 2)) hC kX6 2 rfl q2755 (fun _ h => h.get 0 rfl) rfl dX6_isBack_53 56 rfl ?_
    refine r_iconst hC 0 dX6_isBack_56 ic_0 57 rfl ?_
    refine r_aload_n hC 3 dX6_isBack_57 rfl 58 rfl ?_
    refine r_get (v := .ref (b 1)) hC kX6 1 rfl q2754 (fun _ h => h.get 0 rfl) rfl dX6_isBack_58 61 rfl ?_
    refine r_iload_n hC 2 dX6_isBack_61 rfl 62 rfl ?_
    refine r_invSr hC [.ref (b 2), .int 0, .ref (b 1), .int 2] (.int (bI (likeQ th r 0 2))) mSX6_isLike q3257 (metX6_isLike _ _ hG (b 2) (b 1) th r 0 2 (by omega) (by omega) _ rfl) (fun _ h => h.in.sub [1, 2] rfl rfl) ⟨rfl, rfl⟩ 0 0 rfl rfl (Nat.le_of_ble_eq_true rfl) (Nat.le_of_ble_eq_true rfl) rfl (Nat.le_of_ble_eq_true rfl) dX6_isBack_62 65 rfl ?_
    refine r_ifeq hC 106 dX6_isBack_65 (by decide) 68 rfl (fun c1 => ?_) (fun c1 => ?_)
    · skip
      refine r_iinc hC 2 3 1 [(3, .int 2), (4, .int 1), (2, .int 2), (0, .ref (b 0)), (1, .int 1)] dX6_isBack_106 rfl (by decide) (Nat.le_of_ble_eq_true rfl) rfl 109 rfl ?_
      refine r_goto hC 9 dX6_isBack_109 (by decide) ?_
      refine rn.sub (lv' := [(3, .int 2), (2, .int 2), (0, .ref (b 0)), (1, .int 1)]) [0, 2, 3, 4] rfl ?_
      exact hT22 (by rw [← hz, trio_f1 (a := 2) (b := 1) (c := 0) (bI_0.mp c1)])
    · skip
      refine r_aload_n hC 3 dX6_isBack_68 rfl 69 rfl ?_
      refine r_get (v := .ref (b 2)) hC kX6 2 rfl q2755 (fun _ h => h.get 0 rfl) rfl dX6_isBack_69 72 rfl ?_
      refine r_iconst hC 1 dX6_isBack_72 ic_1 73 rfl ?_
      refine r_aload_n hC 3 dX6_isBack_73 rfl 74 rfl ?_
      refine r_get (v := .ref (b 1)) hC kX6 1 rfl q2754 (fun _ h => h.get 0 rfl) rfl dX6_isBack_74 77 rfl ?_
      refine r_iload_n hC 1 dX6_isBack_77 rfl 78 rfl ?_
      refine r_invSr hC [.ref (b 2), .int 1, .ref (b 1), .int 1] (.int (bI (likeQ th r 1 1))) mSX6_isLike q3257 (metX6_isLike _ _ hG (b 2) (b 1) th r 1 1 (by omega) (by omega) _ rfl) (fun _ h => h.in.sub [1, 2] rfl rfl) ⟨rfl, rfl⟩ 0 0 rfl rfl (Nat.le_of_ble_eq_true rfl) (Nat.le_of_ble_eq_true rfl) rfl (Nat.le_of_ble_eq_true rfl) dX6_isBack_78 81 rfl ?_
      refine r_ifeq hC 106 dX6_isBack_81 (by decide) 84 rfl (fun c2 => ?_) (fun c2 => ?_)
      · skip
        refine r_iinc hC 2 3 1 [(3, .int 2), (4, .int 1), (2, .int 2), (0, .ref (b 0)), (1, .int 1)] dX6_isBack_106 rfl (by decide) (Nat.le_of_ble_eq_true rfl) rfl 109 rfl ?_
        refine r_goto hC 9 dX6_isBack_109 (by decide) ?_
        refine rn.sub (lv' := [(3, .int 2), (2, .int 2), (0, .ref (b 0)), (1, .int 1)]) [0, 2, 3, 4] rfl ?_
        exact hT22 (by rw [← hz, trio_f2 (a := 2) (b := 1) (c := 0) (bI_n0.mp c1) (bI_0.mp c2)])
      · skip
        refine r_aload_n hC 3 dX6_isBack_84 rfl 85 rfl ?_
        refine r_get (v := .ref (b 2)) hC kX6 2 rfl q2755 (fun _ h => h.get 0 rfl) rfl dX6_isBack_85 88 rfl ?_
        refine r_iconst hC 2 dX6_isBack_88 ic_2 89 rfl ?_
        refine r_aload_n hC 3 dX6_isBack_89 rfl 90 rfl ?_
        refine r_get (v := .ref (b 1)) hC kX6 1 rfl q2754 (fun _ h => h.get 0 rfl) rfl dX6_isBack_90 93 rfl ?_
        refine r_iconst hC 3 dX6_isBack_93 ic_3 94 rfl ?_
        refine r_iload_n hC 2 dX6_isBack_94 rfl 95 rfl ?_
        refine r_isub hC 1 dX6_isBack_95  (by decide) 96 rfl ?_
        refine r_iload_n hC 1 dX6_isBack_96 rfl 97 rfl ?_
        refine r_isub hC 0 dX6_isBack_97  (by decide) 98 rfl ?_
        refine r_invSr hC [.ref (b 2), .int 2, .ref (b 1), .int 0] (.int (bI (likeQ th r 2 0))) mSX6_isLike q3257 (metX6_isLike _ _ hG (b 2) (b 1) th r 2 0 (by omega) (by omega) _ rfl) (fun _ h => h.in.sub [1, 2] rfl rfl) ⟨rfl, rfl⟩ 0 0 rfl rfl (Nat.le_of_ble_eq_true rfl) (Nat.le_of_ble_eq_true rfl) rfl (Nat.le_of_ble_eq_true rfl) dX6_isBack_98 101 rfl ?_
        refine r_ifeq hC 106 dX6_isBack_101 (by decide) 104 rfl (fun c3 => ?_) (fun c3 => ?_)
        · skip
          refine r_iinc hC 2 3 1 [(3, .int 2), (4, .int 1), (2, .int 2), (0, .ref (b 0)), (1, .int 1)] dX6_isBack_106 rfl (by decide) (Nat.le_of_ble_eq_true rfl) rfl 109 rfl ?_
          refine r_goto hC 9 dX6_isBack_109 (by decide) ?_
          refine rn.sub (lv' := [(3, .int 2), (2, .int 2), (0, .ref (b 0)), (1, .int 1)]) [0, 2, 3, 4] rfl ?_
          exact hT22 (by rw [← hz, trio_f3 (a := 2) (b := 1) (c := 0) (bI_n0.mp c1) (bI_n0.mp c2) (bI_0.mp c3)])
        · skip
          refine r_iconst hC 1 dX6_isBack_104 ic_1 105 rfl ?_
          exact r_zret hC (by decide) (Nat.le_of_ble_eq_true rfl) (Nat.le_of_ble_eq_true rfl) (fun V9 h => hQ _ _ ⟨by rw [← hz, trio_t (bI_n0.mp c1) (bI_n0.mp c2) (bI_n0.mp c3)]; rfl, h.1⟩) dX6_isBack_105
  have hT20 : bI (trioQ th r 2 0 1 || (trioQ th r 2 1 0 || false)) = z → rn C (xRo [(b 0, .inr (5, mF b i j)), (b 2, .inl (1, 111, .inr (.inl th))), (b 1, .inl (1, 111, .inr (.inl r)))] V) 0 0 9 [(3, .int 0), (2, .int 2), (0, .ref (b 0)), (1, .int 1)] [] := by
    intro hz
    refine r_iload_n hC 0 dX6_isBack_9 rfl 10 rfl ?_
    refine r_iconst hC 3 dX6_isBack_10 ic_3 11 rfl ?_
    refine r_icge hC 112 dX6_isBack_11 (by decide) 14 rfl (fun h => absurd h (by decide)) (fun _ => ?_)
    refine r_iload_n hC 3 dX6_isBack_14 rfl 15 rfl ?_
    refine r_ifeq hC 31 dX6_isBack_15 (by decide) 18 rfl (fun h => absurd h (by decide)) (fun _ => ?_)
    refine r_iload_n hC 1 dX6_isBack_18 rfl 19 rfl ?_
    refine r_iload_n hC 0 dX6_isBack_19 rfl 20 rfl ?_
    refine r_iceq hC 27 dX6_isBack_20 (by decide) 23 rfl (fun h => absurd h (by decide)) (fun _ => ?_)
    refine r_iconst hC 1 dX6_isBack_23 ic_1 24 rfl ?_
    refine r_goto hC 45 dX6_isBack_24 (by decide) ?_
    refine r_istore hC 4 [(4, .int 1), (3, .int 0), (2, .int 2), (0, .ref (b 0)), (1, .int 1)] dX6_isBack_45 (Nat.le_of_ble_eq_true rfl) rfl 47 rfl ?_
    refine r_iload hC 0 dX6_isBack_47 rfl 49 rfl ?_
    refine r_ifeq hC 106 dX6_isBack_49 (by decide) 52 rfl (fun h => absurd h (by decide)) (fun _ => ?_)
    refine r_aload_n hC 3 dX6_isBack_52 rfl 53 rfl ?_
    refine r_get (v := .ref (b 2)) hC kX6 2 rfl q2755 (fun _ h => h.get 0 rfl) rfl dX6_isBack_53 56 rfl ?_
    refine r_iconst hC 0 dX6_isBack_56 ic_0 57 rfl ?_
    refine r_aload_n hC 3 dX6_isBack_57 rfl 58 rfl ?_
    refine r_get (v := .ref (b 1)) hC kX6 1 rfl q2754 (fun _ h => h.get 0 rfl) rfl dX6_isBack_58 61 rfl ?_
    refine r_iload_n hC 2 dX6_isBack_61 rfl 62 rfl ?_
    refine r_invSr hC [.ref (b 2), .int 0, .ref (b 1), .int 2] (.int (bI (likeQ th r 0 2))) mSX6_isLike q3257 (metX6_isLike _ _ hG (b 2) (b 1) th r 0 2 (by omega) (by omega) _ rfl) (fun _ h => h.in.sub [1, 2] rfl rfl) ⟨rfl, rfl⟩ 0 0 rfl rfl (Nat.le_of_ble_eq_true rfl) (Nat.le_of_ble_eq_true rfl) rfl (Nat.le_of_ble_eq_true rfl) dX6_isBack_62 65 rfl ?_
    refine r_ifeq hC 106 dX6_isBack_65 (by decide) 68 rfl (fun c4 => ?_) (fun c4 => ?_)
    · skip
      refine r_iinc hC 1 3 1 [(3, .int 1), (4, .int 1), (2, .int 2), (0, .ref (b 0)), (1, .int 1)] dX6_isBack_106 rfl (by decide) (Nat.le_of_ble_eq_true rfl) rfl 109 rfl ?_
      refine r_goto hC 9 dX6_isBack_109 (by decide) ?_
      refine rn.sub (lv' := [(3, .int 1), (2, .int 2), (0, .ref (b 0)), (1, .int 1)]) [0, 2, 3, 4] rfl ?_
      exact hT21 (by rw [← hz, trio_f1 (a := 2) (b := 0) (c := 1) (bI_0.mp c4)])
    · skip
      refine r_aload_n hC 3 dX6_isBack_68 rfl 69 rfl ?_
      refine r_get (v := .ref (b 2)) hC kX6 2 rfl q2755 (fun _ h => h.get 0 rfl) rfl dX6_isBack_69 72 rfl ?_
      refine r_iconst hC 1 dX6_isBack_72 ic_1 73 rfl ?_
      refine r_aload_n hC 3 dX6_isBack_73 rfl 74 rfl ?_
      refine r_get (v := .ref (b 1)) hC kX6 1 rfl q2754 (fun _ h => h.get 0 rfl) rfl dX6_isBack_74 77 rfl ?_
      refine r_iload_n hC 1 dX6_isBack_77 rfl 78 rfl ?_
      refine r_invSr hC [.ref (b 2), .int 1, .ref (b 1), .int 0] (.int (bI (likeQ th r 1 0))) mSX6_isLike q3257 (metX6_isLike _ _ hG (b 2) (b 1) th r 1 0 (by omega) (by omega) _ rfl) (fun _ h => h.in.sub [1, 2] rfl rfl) ⟨rfl, rfl⟩ 0 0 rfl rfl (Nat.le_of_ble_eq_true rfl) (Nat.le_of_ble_eq_true rfl) rfl (Nat.le_of_ble_eq_true rfl) dX6_isBack_78 81 rfl ?_
      refine r_ifeq hC 106 dX6_isBack_81 (by decide) 84 rfl (fun c5 => ?_) (fun c5 => ?_)
      · skip
        refine r_iinc hC 1 3 1 [(3, .int 1), (4, .int 1), (2, .int 2), (0, .ref (b 0)), (1, .int 1)] dX6_isBack_106 rfl (by decide) (Nat.le_of_ble_eq_true rfl) rfl 109 rfl ?_
        refine r_goto hC 9 dX6_isBack_109 (by decide) ?_
        refine rn.sub (lv' := [(3, .int 1), (2, .int 2), (0, .ref (b 0)), (1, .int 1)]) [0, 2, 3, 4] rfl ?_
        exact hT21 (by rw [← hz, trio_f2 (a := 2) (b := 0) (c := 1) (bI_n0.mp c4) (bI_0.mp c5)])
      · skip
        refine r_aload_n hC 3 dX6_isBack_84 rfl 85 rfl ?_
        refine r_get (v := .ref (b 2)) hC kX6 2 rfl q2755 (fun _ h => h.get 0 rfl) rfl dX6_isBack_85 88 rfl ?_
        refine r_iconst hC 2 dX6_isBack_88 ic_2 89 rfl ?_
        refine r_aload_n hC 3 dX6_isBack_89 rfl 90 rfl ?_
        refine r_get (v := .ref (b 1)) hC kX6 1 rfl q2754 (fun _ h => h.get 0 rfl) rfl dX6_isBack_90 93 rfl ?_
        refine r_iconst hC 3 dX6_isBack_93 ic_3 94 rfl ?_
        refine r_iload_n hC 2 dX6_isBack_94 rfl 95 rfl ?_
        refine r_isub hC 1 dX6_isBack_95  (by decide) 96 rfl ?_
        refine r_iload_n hC 1 dX6_isBack_96 rfl 97 rfl ?_
        refine r_isub hC 1 dX6_isBack_97  (by decide) 98 rfl ?_
        refine r_invSr hC [.ref (b 2), .int 2, .ref (b 1), .int 1] (.int (bI (likeQ th r 2 1))) mSX6_isLike q3257 (metX6_isLike _ _ hG (b 2) (b 1) th r 2 1 (by omega) (by omega) _ rfl) (fun _ h => h.in.sub [1, 2] rfl rfl) ⟨rfl, rfl⟩ 0 0 rfl rfl (Nat.le_of_ble_eq_true rfl) (Nat.le_of_ble_eq_true rfl) rfl (Nat.le_of_ble_eq_true rfl) dX6_isBack_98 101 rfl ?_
        refine r_ifeq hC 106 dX6_isBack_101 (by decide) 104 rfl (fun c6 => ?_) (fun c6 => ?_)
        · skip
          refine r_iinc hC 1 3 1 [(3, .int 1), (4, .int 1), (2, .int 2), (0, .ref (b 0)), (1, .int 1)] dX6_isBack_106 rfl (by decide) (Nat.le_of_ble_eq_true rfl) rfl 109 rfl ?_
          refine r_goto hC 9 dX6_isBack_109 (by decide) ?_
          refine rn.sub (lv' := [(3, .int 1), (2, .int 2), (0, .ref (b 0)), (1, .int 1)]) [0, 2, 3, 4] rfl ?_
          exact hT21 (by rw [← hz, trio_f3 (a := 2) (b := 0) (c := 1) (bI_n0.mp c4) (bI_n0.mp c5) (bI_0.mp c6)])
        · skip
          refine r_iconst hC 1 dX6_isBack_104 ic_1 105 rfl ?_
          exact r_zret hC (by decide) (Nat.le_of_ble_eq_true rfl) (Nat.le_of_ble_eq_true rfl) (fun V9 h => hQ _ _ ⟨by rw [← hz, trio_t (bI_n0.mp c4) (bI_n0.mp c5) (bI_n0.mp c6)]; rfl, h.1⟩) dX6_isBack_105
  have hT12 : bI (trioQ th r 1 2 0 || (trioQ th r 2 0 1 || (trioQ th r 2 1 0 || false))) = z → rn C (xRo [(b 0, .inr (5, mF b i j)), (b 2, .inl (1, 111, .inr (.inl th))), (b 1, .inl (1, 111, .inr (.inl r)))] V) 0 0 9 [(3, .int 2), (2, .int 1), (0, .ref (b 0)), (1, .int 1)] [] := by
    intro hz
    refine r_iload_n hC 0 dX6_isBack_9 rfl 10 rfl ?_
    refine r_iconst hC 3 dX6_isBack_10 ic_3 11 rfl ?_
    refine r_icge hC 112 dX6_isBack_11 (by decide) 14 rfl (fun h => absurd h (by decide)) (fun _ => ?_)
    refine r_iload_n hC 3 dX6_isBack_14 rfl 15 rfl ?_
    refine r_ifeq hC 31 dX6_isBack_15 (by decide) 18 rfl (fun h => absurd h (by decide)) (fun _ => ?_)
    refine r_iload_n hC 1 dX6_isBack_18 rfl 19 rfl ?_
    refine r_iload_n hC 0 dX6_isBack_19 rfl 20 rfl ?_
    refine r_iceq hC 27 dX6_isBack_20 (by decide) 23 rfl (fun h => absurd h (by decide)) (fun _ => ?_)
    refine r_iconst hC 1 dX6_isBack_23 ic_1 24 rfl ?_
    refine r_goto hC 45 dX6_isBack_24 (by decide) ?_
    refine r_istore hC 4 [(4, .int 1), (3, .int 2), (2, .int 1), (0, .ref (b 0)), (1, .int 1)] dX6_isBack_45 (Nat.le_of_ble_eq_true rfl) rfl 47 rfl ?_
    refine r_iload hC 0 dX6_isBack_47 rfl 49 rfl ?_
    refine r_ifeq hC 106 dX6_isBack_49 (by decide) 52 rfl (fun h => absurd h (by decide)) (fun _ => ?_)
    refine r_aload_n hC 3 dX6_isBack_52 rfl 53 rfl ?_
    refine r_get (v := .ref (b 2)) hC kX6 2 rfl q2755 (fun _ h => h.get 0 rfl) rfl dX6_isBack_53 56 rfl ?_
    refine r_iconst hC 0 dX6_isBack_56 ic_0 57 rfl ?_
    refine r_aload_n hC 3 dX6_isBack_57 rfl 58 rfl ?_
    refine r_get (v := .ref (b 1)) hC kX6 1 rfl q2754 (fun _ h => h.get 0 rfl) rfl dX6_isBack_58 61 rfl ?_
    refine r_iload_n hC 2 dX6_isBack_61 rfl 62 rfl ?_
    refine r_invSr hC [.ref (b 2), .int 0, .ref (b 1), .int 1] (.int (bI (likeQ th r 0 1))) mSX6_isLike q3257 (metX6_isLike _ _ hG (b 2) (b 1) th r 0 1 (by omega) (by omega) _ rfl) (fun _ h => h.in.sub [1, 2] rfl rfl) ⟨rfl, rfl⟩ 0 0 rfl rfl (Nat.le_of_ble_eq_true rfl) (Nat.le_of_ble_eq_true rfl) rfl (Nat.le_of_ble_eq_true rfl) dX6_isBack_62 65 rfl ?_
    refine r_ifeq hC 106 dX6_isBack_65 (by decide) 68 rfl (fun c7 => ?_) (fun c7 => ?_)
    · skip
      refine r_iinc hC 3 3 1 [(3, .int 3), (4, .int 1), (2, .int 1), (0, .ref (b 0)), (1, .int 1)] dX6_isBack_106 rfl (by decide) (Nat.le_of_ble_eq_true rfl) rfl 109 rfl ?_
      refine r_goto hC 9 dX6_isBack_109 (by decide) ?_
      refine r_iload_n hC 0 dX6_isBack_9 rfl 10 rfl ?_
      refine r_iconst hC 3 dX6_isBack_10 ic_3 11 rfl ?_
      refine r_icge hC 112 dX6_isBack_11 (by decide) 14 rfl (fun _ => ?_) (fun h => absurd h (by decide))
      refine r_iinc hC 2 2 2 [(2, .int 2), (3, .int 3), (4, .int 1), (0, .ref (b 0)), (1, .int 1)] dX6_isBack_112 rfl (by decide) (Nat.le_of_ble_eq_true rfl) rfl 115 rfl ?_
      refine r_goto hC 2 dX6_isBack_115 (by decide) ?_
      refine r_iload_n hC 0 dX6_isBack_2 rfl 3 rfl ?_
      refine r_iconst hC 3 dX6_isBack_3 ic_3 4 rfl ?_
      refine r_icge hC 118 dX6_isBack_4 (by decide) 7 rfl (fun h => absurd h (by decide)) (fun _ => ?_)
      refine r_iconst hC 0 dX6_isBack_7 ic_0 8 rfl ?_
      refine r_istore_n hC 3 [(3, .int 0), (2, .int 2), (4, .int 1), (0, .ref (b 0)), (1, .int 1)] dX6_isBack_8 rfl (Nat.le_of_ble_eq_true rfl) rfl 9 rfl ?_
      refine rn.sub (lv' := [(3, .int 0), (2, .int 2), (0, .ref (b 0)), (1, .int 1)]) [0, 1, 3, 4] rfl ?_
      exact hT20 (by rw [← hz, trio_f1 (a := 1) (b := 2) (c := 0) (bI_0.mp c7)])
    · skip
      refine r_aload_n hC 3 dX6_isBack_68 rfl 69 rfl ?_
      refine r_get (v := .ref (b 2)) hC kX6 2 rfl q2755 (fun _ h => h.get 0 rfl) rfl dX6_isBack_69 72 rfl ?_
      refine r_iconst hC 1 dX6_isBack_72 ic_1 73 rfl ?_
      refine r_aload_n hC 3 dX6_isBack_73 rfl 74 rfl ?_
      refine r_get (v := .ref (b 1)) hC kX6 1 rfl q2754 (fun _ h => h.get 0 rfl) rfl dX6_isBack_74 77 rfl ?_
      refine r_iload_n hC 1 dX6_isBack_77 rfl 78 rfl ?_
      refine r_invSr hC [.ref (b 2), .int 1, .ref (b 1), .int 2] (.int (bI (likeQ th r 1 2))) mSX6_isLike q3257 (metX6_isLike _ _ hG (b 2) (b 1) th r 1 2 (by omega) (by omega) _ rfl) (fun _ h => h.in.sub [1, 2] rfl rfl) ⟨rfl, rfl⟩ 0 0 rfl rfl (Nat.le_of_ble_eq_true rfl) (Nat.le_of_ble_eq_true rfl) rfl (Nat.le_of_ble_eq_true rfl) dX6_isBack_78 81 rfl ?_
      refine r_ifeq hC 106 dX6_isBack_81 (by decide) 84 rfl (fun c8 => ?_) (fun c8 => ?_)
      · skip
        refine r_iinc hC 3 3 1 [(3, .int 3), (4, .int 1), (2, .int 1), (0, .ref (b 0)), (1, .int 1)] dX6_isBack_106 rfl (by decide) (Nat.le_of_ble_eq_true rfl) rfl 109 rfl ?_
        refine r_goto hC 9 dX6_isBack_109 (by decide) ?_
        refine r_iload_n hC 0 dX6_isBack_9 rfl 10 rfl ?_
        refine r_iconst hC 3 dX6_isBack_10 ic_3 11 rfl ?_
        refine r_icge hC 112 dX6_isBack_11 (by decide) 14 rfl (fun _ => ?_) (fun h => absurd h (by decide))
        refine r_iinc hC 2 2 2 [(2, .int 2), (3, .int 3), (4, .int 1), (0, .ref (b 0)), (1, .int 1)] dX6_isBack_112 rfl (by decide) (Nat.le_of_ble_eq_true rfl) rfl 115 rfl ?_
        refine r_goto hC 2 dX6_isBack_115 (by decide) ?_
        refine r_iload_n hC 0 dX6_isBack_2 rfl 3 rfl ?_
        refine r_iconst hC 3 dX6_isBack_3 ic_3 4 rfl ?_
        refine r_icge hC 118 dX6_isBack_4 (by decide) 7 rfl (fun h => absurd h (by decide)) (fun _ => ?_)
        refine r_iconst hC 0 dX6_isBack_7 ic_0 8 rfl ?_
        refine r_istore_n hC 3 [(3, .int 0), (2, .int 2), (4, .int 1), (0, .ref (b 0)), (1, .int 1)] dX6_isBack_8 rfl (Nat.le_of_ble_eq_true rfl) rfl 9 rfl ?_
        refine rn.sub (lv' := [(3, .int 0), (2, .int 2), (0, .ref (b 0)), (1, .int 1)]) [0, 1, 3, 4] rfl ?_
        exact hT20 (by rw [← hz, trio_f2 (a := 1) (b := 2) (c := 0) (bI_n0.mp c7) (bI_0.mp c8)])
      · skip
        refine r_aload_n hC 3 dX6_isBack_84 rfl 85 rfl ?_
        refine r_get (v := .ref (b 2)) hC kX6 2 rfl q2755 (fun _ h => h.get 0 rfl) rfl dX6_isBack_85 88 rfl ?_
        refine r_iconst hC 2 dX6_isBack_88 ic_2 89 rfl ?_
        refine r_aload_n hC 3 dX6_isBack_89 rfl 90 rfl ?_
        refine r_get (v := .ref (b 1)) hC kX6 1 rfl q2754 (fun _ h => h.get 0 rfl) rfl dX6_isBack_90 93 rfl ?_
        refine r_iconst hC 3 dX6_isBack_93 ic_3 94 rfl ?_
        refine r_iload_n hC 2 dX6_isBack_94 rfl 95 rfl ?_
        refine r_isub hC 2 dX6_isBack_95  (by decide) 96 rfl ?_
        refine r_iload_n hC 1 dX6_isBack_96 rfl 97 rfl ?_
        refine r_isub hC 0 dX6_isBack_97  (by decide) 98 rfl ?_
        refine r_invSr hC [.ref (b 2), .int 2, .ref (b 1), .int 0] (.int (bI (likeQ th r 2 0))) mSX6_isLike q3257 (metX6_isLike _ _ hG (b 2) (b 1) th r 2 0 (by omega) (by omega) _ rfl) (fun _ h => h.in.sub [1, 2] rfl rfl) ⟨rfl, rfl⟩ 0 0 rfl rfl (Nat.le_of_ble_eq_true rfl) (Nat.le_of_ble_eq_true rfl) rfl (Nat.le_of_ble_eq_true rfl) dX6_isBack_98 101 rfl ?_
        refine r_ifeq hC 106 dX6_isBack_101 (by decide) 104 rfl (fun c9 => ?_) (fun c9 => ?_)
        · skip
          refine r_iinc hC 3 3 1 [(3, .int 3), (4, .int 1), (2, .int 1), (0, .ref (b 0)), (1, .int 1)] dX6_isBack_106 rfl (by decide) (Nat.le_of_ble_eq_true rfl) rfl 109 rfl ?_
          refine r_goto hC 9 dX6_isBack_109 (by decide) ?_
          refine r_iload_n hC 0 dX6_isBack_9 rfl 10 rfl ?_
          refine r_iconst hC 3 dX6_isBack_10 ic_3 11 rfl ?_
          refine r_icge hC 112 dX6_isBack_11 (by decide) 14 rfl (fun _ => ?_) (fun h => absurd h (by decide))
          refine r_iinc hC 2 2 2 [(2, .int 2), (3, .int 3), (4, .int 1), (0, .ref (b 0)), (1, .int 1)] dX6_isBack_112 rfl (by decide) (Nat.le_of_ble_eq_true rfl) rfl 115 rfl ?_
          refine r_goto hC 2 dX6_isBack_115 (by decide) ?_
          refine r_iload_n hC 0 dX6_isBack_2 rfl 3 rfl ?_
          refine r_iconst hC 3 dX6_isBack_3 ic_3 4 rfl ?_
          refine r_icge hC 118 dX6_isBack_4 (by decide) 7 rfl (fun h => absurd h (by decide)) (fun _ => ?_)
          refine r_iconst hC 0 dX6_isBack_7 ic_0 8 rfl ?_
          refine r_istore_n hC 3 [(3, .int 0), (2, .int 2), (4, .int 1), (0, .ref (b 0)), (1, .int 1)] dX6_isBack_8 rfl (Nat.le_of_ble_eq_true rfl) rfl 9 rfl ?_
          refine rn.sub (lv' := [(3, .int 0), (2, .int 2), (0, .ref (b 0)), (1, .int 1)]) [0, 1, 3, 4] rfl ?_
          exact hT20 (by rw [← hz, trio_f3 (a := 1) (b := 2) (c := 0) (bI_n0.mp c7) (bI_n0.mp c8) (bI_0.mp c9)])
        · skip
          refine r_iconst hC 1 dX6_isBack_104 ic_1 105 rfl ?_
          exact r_zret hC (by decide) (Nat.le_of_ble_eq_true rfl) (Nat.le_of_ble_eq_true rfl) (fun V9 h => hQ _ _ ⟨by rw [← hz, trio_t (bI_n0.mp c7) (bI_n0.mp c8) (bI_n0.mp c9)]; rfl, h.1⟩) dX6_isBack_105
  have hT11 : bI (trioQ th r 1 2 0 || (trioQ th r 2 0 1 || (trioQ th r 2 1 0 || false))) = z → rn C (xRo [(b 0, .inr (5, mF b i j)), (b 2, .inl (1, 111, .inr (.inl th))), (b 1, .inl (1, 111, .inr (.inl r)))] V) 0 0 9 [(3, .int 1), (2, .int 1), (0, .ref (b 0)), (1, .int 1)] [] := by
    intro hz
    refine r_iload_n hC 0 dX6_isBack_9 rfl 10 rfl ?_
    refine r_iconst hC 3 dX6_isBack_10 ic_3 11 rfl ?_
    refine r_icge hC 112 dX6_isBack_11 (by decide) 14 rfl (fun h => absurd h (by decide)) (fun _ => ?_)
    refine r_iload_n hC 3 dX6_isBack_14 rfl 15 rfl ?_
    refine r_ifeq hC 31 dX6_isBack_15 (by decide) 18 rfl (fun h => absurd h (by decide)) (fun _ => ?_)
    refine r_iload_n hC 1 dX6_isBack_18 rfl 19 rfl ?_
    refine r_iload_n hC 0 dX6_isBack_19 rfl 20 rfl ?_
    refine r_iceq hC 27 dX6_isBack_20 (by decide) 23 rfl (fun _ => ?_) (fun h => absurd h (by decide))
    refine r_iconst hC 0 dX6_isBack_27 ic_0 28 rfl ?_
    refine r_goto hC 45 dX6_isBack_28 (by decide) ?_
    refine r_istore hC 4 [(4, .int 0), (3, .int 1), (2, .int 1), (0, .ref (b 0)), (1, .int 1)] dX6_isBack_45 (Nat.le_of_ble_eq_true rfl) rfl 47 rfl ?_
    refine r_iload hC 0 dX6_isBack_47 rfl 49 rfl ?_
    refine r_ifeq hC 106 dX6_isBack_49 (by decide) 52 rfl (fun _ => ?_) (fun h => absurd h (by decide))
    refine r_iinc hC 2 3 1 [(3, .int 2), (4, .int 0), (2, .int 1), (0, .ref (b 0)), (1, .int 1)] dX6_isBack_106 rfl (by decide) (Nat.le_of_ble_eq_true rfl) rfl 109 rfl ?_
    refine r_goto hC 9 dX6_isBack_109 (by decide) ?_
    refine rn.sub (lv' := [(3, .int 2), (2, .int 1), (0, .ref (b 0)), (1, .int 1)]) [0, 2, 3, 4] rfl ?_
    exact hT12 hz
  have hT10 : bI (trioQ th r 1 0 2 || (trioQ th r 1 2 0 || (trioQ th r 2 0 1 || (trioQ th r 2 1 0 || false)))) = z → rn C (xRo [(b 0, .inr (5, mF b i j)), (b 2, .inl (1, 111, .inr (.inl th))), (b 1, .inl (1, 111, .inr (.inl r)))] V) 0 0 9 [(3, .int 0), (2, .int 1), (0, .ref (b 0)), (1, .int 1)] [] := by
    intro hz
    refine r_iload_n hC 0 dX6_isBack_9 rfl 10 rfl ?_
    refine r_iconst hC 3 dX6_isBack_10 ic_3 11 rfl ?_
    refine r_icge hC 112 dX6_isBack_11 (by decide) 14 rfl (fun h => absurd h (by decide)) (fun _ => ?_)
    refine r_iload_n hC 3 dX6_isBack_14 rfl 15 rfl ?_
    refine r_ifeq hC 31 dX6_isBack_15 (by decide) 18 rfl (fun h => absurd h (by decide)) (fun _ => ?_)
    refine r_iload_n hC 1 dX6_isBack_18 rfl 19 rfl ?_
    refine r_iload_n hC 0 dX6_isBack_19 rfl 20 rfl ?_
    refine r_iceq hC 27 dX6_isBack_20 (by decide) 23 rfl (fun h => absurd h (by decide)) (fun _ => ?_)
    refine r_iconst hC 1 dX6_isBack_23 ic_1 24 rfl ?_
    refine r_goto hC 45 dX6_isBack_24 (by decide) ?_
    refine r_istore hC 4 [(4, .int 1), (3, .int 0), (2, .int 1), (0, .ref (b 0)), (1, .int 1)] dX6_isBack_45 (Nat.le_of_ble_eq_true rfl) rfl 47 rfl ?_
    refine r_iload hC 0 dX6_isBack_47 rfl 49 rfl ?_
    refine r_ifeq hC 106 dX6_isBack_49 (by decide) 52 rfl (fun h => absurd h (by decide)) (fun _ => ?_)
    refine r_aload_n hC 3 dX6_isBack_52 rfl 53 rfl ?_
    refine r_get (v := .ref (b 2)) hC kX6 2 rfl q2755 (fun _ h => h.get 0 rfl) rfl dX6_isBack_53 56 rfl ?_
    refine r_iconst hC 0 dX6_isBack_56 ic_0 57 rfl ?_
    refine r_aload_n hC 3 dX6_isBack_57 rfl 58 rfl ?_
    refine r_get (v := .ref (b 1)) hC kX6 1 rfl q2754 (fun _ h => h.get 0 rfl) rfl dX6_isBack_58 61 rfl ?_
    refine r_iload_n hC 2 dX6_isBack_61 rfl 62 rfl ?_
    refine r_invSr hC [.ref (b 2), .int 0, .ref (b 1), .int 1] (.int (bI (likeQ th r 0 1))) mSX6_isLike q3257 (metX6_isLike _ _ hG (b 2) (b 1) th r 0 1 (by omega) (by omega) _ rfl) (fun _ h => h.in.sub [1, 2] rfl rfl) ⟨rfl, rfl⟩ 0 0 rfl rfl (Nat.le_of_ble_eq_true rfl) (Nat.le_of_ble_eq_true rfl) rfl (Nat.le_of_ble_eq_true rfl) dX6_isBack_62 65 rfl ?_
    refine r_ifeq hC 106 dX6_isBack_65 (by decide) 68 rfl (fun c10 => ?_) (fun c10 => ?_)
    · skip
      refine r_iinc hC 1 3 1 [(3, .int 1), (4, .int 1), (2, .int 1), (0, .ref (b 0)), (1, .int 1)] dX6_isBack_106 rfl (by decide) (Nat.le_of_ble_eq_true rfl) rfl 109 rfl ?_
      refine r_goto hC 9 dX6_isBack_109 (by decide) ?_
      refine rn.sub (lv' := [(3, .int 1), (2, .int 1), (0, .ref (b 0)), (1, .int 1)]) [0, 2, 3, 4] rfl ?_
      exact hT11 (by rw [← hz, trio_f1 (a := 1) (b := 0) (c := 2) (bI_0.mp c10)])
    · skip
      refine r_aload_n hC 3 dX6_isBack_68 rfl 69 rfl ?_
      refine r_get (v := .ref (b 2)) hC kX6 2 rfl q2755 (fun _ h => h.get 0 rfl) rfl dX6_isBack_69 72 rfl ?_
      refine r_iconst hC 1 dX6_isBack_72 ic_1 73 rfl ?_
      refine r_aload_n hC 3 dX6_isBack_73 rfl 74 rfl ?_
      refine r_get (v := .ref (b 1)) hC kX6 1 rfl q2754 (fun _ h => h.get 0 rfl) rfl dX6_isBack_74 77 rfl ?_
      refine r_iload_n hC 1 dX6_isBack_77 rfl 78 rfl ?_
      refine r_invSr hC [.ref (b 2), .int 1, .ref (b 1), .int 0] (.int (bI (likeQ th r 1 0))) mSX6_isLike q3257 (metX6_isLike _ _ hG (b 2) (b 1) th r 1 0 (by omega) (by omega) _ rfl) (fun _ h => h.in.sub [1, 2] rfl rfl) ⟨rfl, rfl⟩ 0 0 rfl rfl (Nat.le_of_ble_eq_true rfl) (Nat.le_of_ble_eq_true rfl) rfl (Nat.le_of_ble_eq_true rfl) dX6_isBack_78 81 rfl ?_
      refine r_ifeq hC 106 dX6_isBack_81 (by decide) 84 rfl (fun c11 => ?_) (fun c11 => ?_)
      · skip
        refine r_iinc hC 1 3 1 [(3, .int 1), (4, .int 1), (2, .int 1), (0, .ref (b 0)), (1, .int 1)] dX6_isBack_106 rfl (by decide) (Nat.le_of_ble_eq_true rfl) rfl 109 rfl ?_
        refine r_goto hC 9 dX6_isBack_109 (by decide) ?_
        refine rn.sub (lv' := [(3, .int 1), (2, .int 1), (0, .ref (b 0)), (1, .int 1)]) [0, 2, 3, 4] rfl ?_
        exact hT11 (by rw [← hz, trio_f2 (a := 1) (b := 0) (c := 2) (bI_n0.mp c10) (bI_0.mp c11)])
      · skip
        refine r_aload_n hC 3 dX6_isBack_84 rfl 85 rfl ?_
        refine r_get (v := .ref (b 2)) hC kX6 2 rfl q2755 (fun _ h => h.get 0 rfl) rfl dX6_isBack_85 88 rfl ?_
        refine r_iconst hC 2 dX6_isBack_88 ic_2 89 rfl ?_
        refine r_aload_n hC 3 dX6_isBack_89 rfl 90 rfl ?_
        refine r_get (v := .ref (b 1)) hC kX6 1 rfl q2754 (fun _ h => h.get 0 rfl) rfl dX6_isBack_90 93 rfl ?_
        refine r_iconst hC 3 dX6_isBack_93 ic_3 94 rfl ?_
        refine r_iload_n hC 2 dX6_isBack_94 rfl 95 rfl ?_
        refine r_isub hC 2 dX6_isBack_95  (by decide) 96 rfl ?_
        refine r_iload_n hC 1 dX6_isBack_96 rfl 97 rfl ?_
        refine r_isub hC 2 dX6_isBack_97  (by decide) 98 rfl ?_
        refine r_invSr hC [.ref (b 2), .int 2, .ref (b 1), .int 2] (.int (bI (likeQ th r 2 2))) mSX6_isLike q3257 (metX6_isLike _ _ hG (b 2) (b 1) th r 2 2 (by omega) (by omega) _ rfl) (fun _ h => h.in.sub [1, 2] rfl rfl) ⟨rfl, rfl⟩ 0 0 rfl rfl (Nat.le_of_ble_eq_true rfl) (Nat.le_of_ble_eq_true rfl) rfl (Nat.le_of_ble_eq_true rfl) dX6_isBack_98 101 rfl ?_
        refine r_ifeq hC 106 dX6_isBack_101 (by decide) 104 rfl (fun c12 => ?_) (fun c12 => ?_)
        · skip
          refine r_iinc hC 1 3 1 [(3, .int 1), (4, .int 1), (2, .int 1), (0, .ref (b 0)), (1, .int 1)] dX6_isBack_106 rfl (by decide) (Nat.le_of_ble_eq_true rfl) rfl 109 rfl ?_
          refine r_goto hC 9 dX6_isBack_109 (by decide) ?_
          refine rn.sub (lv' := [(3, .int 1), (2, .int 1), (0, .ref (b 0)), (1, .int 1)]) [0, 2, 3, 4] rfl ?_
          exact hT11 (by rw [← hz, trio_f3 (a := 1) (b := 0) (c := 2) (bI_n0.mp c10) (bI_n0.mp c11) (bI_0.mp c12)])
        · skip
          refine r_iconst hC 1 dX6_isBack_104 ic_1 105 rfl ?_
          exact r_zret hC (by decide) (Nat.le_of_ble_eq_true rfl) (Nat.le_of_ble_eq_true rfl) (fun V9 h => hQ _ _ ⟨by rw [← hz, trio_t (bI_n0.mp c10) (bI_n0.mp c11) (bI_n0.mp c12)]; rfl, h.1⟩) dX6_isBack_105
  have hT02 : bI (trioQ th r 0 2 1 || (trioQ th r 1 0 2 || (trioQ th r 1 2 0 || (trioQ th r 2 0 1 || (trioQ th r 2 1 0 || false))))) = z → rn C (xRo [(b 0, .inr (5, mF b i j)), (b 2, .inl (1, 111, .inr (.inl th))), (b 1, .inl (1, 111, .inr (.inl r)))] V) 0 0 9 [(3, .int 2), (2, .int 0), (0, .ref (b 0)), (1, .int 1)] [] := by
    intro hz
    refine r_iload_n hC 0 dX6_isBack_9 rfl 10 rfl ?_
    refine r_iconst hC 3 dX6_isBack_10 ic_3 11 rfl ?_
    refine r_icge hC 112 dX6_isBack_11 (by decide) 14 rfl (fun h => absurd h (by decide)) (fun _ => ?_)
    refine r_iload_n hC 3 dX6_isBack_14 rfl 15 rfl ?_
    refine r_ifeq hC 31 dX6_isBack_15 (by decide) 18 rfl (fun h => absurd h (by decide)) (fun _ => ?_)
    refine r_iload_n hC 1 dX6_isBack_18 rfl 19 rfl ?_
    refine r_iload_n hC 0 dX6_isBack_19 rfl 20 rfl ?_
    refine r_iceq hC 27 dX6_isBack_20 (by decide) 23 rfl (fun h => absurd h (by decide)) (fun _ => ?_)
    refine r_iconst hC 1 dX6_isBack_23 ic_1 24 rfl ?_
    refine r_goto hC 45 dX6_isBack_24 (by decide) ?_
    refine r_istore hC 4 [(4, .int 1), (3, .int 2), (2, .int 0), (0, .ref (b 0)), (1, .int 1)] dX6_isBack_45 (Nat.le_of_ble_eq_true rfl) rfl 47 rfl ?_
    refine r_iload hC 0 dX6_isBack_47 rfl 49 rfl ?_
    refine r_ifeq hC 106 dX6_isBack_49 (by decide) 52 rfl (fun h => absurd h (by decide)) (fun _ => ?_)
    refine r_aload_n hC 3 dX6_isBack_52 rfl 53 rfl ?_
    refine r_get (v := .ref (b 2)) hC kX6 2 rfl q2755 (fun _ h => h.get 0 rfl) rfl dX6_isBack_53 56 rfl ?_
    refine r_iconst hC 0 dX6_isBack_56 ic_0 57 rfl ?_
    refine r_aload_n hC 3 dX6_isBack_57 rfl 58 rfl ?_
    refine r_get (v := .ref (b 1)) hC kX6 1 rfl q2754 (fun _ h => h.get 0 rfl) rfl dX6_isBack_58 61 rfl ?_
    refine r_iload_n hC 2 dX6_isBack_61 rfl 62 rfl ?_
    refine r_invSr hC [.ref (b 2), .int 0, .ref (b 1), .int 0] (.int (bI (likeQ th r 0 0))) mSX6_isLike q3257 (metX6_isLike _ _ hG (b 2) (b 1) th r 0 0 (by omega) (by omega) _ rfl) (fun _ h => h.in.sub [1, 2] rfl rfl) ⟨rfl, rfl⟩ 0 0 rfl rfl (Nat.le_of_ble_eq_true rfl) (Nat.le_of_ble_eq_true rfl) rfl (Nat.le_of_ble_eq_true rfl) dX6_isBack_62 65 rfl ?_
    refine r_ifeq hC 106 dX6_isBack_65 (by decide) 68 rfl (fun c13 => ?_) (fun c13 => ?_)
    · skip
      refine r_iinc hC 3 3 1 [(3, .int 3), (4, .int 1), (2, .int 0), (0, .ref (b 0)), (1, .int 1)] dX6_isBack_106 rfl (by decide) (Nat.le_of_ble_eq_true rfl) rfl 109 rfl ?_
      refine r_goto hC 9 dX6_isBack_109 (by decide) ?_
      refine r_iload_n hC 0 dX6_isBack_9 rfl 10 rfl ?_
      refine r_iconst hC 3 dX6_isBack_10 ic_3 11 rfl ?_
      refine r_icge hC 112 dX6_isBack_11 (by decide) 14 rfl (fun _ => ?_) (fun h => absurd h (by decide))
      refine r_iinc hC 1 2 2 [(2, .int 1), (3, .int 3), (4, .int 1), (0, .ref (b 0)), (1, .int 1)] dX6_isBack_112 rfl (by decide) (Nat.le_of_ble_eq_true rfl) rfl 115 rfl ?_
      refine r_goto hC 2 dX6_isBack_115 (by decide) ?_
      refine r_iload_n hC 0 dX6_isBack_2 rfl 3 rfl ?_
      refine r_iconst hC 3 dX6_isBack_3 ic_3 4 rfl ?_
      refine r_icge hC 118 dX6_isBack_4 (by decide) 7 rfl (fun h => absurd h (by decide)) (fun _ => ?_)
      refine r_iconst hC 0 dX6_isBack_7 ic_0 8 rfl ?_
      refine r_istore_n hC 3 [(3, .int 0), (2, .int 1), (4, .int 1), (0, .ref (b 0)), (1, .int 1)] dX6_isBack_8 rfl (Nat.le_of_ble_eq_true rfl) rfl 9 rfl ?_
      refine rn.sub (lv' := [(3, .int 0), (2, .int 1), (0, .ref (b 0)), (1, .int 1)]) [0, 1, 3, 4] rfl ?_
      exact hT10 (by rw [← hz, trio_f1 (a := 0) (b := 2) (c := 1) (bI_0.mp c13)])
    · skip
      refine r_aload_n hC 3 dX6_isBack_68 rfl 69 rfl ?_
      refine r_get (v := .ref (b 2)) hC kX6 2 rfl q2755 (fun _ h => h.get 0 rfl) rfl dX6_isBack_69 72 rfl ?_
      refine r_iconst hC 1 dX6_isBack_72 ic_1 73 rfl ?_
      refine r_aload_n hC 3 dX6_isBack_73 rfl 74 rfl ?_
      refine r_get (v := .ref (b 1)) hC kX6 1 rfl q2754 (fun _ h => h.get 0 rfl) rfl dX6_isBack_74 77 rfl ?_
      refine r_iload_n hC 1 dX6_isBack_77 rfl 78 rfl ?_
      refine r_invSr hC [.ref (b 2), .int 1, .ref (b 1), .int 2] (.int (bI (likeQ th r 1 2))) mSX6_isLike q3257 (metX6_isLike _ _ hG (b 2) (b 1) th r 1 2 (by omega) (by omega) _ rfl) (fun _ h => h.in.sub [1, 2] rfl rfl) ⟨rfl, rfl⟩ 0 0 rfl rfl (Nat.le_of_ble_eq_true rfl) (Nat.le_of_ble_eq_true rfl) rfl (Nat.le_of_ble_eq_true rfl) dX6_isBack_78 81 rfl ?_
      refine r_ifeq hC 106 dX6_isBack_81 (by decide) 84 rfl (fun c14 => ?_) (fun c14 => ?_)
      · skip
        refine r_iinc hC 3 3 1 [(3, .int 3), (4, .int 1), (2, .int 0), (0, .ref (b 0)), (1, .int 1)] dX6_isBack_106 rfl (by decide) (Nat.le_of_ble_eq_true rfl) rfl 109 rfl ?_
        refine r_goto hC 9 dX6_isBack_109 (by decide) ?_
        refine r_iload_n hC 0 dX6_isBack_9 rfl 10 rfl ?_
        refine r_iconst hC 3 dX6_isBack_10 ic_3 11 rfl ?_
        refine r_icge hC 112 dX6_isBack_11 (by decide) 14 rfl (fun _ => ?_) (fun h => absurd h (by decide))
        refine r_iinc hC 1 2 2 [(2, .int 1), (3, .int 3), (4, .int 1), (0, .ref (b 0)), (1, .int 1)] dX6_isBack_112 rfl (by decide) (Nat.le_of_ble_eq_true rfl) rfl 115 rfl ?_
        refine r_goto hC 2 dX6_isBack_115 (by decide) ?_
        refine r_iload_n hC 0 dX6_isBack_2 rfl 3 rfl ?_
        refine r_iconst hC 3 dX6_isBack_3 ic_3 4 rfl ?_
        refine r_icge hC 118 dX6_isBack_4 (by decide) 7 rfl (fun h => absurd h (by decide)) (fun _ => ?_)
        refine r_iconst hC 0 dX6_isBack_7 ic_0 8 rfl ?_
        refine r_istore_n hC 3 [(3, .int 0), (2, .int 1), (4, .int 1), (0, .ref (b 0)), (1, .int 1)] dX6_isBack_8 rfl (Nat.le_of_ble_eq_true rfl) rfl 9 rfl ?_
        refine rn.sub (lv' := [(3, .int 0), (2, .int 1), (0, .ref (b 0)), (1, .int 1)]) [0, 1, 3, 4] rfl ?_
        exact hT10 (by rw [← hz, trio_f2 (a := 0) (b := 2) (c := 1) (bI_n0.mp c13) (bI_0.mp c14)])
      · skip
        refine r_aload_n hC 3 dX6_isBack_84 rfl 85 rfl ?_
        refine r_get (v := .ref (b 2)) hC kX6 2 rfl q2755 (fun _ h => h.get 0 rfl) rfl dX6_isBack_85 88 rfl ?_
        refine r_iconst hC 2 dX6_isBack_88 ic_2 89 rfl ?_
        refine r_aload_n hC 3 dX6_isBack_89 rfl 90 rfl ?_
        refine r_get (v := .ref (b 1)) hC kX6 1 rfl q2754 (fun _ h => h.get 0 rfl) rfl dX6_isBack_90 93 rfl ?_
        refine r_iconst hC 3 dX6_isBack_93 ic_3 94 rfl ?_
        refine r_iload_n hC 2 dX6_isBack_94 rfl 95 rfl ?_
        refine r_isub hC 3 dX6_isBack_95  (by decide) 96 rfl ?_
        refine r_iload_n hC 1 dX6_isBack_96 rfl 97 rfl ?_
        refine r_isub hC 1 dX6_isBack_97  (by decide) 98 rfl ?_
        refine r_invSr hC [.ref (b 2), .int 2, .ref (b 1), .int 1] (.int (bI (likeQ th r 2 1))) mSX6_isLike q3257 (metX6_isLike _ _ hG (b 2) (b 1) th r 2 1 (by omega) (by omega) _ rfl) (fun _ h => h.in.sub [1, 2] rfl rfl) ⟨rfl, rfl⟩ 0 0 rfl rfl (Nat.le_of_ble_eq_true rfl) (Nat.le_of_ble_eq_true rfl) rfl (Nat.le_of_ble_eq_true rfl) dX6_isBack_98 101 rfl ?_
        refine r_ifeq hC 106 dX6_isBack_101 (by decide) 104 rfl (fun c15 => ?_) (fun c15 => ?_)
        · skip
          refine r_iinc hC 3 3 1 [(3, .int 3), (4, .int 1), (2, .int 0), (0, .ref (b 0)), (1, .int 1)] dX6_isBack_106 rfl (by decide) (Nat.le_of_ble_eq_true rfl) rfl 109 rfl ?_
          refine r_goto hC 9 dX6_isBack_109 (by decide) ?_
          refine r_iload_n hC 0 dX6_isBack_9 rfl 10 rfl ?_
          refine r_iconst hC 3 dX6_isBack_10 ic_3 11 rfl ?_
          refine r_icge hC 112 dX6_isBack_11 (by decide) 14 rfl (fun _ => ?_) (fun h => absurd h (by decide))
          refine r_iinc hC 1 2 2 [(2, .int 1), (3, .int 3), (4, .int 1), (0, .ref (b 0)), (1, .int 1)] dX6_isBack_112 rfl (by decide) (Nat.le_of_ble_eq_true rfl) rfl 115 rfl ?_
          refine r_goto hC 2 dX6_isBack_115 (by decide) ?_
          refine r_iload_n hC 0 dX6_isBack_2 rfl 3 rfl ?_
          refine r_iconst hC 3 dX6_isBack_3 ic_3 4 rfl ?_
          refine r_icge hC 118 dX6_isBack_4 (by decide) 7 rfl (fun h => absurd h (by decide)) (fun _ => ?_)
          refine r_iconst hC 0 dX6_isBack_7 ic_0 8 rfl ?_
          refine r_istore_n hC 3 [(3, .int 0), (2, .int 1), (4, .int 1), (0, .ref (b 0)), (1, .int 1)] dX6_isBack_8 rfl (Nat.le_of_ble_eq_true rfl) rfl 9 rfl ?_
          refine rn.sub (lv' := [(3, .int 0), (2, .int 1), (0, .ref (b 0)), (1, .int 1)]) [0, 1, 3, 4] rfl ?_
          exact hT10 (by rw [← hz, trio_f3 (a := 0) (b := 2) (c := 1) (bI_n0.mp c13) (bI_n0.mp c14) (bI_0.mp c15)])
        · skip
          refine r_iconst hC 1 dX6_isBack_104 ic_1 105 rfl ?_
          exact r_zret hC (by decide) (Nat.le_of_ble_eq_true rfl) (Nat.le_of_ble_eq_true rfl) (fun V9 h => hQ _ _ ⟨by rw [← hz, trio_t (bI_n0.mp c13) (bI_n0.mp c14) (bI_n0.mp c15)]; rfl, h.1⟩) dX6_isBack_105
  have hT01 : bI (trioQ th r 0 1 2 || (trioQ th r 0 2 1 || (trioQ th r 1 0 2 || (trioQ th r 1 2 0 || (trioQ th r 2 0 1 || (trioQ th r 2 1 0 || false)))))) = z → rn C (xRo [(b 0, .inr (5, mF b i j)), (b 2, .inl (1, 111, .inr (.inl th))), (b 1, .inl (1, 111, .inr (.inl r)))] V) 0 0 9 [(3, .int 1), (2, .int 0), (0, .ref (b 0)), (1, .int 1)] [] := by
    intro hz
    refine r_iload_n hC 0 dX6_isBack_9 rfl 10 rfl ?_
    refine r_iconst hC 3 dX6_isBack_10 ic_3 11 rfl ?_
    refine r_icge hC 112 dX6_isBack_11 (by decide) 14 rfl (fun h => absurd h (by decide)) (fun _ => ?_)
    refine r_iload_n hC 3 dX6_isBack_14 rfl 15 rfl ?_
    refine r_ifeq hC 31 dX6_isBack_15 (by decide) 18 rfl (fun h => absurd h (by decide)) (fun _ => ?_)
    refine r_iload_n hC 1 dX6_isBack_18 rfl 19 rfl ?_
    refine r_iload_n hC 0 dX6_isBack_19 rfl 20 rfl ?_
    refine r_iceq hC 27 dX6_isBack_20 (by decide) 23 rfl (fun h => absurd h (by decide)) (fun _ => ?_)
    refine r_iconst hC 1 dX6_isBack_23 ic_1 24 rfl ?_
    refine r_goto hC 45 dX6_isBack_24 (by decide) ?_
    refine r_istore hC 4 [(4, .int 1), (3, .int 1), (2, .int 0), (0, .ref (b 0)), (1, .int 1)] dX6_isBack_45 (Nat.le_of_ble_eq_true rfl) rfl 47 rfl ?_
    refine r_iload hC 0 dX6_isBack_47 rfl 49 rfl ?_
    refine r_ifeq hC 106 dX6_isBack_49 (by decide) 52 rfl (fun h => absurd h (by decide)) (fun _ => ?_)
    refine r_aload_n hC 3 dX6_isBack_52 rfl 53 rfl ?_
    refine r_get (v := .ref (b 2)) hC kX6 2 rfl q2755 (fun _ h => h.get 0 rfl) rfl dX6_isBack_53 56 rfl ?_
    refine r_iconst hC 0 dX6_isBack_56 ic_0 57 rfl ?_
    refine r_aload_n hC 3 dX6_isBack_57 rfl 58 rfl ?_
    refine r_get (v := .ref (b 1)) hC kX6 1 rfl q2754 (fun _ h => h.get 0 rfl) rfl dX6_isBack_58 61 rfl ?_
    refine r_iload_n hC 2 dX6_isBack_61 rfl 62 rfl ?_
    refine r_invSr hC [.ref (b 2), .int 0, .ref (b 1), .int 0] (.int (bI (likeQ th r 0 0))) mSX6_isLike q3257 (metX6_isLike _ _ hG (b 2) (b 1) th r 0 0 (by omega) (by omega) _ rfl) (fun _ h => h.in.sub [1, 2] rfl rfl) ⟨rfl, rfl⟩ 0 0 rfl rfl (Nat.le_of_ble_eq_true rfl) (Nat.le_of_ble_eq_true rfl) rfl (Nat.le_of_ble_eq_true rfl) dX6_isBack_62 65 rfl ?_
    refine r_ifeq hC 106 dX6_isBack_65 (by decide) 68 rfl (fun c16 => ?_) (fun c16 => ?_)
    · skip
      refine r_iinc hC 2 3 1 [(3, .int 2), (4, .int 1), (2, .int 0), (0, .ref (b 0)), (1, .int 1)] dX6_isBack_106 rfl (by decide) (Nat.le_of_ble_eq_true rfl) rfl 109 rfl ?_
      refine r_goto hC 9 dX6_isBack_109 (by decide) ?_
      refine rn.sub (lv' := [(3, .int 2), (2, .int 0), (0, .ref (b 0)), (1, .int 1)]) [0, 2, 3, 4] rfl ?_
      exact hT02 (by rw [← hz, trio_f1 (a := 0) (b := 1) (c := 2) (bI_0.mp c16)])
    · skip
      refine r_aload_n hC 3 dX6_isBack_68 rfl 69 rfl ?_
      refine r_get (v := .ref (b 2)) hC kX6 2 rfl q2755 (fun _ h => h.get 0 rfl) rfl dX6_isBack_69 72 rfl ?_
      refine r_iconst hC 1 dX6_isBack_72 ic_1 73 rfl ?_
      refine r_aload_n hC 3 dX6_isBack_73 rfl 74 rfl ?_
      refine r_get (v := .ref (b 1)) hC kX6 1 rfl q2754 (fun _ h => h.get 0 rfl) rfl dX6_isBack_74 77 rfl ?_
      refine r_iload_n hC 1 dX6_isBack_77 rfl 78 rfl ?_
      refine r_invSr hC [.ref (b 2), .int 1, .ref (b 1), .int 1] (.int (bI (likeQ th r 1 1))) mSX6_isLike q3257 (metX6_isLike _ _ hG (b 2) (b 1) th r 1 1 (by omega) (by omega) _ rfl) (fun _ h => h.in.sub [1, 2] rfl rfl) ⟨rfl, rfl⟩ 0 0 rfl rfl (Nat.le_of_ble_eq_true rfl) (Nat.le_of_ble_eq_true rfl) rfl (Nat.le_of_ble_eq_true rfl) dX6_isBack_78 81 rfl ?_
      refine r_ifeq hC 106 dX6_isBack_81 (by decide) 84 rfl (fun c17 => ?_) (fun c17 => ?_)
      · skip
        refine r_iinc hC 2 3 1 [(3, .int 2), (4, .int 1), (2, .int 0), (0, .ref (b 0)), (1, .int 1)] dX6_isBack_106 rfl (by decide) (Nat.le_of_ble_eq_true rfl) rfl 109 rfl ?_
        refine r_goto hC 9 dX6_isBack_109 (by decide) ?_
        refine rn.sub (lv' := [(3, .int 2), (2, .int 0), (0, .ref (b 0)), (1, .int 1)]) [0, 2, 3, 4] rfl ?_
        exact hT02 (by rw [← hz, trio_f2 (a := 0) (b := 1) (c := 2) (bI_n0.mp c16) (bI_0.mp c17)])
      · skip
        refine r_aload_n hC 3 dX6_isBack_84 rfl 85 rfl ?_
        refine r_get (v := .ref (b 2)) hC kX6 2 rfl q2755 (fun _ h => h.get 0 rfl) rfl dX6_isBack_85 88 rfl ?_
        refine r_iconst hC 2 dX6_isBack_88 ic_2 89 rfl ?_
        refine r_aload_n hC 3 dX6_isBack_89 rfl 90 rfl ?_
        refine r_get (v := .ref (b 1)) hC kX6 1 rfl q2754 (fun _ h => h.get 0 rfl) rfl dX6_isBack_90 93 rfl ?_
        refine r_iconst hC 3 dX6_isBack_93 ic_3 94 rfl ?_
        refine r_iload_n hC 2 dX6_isBack_94 rfl 95 rfl ?_
        refine r_isub hC 3 dX6_isBack_95  (by decide) 96 rfl ?_
        refine r_iload_n hC 1 dX6_isBack_96 rfl 97 rfl ?_
        refine r_isub hC 2 dX6_isBack_97  (by decide) 98 rfl ?_
        refine r_invSr hC [.ref (b 2), .int 2, .ref (b 1), .int 2] (.int (bI (likeQ th r 2 2))) mSX6_isLike q3257 (metX6_isLike _ _ hG (b 2) (b 1) th r 2 2 (by omega) (by omega) _ rfl) (fun _ h => h.in.sub [1, 2] rfl rfl) ⟨rfl, rfl⟩ 0 0 rfl rfl (Nat.le_of_ble_eq_true rfl) (Nat.le_of_ble_eq_true rfl) rfl (Nat.le_of_ble_eq_true rfl) dX6_isBack_98 101 rfl ?_
        refine r_ifeq hC 106 dX6_isBack_101 (by decide) 104 rfl (fun c18 => ?_) (fun c18 => ?_)
        · skip
          refine r_iinc hC 2 3 1 [(3, .int 2), (4, .int 1), (2, .int 0), (0, .ref (b 0)), (1, .int 1)] dX6_isBack_106 rfl (by decide) (Nat.le_of_ble_eq_true rfl) rfl 109 rfl ?_
          refine r_goto hC 9 dX6_isBack_109 (by decide) ?_
          refine rn.sub (lv' := [(3, .int 2), (2, .int 0), (0, .ref (b 0)), (1, .int 1)]) [0, 2, 3, 4] rfl ?_
          exact hT02 (by rw [← hz, trio_f3 (a := 0) (b := 1) (c := 2) (bI_n0.mp c16) (bI_n0.mp c17) (bI_0.mp c18)])
        · skip
          refine r_iconst hC 1 dX6_isBack_104 ic_1 105 rfl ?_
          exact r_zret hC (by decide) (Nat.le_of_ble_eq_true rfl) (Nat.le_of_ble_eq_true rfl) (fun V9 h => hQ _ _ ⟨by rw [← hz, trio_t (bI_n0.mp c16) (bI_n0.mp c17) (bI_n0.mp c18)]; rfl, h.1⟩) dX6_isBack_105
  have hT00 : bI (trioQ th r 0 1 2 || (trioQ th r 0 2 1 || (trioQ th r 1 0 2 || (trioQ th r 1 2 0 || (trioQ th r 2 0 1 || (trioQ th r 2 1 0 || false)))))) = z → rn C (xRo [(b 0, .inr (5, mF b i j)), (b 2, .inl (1, 111, .inr (.inl th))), (b 1, .inl (1, 111, .inr (.inl r)))] V) 0 0 9 [(3, .int 0), (2, .int 0), (0, .ref (b 0)), (1, .int 1)] [] := by
    intro hz
    refine r_iload_n hC 0 dX6_isBack_9 rfl 10 rfl ?_
    refine r_iconst hC 3 dX6_isBack_10 ic_3 11 rfl ?_
    refine r_icge hC 112 dX6_isBack_11 (by decide) 14 rfl (fun h => absurd h (by decide)) (fun _ => ?_)
    refine r_iload_n hC 3 dX6_isBack_14 rfl 15 rfl ?_
    refine r_ifeq hC 31 dX6_isBack_15 (by decide) 18 rfl (fun h => absurd h (by decide)) (fun _ => ?_)
    refine r_iload_n hC 1 dX6_isBack_18 rfl 19 rfl ?_
    refine r_iload_n hC 0 dX6_isBack_19 rfl 20 rfl ?_
    refine r_iceq hC 27 dX6_isBack_20 (by decide) 23 rfl (fun _ => ?_) (fun h => absurd h (by decide))
    refine r_iconst hC 0 dX6_isBack_27 ic_0 28 rfl ?_
    refine r_goto hC 45 dX6_isBack_28 (by decide) ?_
    refine r_istore hC 4 [(4, .int 0), (3, .int 0), (2, .int 0), (0, .ref (b 0)), (1, .int 1)] dX6_isBack_45 (Nat.le_of_ble_eq_true rfl) rfl 47 rfl ?_
    refine r_iload hC 0 dX6_isBack_47 rfl 49 rfl ?_
    refine r_ifeq hC 106 dX6_isBack_49 (by decide) 52 rfl (fun _ => ?_) (fun h => absurd h (by decide))
    refine r_iinc hC 1 3 1 [(3, .int 1), (4, .int 0), (2, .int 0), (0, .ref (b 0)), (1, .int 1)] dX6_isBack_106 rfl (by decide) (Nat.le_of_ble_eq_true rfl) rfl 109 rfl ?_
    refine r_goto hC 9 dX6_isBack_109 (by decide) ?_
    refine rn.sub (lv' := [(3, .int 1), (2, .int 0), (0, .ref (b 0)), (1, .int 1)]) [0, 2, 3, 4] rfl ?_
    exact hT01 hz
  exact hT00 hz
set_option maxHeartbeats 4000000 in
set_option maxRecDepth 100000 in
theorem metX6_isBack0 (l : Launch) (G : xG) (hG : xGood G) (b : Nat → Nat) (i : Nat → Int32) (j : Nat → Int64) (th r : Nat → Int64) (z : Int32) (hz : bI (trioQ th r 0 1 2 || false) = z) : xRm l G yX6_isBack (Cond.code yX6_isBack cX6_isBack 5 (some .boolean)) { frames := 2, locals := 45, cells := 0, slots := 0 } [.ref (b 0), .int 0] [(b 0, .inr (5, mF b i j)), (b 2, .inl (1, 111, .inr (.inl th))), (b 1, .inl (1, 111, .inr (.inl r)))] (some (.int z)) := by
  intro V hV
  refine xMet_of RX6 hG rfl (by decide) (Nat.le_of_ble_eq_true rfl) fun C hC hQ hX hl hg _ => ?_
  subst hl hg
  refine rn.mono (J := xRo [(b 0, .inr (5, mF b i j)), (b 2, .inl (1, 111, .inr (.inl th))), (b 1, .inl (1, 111, .inr (.inl r)))] V) (fun V9 h => ⟨h, hV⟩) ?_
  show rn C (xRo [(b 0, .inr (5, mF b i j)), (b 2, .inl (1, 111, .inr (.inl th))), (b 1, .inl (1, 111, .inr (.inl r)))] V) 0 0 0 [(0, .ref (b 0)), (1, .int 0)] []
  refine r_iconst hC 0 dX6_isBack_0 ic_0 1 rfl ?_
  refine r_istore_n hC 2 [(2, .int 0), (0, .ref (b 0)), (1, .int 0)] dX6_isBack_1 rfl (Nat.le_of_ble_eq_true rfl) rfl 2 rfl ?_
  refine r_iload_n hC 0 dX6_isBack_2 rfl 3 rfl ?_
  refine r_iconst hC 3 dX6_isBack_3 ic_3 4 rfl ?_
  refine r_icge hC 118 dX6_isBack_4 (by decide) 7 rfl (fun h => absurd h (by decide)) (fun _ => ?_)
  refine r_iconst hC 0 dX6_isBack_7 ic_0 8 rfl ?_
  refine r_istore_n hC 3 [(3, .int 0), (2, .int 0), (0, .ref (b 0)), (1, .int 0)] dX6_isBack_8 rfl (Nat.le_of_ble_eq_true rfl) rfl 9 rfl ?_
  refine rn.sub (lv' := [(3, .int 0), (2, .int 0), (0, .ref (b 0)), (1, .int 0)]) [0, 1, 2, 3] rfl ?_
  have hT22 : bI (false) = z → rn C (xRo [(b 0, .inr (5, mF b i j)), (b 2, .inl (1, 111, .inr (.inl th))), (b 1, .inl (1, 111, .inr (.inl r)))] V) 0 0 9 [(3, .int 2), (2, .int 2), (0, .ref (b 0)), (1, .int 0)] [] := by
    intro hz
    refine r_iload_n hC 0 dX6_isBack_9 rfl 10 rfl ?_
    refine r_iconst hC 3 dX6_isBack_10 ic_3 11 rfl ?_
    refine r_icge hC 112 dX6_isBack_11 (by decide) 14 rfl (fun h => absurd h (by decide)) (fun _ => ?_)
    refine r_iload_n hC 3 dX6_isBack_14 rfl 15 rfl ?_
    refine r_ifeq hC 31 dX6_isBack_15 (by decide) 18 rfl (fun _ => ?_) (fun h => absurd h (by decide))
    refine r_iload_n hC 1 dX6_isBack_31 rfl 32 rfl ?_
    refine r_ifne hC 44 dX6_isBack_32 (by decide) 35 rfl (fun _ => ?_) (fun h => absurd h (by decide))
    refine r_iconst hC 0 dX6_isBack_44 ic_0 45 rfl ?_
    refine r_istore hC 4 [(4, .int 0), (3, .int 2), (2, .int 2), (0, .ref (b 0)), (1, .int 0)] dX6_isBack_45 (Nat.le_of_ble_eq_true rfl) rfl 47 rfl ?_
    refine r_iload hC 0 dX6_isBack_47 rfl 49 rfl ?_
    refine r_ifeq hC 106 dX6_isBack_49 (by decide) 52 rfl (fun _ => ?_) (fun h => absurd h (by decide))
    refine r_iinc hC 3 3 1 [(3, .int 3), (4, .int 0), (2, .int 2), (0, .ref (b 0)), (1, .int 0)] dX6_isBack_106 rfl (by decide) (Nat.le_of_ble_eq_true rfl) rfl 109 rfl ?_
    refine r_goto hC 9 dX6_isBack_109 (by decide) ?_
    refine r_iload_n hC 0 dX6_isBack_9 rfl 10 rfl ?_
    refine r_iconst hC 3 dX6_isBack_10 ic_3 11 rfl ?_
    refine r_icge hC 112 dX6_isBack_11 (by decide) 14 rfl (fun _ => ?_) (fun h => absurd h (by decide))
    refine r_iinc hC 3 2 2 [(2, .int 3), (3, .int 3), (4, .int 0), (0, .ref (b 0)), (1, .int 0)] dX6_isBack_112 rfl (by decide) (Nat.le_of_ble_eq_true rfl) rfl 115 rfl ?_
    refine r_goto hC 2 dX6_isBack_115 (by decide) ?_
    refine r_iload_n hC 0 dX6_isBack_2 rfl 3 rfl ?_
    refine r_iconst hC 3 dX6_isBack_3 ic_3 4 rfl ?_
    refine r_icge hC 118 dX6_isBack_4 (by decide) 7 rfl (fun _ => ?_) (fun h => absurd h (by decide))
    refine r_iconst hC 0 dX6_isBack_118 ic_0 119 rfl ?_
    exact r_zret hC (by decide) (Nat.le_of_ble_eq_true rfl) (Nat.le_of_ble_eq_true rfl) (fun V9 h => hQ _ _ ⟨by rw [← hz]; rfl, h.1⟩) dX6_isBack_119
  have hT21 : bI (false) = z → rn C (xRo [(b 0, .inr (5, mF b i j)), (b 2, .inl (1, 111, .inr (.inl th))), (b 1, .inl (1, 111, .inr (.inl r)))] V) 0 0 9 [(3, .int 1), (2, .int 2), (0, .ref (b 0)), (1, .int 0)] [] := by
    intro hz
    refine r_iload_n hC 0 dX6_isBack_9 rfl 10 rfl ?_
    refine r_iconst hC 3 dX6_isBack_10 ic_3 11 rfl ?_
    refine r_icge hC 112 dX6_isBack_11 (by decide) 14 rfl (fun h => absurd h (by decide)) (fun _ => ?_)
    refine r_iload_n hC 3 dX6_isBack_14 rfl 15 rfl ?_
    refine r_ifeq hC 31 dX6_isBack_15 (by decide) 18 rfl (fun _ => ?_) (fun h => absurd h (by decide))
    refine r_iload_n hC 1 dX6_isBack_31 rfl 32 rfl ?_
    refine r_ifne hC 44 dX6_isBack_32 (by decide) 35 rfl (fun _ => ?_) (fun h => absurd h (by decide))
    refine r_iconst hC 0 dX6_isBack_44 ic_0 45 rfl ?_
    refine r_istore hC 4 [(4, .int 0), (3, .int 1), (2, .int 2), (0, .ref (b 0)), (1, .int 0)] dX6_isBack_45 (Nat.le_of_ble_eq_true rfl) rfl 47 rfl ?_
    refine r_iload hC 0 dX6_isBack_47 rfl 49 rfl ?_
    refine r_ifeq hC 106 dX6_isBack_49 (by decide) 52 rfl (fun _ => ?_) (fun h => absurd h (by decide))
    refine r_iinc hC 2 3 1 [(3, .int 2), (4, .int 0), (2, .int 2), (0, .ref (b 0)), (1, .int 0)] dX6_isBack_106 rfl (by decide) (Nat.le_of_ble_eq_true rfl) rfl 109 rfl ?_
    refine r_goto hC 9 dX6_isBack_109 (by decide) ?_
    refine rn.sub (lv' := [(3, .int 2), (2, .int 2), (0, .ref (b 0)), (1, .int 0)]) [0, 2, 3, 4] rfl ?_
    exact hT22 hz
  have hT20 : bI (false) = z → rn C (xRo [(b 0, .inr (5, mF b i j)), (b 2, .inl (1, 111, .inr (.inl th))), (b 1, .inl (1, 111, .inr (.inl r)))] V) 0 0 9 [(3, .int 0), (2, .int 2), (0, .ref (b 0)), (1, .int 0)] [] := by
    intro hz
    refine r_iload_n hC 0 dX6_isBack_9 rfl 10 rfl ?_
    refine r_iconst hC 3 dX6_isBack_10 ic_3 11 rfl ?_
    refine r_icge hC 112 dX6_isBack_11 (by decide) 14 rfl (fun h => absurd h (by decide)) (fun _ => ?_)
    refine r_iload_n hC 3 dX6_isBack_14 rfl 15 rfl ?_
    refine r_ifeq hC 31 dX6_isBack_15 (by decide) 18 rfl (fun _ => ?_) (fun h => absurd h (by decide))
    refine r_iload_n hC 1 dX6_isBack_31 rfl 32 rfl ?_
    refine r_ifne hC 44 dX6_isBack_32 (by decide) 35 rfl (fun _ => ?_) (fun h => absurd h (by decide))
    refine r_iconst hC 0 dX6_isBack_44 ic_0 45 rfl ?_
    refine r_istore hC 4 [(4, .int 0), (3, .int 0), (2, .int 2), (0, .ref (b 0)), (1, .int 0)] dX6_isBack_45 (Nat.le_of_ble_eq_true rfl) rfl 47 rfl ?_
    refine r_iload hC 0 dX6_isBack_47 rfl 49 rfl ?_
    refine r_ifeq hC 106 dX6_isBack_49 (by decide) 52 rfl (fun _ => ?_) (fun h => absurd h (by decide))
    refine r_iinc hC 1 3 1 [(3, .int 1), (4, .int 0), (2, .int 2), (0, .ref (b 0)), (1, .int 0)] dX6_isBack_106 rfl (by decide) (Nat.le_of_ble_eq_true rfl) rfl 109 rfl ?_
    refine r_goto hC 9 dX6_isBack_109 (by decide) ?_
    refine rn.sub (lv' := [(3, .int 1), (2, .int 2), (0, .ref (b 0)), (1, .int 0)]) [0, 2, 3, 4] rfl ?_
    exact hT21 hz
  have hT12 : bI (false) = z → rn C (xRo [(b 0, .inr (5, mF b i j)), (b 2, .inl (1, 111, .inr (.inl th))), (b 1, .inl (1, 111, .inr (.inl r)))] V) 0 0 9 [(3, .int 2), (2, .int 1), (0, .ref (b 0)), (1, .int 0)] [] := by
    intro hz
    refine r_iload_n hC 0 dX6_isBack_9 rfl 10 rfl ?_
    refine r_iconst hC 3 dX6_isBack_10 ic_3 11 rfl ?_
    refine r_icge hC 112 dX6_isBack_11 (by decide) 14 rfl (fun h => absurd h (by decide)) (fun _ => ?_)
    refine r_iload_n hC 3 dX6_isBack_14 rfl 15 rfl ?_
    refine r_ifeq hC 31 dX6_isBack_15 (by decide) 18 rfl (fun _ => ?_) (fun h => absurd h (by decide))
    refine r_iload_n hC 1 dX6_isBack_31 rfl 32 rfl ?_
    refine r_ifne hC 44 dX6_isBack_32 (by decide) 35 rfl (fun _ => ?_) (fun h => absurd h (by decide))
    refine r_iconst hC 0 dX6_isBack_44 ic_0 45 rfl ?_
    refine r_istore hC 4 [(4, .int 0), (3, .int 2), (2, .int 1), (0, .ref (b 0)), (1, .int 0)] dX6_isBack_45 (Nat.le_of_ble_eq_true rfl) rfl 47 rfl ?_
    refine r_iload hC 0 dX6_isBack_47 rfl 49 rfl ?_
    refine r_ifeq hC 106 dX6_isBack_49 (by decide) 52 rfl (fun _ => ?_) (fun h => absurd h (by decide))
    refine r_iinc hC 3 3 1 [(3, .int 3), (4, .int 0), (2, .int 1), (0, .ref (b 0)), (1, .int 0)] dX6_isBack_106 rfl (by decide) (Nat.le_of_ble_eq_true rfl) rfl 109 rfl ?_
    refine r_goto hC 9 dX6_isBack_109 (by decide) ?_
    refine r_iload_n hC 0 dX6_isBack_9 rfl 10 rfl ?_
    refine r_iconst hC 3 dX6_isBack_10 ic_3 11 rfl ?_
    refine r_icge hC 112 dX6_isBack_11 (by decide) 14 rfl (fun _ => ?_) (fun h => absurd h (by decide))
    refine r_iinc hC 2 2 2 [(2, .int 2), (3, .int 3), (4, .int 0), (0, .ref (b 0)), (1, .int 0)] dX6_isBack_112 rfl (by decide) (Nat.le_of_ble_eq_true rfl) rfl 115 rfl ?_
    refine r_goto hC 2 dX6_isBack_115 (by decide) ?_
    refine r_iload_n hC 0 dX6_isBack_2 rfl 3 rfl ?_
    refine r_iconst hC 3 dX6_isBack_3 ic_3 4 rfl ?_
    refine r_icge hC 118 dX6_isBack_4 (by decide) 7 rfl (fun h => absurd h (by decide)) (fun _ => ?_)
    refine r_iconst hC 0 dX6_isBack_7 ic_0 8 rfl ?_
    refine r_istore_n hC 3 [(3, .int 0), (2, .int 2), (4, .int 0), (0, .ref (b 0)), (1, .int 0)] dX6_isBack_8 rfl (Nat.le_of_ble_eq_true rfl) rfl 9 rfl ?_
    refine rn.sub (lv' := [(3, .int 0), (2, .int 2), (0, .ref (b 0)), (1, .int 0)]) [0, 1, 3, 4] rfl ?_
    exact hT20 hz
  have hT11 : bI (false) = z → rn C (xRo [(b 0, .inr (5, mF b i j)), (b 2, .inl (1, 111, .inr (.inl th))), (b 1, .inl (1, 111, .inr (.inl r)))] V) 0 0 9 [(3, .int 1), (2, .int 1), (0, .ref (b 0)), (1, .int 0)] [] := by
    intro hz
    refine r_iload_n hC 0 dX6_isBack_9 rfl 10 rfl ?_
    refine r_iconst hC 3 dX6_isBack_10 ic_3 11 rfl ?_
    refine r_icge hC 112 dX6_isBack_11 (by decide) 14 rfl (fun h => absurd h (by decide)) (fun _ => ?_)
    refine r_iload_n hC 3 dX6_isBack_14 rfl 15 rfl ?_
    refine r_ifeq hC 31 dX6_isBack_15 (by decide) 18 rfl (fun _ => ?_) (fun h => absurd h (by decide))
    refine r_iload_n hC 1 dX6_isBack_31 rfl 32 rfl ?_
    refine r_ifne hC 44 dX6_isBack_32 (by decide) 35 rfl (fun _ => ?_) (fun h => absurd h (by decide))
    refine r_iconst hC 0 dX6_isBack_44 ic_0 45 rfl ?_
    refine r_istore hC 4 [(4, .int 0), (3, .int 1), (2, .int 1), (0, .ref (b 0)), (1, .int 0)] dX6_isBack_45 (Nat.le_of_ble_eq_true rfl) rfl 47 rfl ?_
    refine r_iload hC 0 dX6_isBack_47 rfl 49 rfl ?_
    refine r_ifeq hC 106 dX6_isBack_49 (by decide) 52 rfl (fun _ => ?_) (fun h => absurd h (by decide))
    refine r_iinc hC 2 3 1 [(3, .int 2), (4, .int 0), (2, .int 1), (0, .ref (b 0)), (1, .int 0)] dX6_isBack_106 rfl (by decide) (Nat.le_of_ble_eq_true rfl) rfl 109 rfl ?_
    refine r_goto hC 9 dX6_isBack_109 (by decide) ?_
    refine rn.sub (lv' := [(3, .int 2), (2, .int 1), (0, .ref (b 0)), (1, .int 0)]) [0, 2, 3, 4] rfl ?_
    exact hT12 hz
  have hT10 : bI (false) = z → rn C (xRo [(b 0, .inr (5, mF b i j)), (b 2, .inl (1, 111, .inr (.inl th))), (b 1, .inl (1, 111, .inr (.inl r)))] V) 0 0 9 [(3, .int 0), (2, .int 1), (0, .ref (b 0)), (1, .int 0)] [] := by
    intro hz
    refine r_iload_n hC 0 dX6_isBack_9 rfl 10 rfl ?_
    refine r_iconst hC 3 dX6_isBack_10 ic_3 11 rfl ?_
    refine r_icge hC 112 dX6_isBack_11 (by decide) 14 rfl (fun h => absurd h (by decide)) (fun _ => ?_)
    refine r_iload_n hC 3 dX6_isBack_14 rfl 15 rfl ?_
    refine r_ifeq hC 31 dX6_isBack_15 (by decide) 18 rfl (fun _ => ?_) (fun h => absurd h (by decide))
    refine r_iload_n hC 1 dX6_isBack_31 rfl 32 rfl ?_
    refine r_ifne hC 44 dX6_isBack_32 (by decide) 35 rfl (fun _ => ?_) (fun h => absurd h (by decide))
    refine r_iconst hC 0 dX6_isBack_44 ic_0 45 rfl ?_
    refine r_istore hC 4 [(4, .int 0), (3, .int 0), (2, .int 1), (0, .ref (b 0)), (1, .int 0)] dX6_isBack_45 (Nat.le_of_ble_eq_true rfl) rfl 47 rfl ?_
    refine r_iload hC 0 dX6_isBack_47 rfl 49 rfl ?_
    refine r_ifeq hC 106 dX6_isBack_49 (by decide) 52 rfl (fun _ => ?_) (fun h => absurd h (by decide))
    refine r_iinc hC 1 3 1 [(3, .int 1), (4, .int 0), (2, .int 1), (0, .ref (b 0)), (1, .int 0)] dX6_isBack_106 rfl (by decide) (Nat.le_of_ble_eq_true rfl) rfl 109 rfl ?_
    refine r_goto hC 9 dX6_isBack_109 (by decide) ?_
    refine rn.sub (lv' := [(3, .int 1), (2, .int 1), (0, .ref (b 0)), (1, .int 0)]) [0, 2, 3, 4] rfl ?_
    exact hT11 hz
  have hT02 : bI (false) = z → rn C (xRo [(b 0, .inr (5, mF b i j)), (b 2, .inl (1, 111, .inr (.inl th))), (b 1, .inl (1, 111, .inr (.inl r)))] V) 0 0 9 [(3, .int 2), (2, .int 0), (0, .ref (b 0)), (1, .int 0)] [] := by
    intro hz
    refine r_iload_n hC 0 dX6_isBack_9 rfl 10 rfl ?_
    refine r_iconst hC 3 dX6_isBack_10 ic_3 11 rfl ?_
    refine r_icge hC 112 dX6_isBack_11 (by decide) 14 rfl (fun h => absurd h (by decide)) (fun _ => ?_)
    refine r_iload_n hC 3 dX6_isBack_14 rfl 15 rfl ?_
    refine r_ifeq hC 31 dX6_isBack_15 (by decide) 18 rfl (fun _ => ?_) (fun h => absurd h (by decide))
    refine r_iload_n hC 1 dX6_isBack_31 rfl 32 rfl ?_
    refine r_ifne hC 44 dX6_isBack_32 (by decide) 35 rfl (fun h => absurd h (by decide)) (fun _ => ?_)
    refine r_iload_n hC 0 dX6_isBack_35 rfl 36 rfl ?_
    refine r_iconst hC 1 dX6_isBack_36 ic_1 37 rfl ?_
    refine r_icne hC 44 dX6_isBack_37 (by decide) 40 rfl (fun _ => ?_) (fun h => absurd h (by decide))
    refine r_iconst hC 0 dX6_isBack_44 ic_0 45 rfl ?_
    refine r_istore hC 4 [(4, .int 0), (3, .int 2), (2, .int 0), (0, .ref (b 0)), (1, .int 0)] dX6_isBack_45 (Nat.le_of_ble_eq_true rfl) rfl 47 rfl ?_
    refine r_iload hC 0 dX6_isBack_47 rfl 49 rfl ?_
    refine r_ifeq hC 106 dX6_isBack_49 (by decide) 52 rfl (fun _ => ?_) (fun h => absurd h (by decide))
    refine r_iinc hC 3 3 1 [(3, .int 3), (4, .int 0), (2, .int 0), (0, .ref (b 0)), (1, .int 0)] dX6_isBack_106 rfl (by decide) (Nat.le_of_ble_eq_true rfl) rfl 109 rfl ?_
    refine r_goto hC 9 dX6_isBack_109 (by decide) ?_
    refine r_iload_n hC 0 dX6_isBack_9 rfl 10 rfl ?_
    refine r_iconst hC 3 dX6_isBack_10 ic_3 11 rfl ?_
    refine r_icge hC 112 dX6_isBack_11 (by decide) 14 rfl (fun _ => ?_) (fun h => absurd h (by decide))
    refine r_iinc hC 1 2 2 [(2, .int 1), (3, .int 3), (4, .int 0), (0, .ref (b 0)), (1, .int 0)] dX6_isBack_112 rfl (by decide) (Nat.le_of_ble_eq_true rfl) rfl 115 rfl ?_
    refine r_goto hC 2 dX6_isBack_115 (by decide) ?_
    refine r_iload_n hC 0 dX6_isBack_2 rfl 3 rfl ?_
    refine r_iconst hC 3 dX6_isBack_3 ic_3 4 rfl ?_
    refine r_icge hC 118 dX6_isBack_4 (by decide) 7 rfl (fun h => absurd h (by decide)) (fun _ => ?_)
    refine r_iconst hC 0 dX6_isBack_7 ic_0 8 rfl ?_
    refine r_istore_n hC 3 [(3, .int 0), (2, .int 1), (4, .int 0), (0, .ref (b 0)), (1, .int 0)] dX6_isBack_8 rfl (Nat.le_of_ble_eq_true rfl) rfl 9 rfl ?_
    refine rn.sub (lv' := [(3, .int 0), (2, .int 1), (0, .ref (b 0)), (1, .int 0)]) [0, 1, 3, 4] rfl ?_
    exact hT10 hz
  have hT01 : bI (trioQ th r 0 1 2 || false) = z → rn C (xRo [(b 0, .inr (5, mF b i j)), (b 2, .inl (1, 111, .inr (.inl th))), (b 1, .inl (1, 111, .inr (.inl r)))] V) 0 0 9 [(3, .int 1), (2, .int 0), (0, .ref (b 0)), (1, .int 0)] [] := by
    intro hz
    refine r_iload_n hC 0 dX6_isBack_9 rfl 10 rfl ?_
    refine r_iconst hC 3 dX6_isBack_10 ic_3 11 rfl ?_
    refine r_icge hC 112 dX6_isBack_11 (by decide) 14 rfl (fun h => absurd h (by decide)) (fun _ => ?_)
    refine r_iload_n hC 3 dX6_isBack_14 rfl 15 rfl ?_
    refine r_ifeq hC 31 dX6_isBack_15 (by decide) 18 rfl (fun _ => ?_) (fun h => absurd h (by decide))
    refine r_iload_n hC 1 dX6_isBack_31 rfl 32 rfl ?_
    refine r_ifne hC 44 dX6_isBack_32 (by decide) 35 rfl (fun h => absurd h (by decide)) (fun _ => ?_)
    refine r_iload_n hC 0 dX6_isBack_35 rfl 36 rfl ?_
    refine r_iconst hC 1 dX6_isBack_36 ic_1 37 rfl ?_
    refine r_icne hC 44 dX6_isBack_37 (by decide) 40 rfl (fun h => absurd h (by decide)) (fun _ => ?_)
    refine r_iconst hC 1 dX6_isBack_40 ic_1 41 rfl ?_
    refine r_goto hC 45 dX6_isBack_41 (by decide) ?_
    refine r_istore hC 4 [(4, .int 1), (3, .int 1), (2, .int 0), (0, .ref (b 0)), (1, .int 0)] dX6_isBack_45 (Nat.le_of_ble_eq_true rfl) rfl 47 rfl ?_
    refine r_iload hC 0 dX6_isBack_47 rfl 49 rfl ?_
    refine r_ifeq hC 106 dX6_isBack_49 (by decide) 52 rfl (fun h => absurd h (by decide)) (fun _ => ?_)
    refine r_aload_n hC 3 dX6_isBack_52 rfl 53 rfl ?_
    refine r_get (v := .ref (b 2)) hC kX6 2 rfl q2755 (fun _ h => h.get 0 rfl) rfl dX6_isBack_53 56 rfl ?_
    refine r_iconst hC 0 dX6_isBack_56 ic_0 57 rfl ?_
    refine r_aload_n hC 3 dX6_isBack_57 rfl 58 rfl ?_
    refine r_get (v := .ref (b 1)) hC kX6 1 rfl q2754 (fun _ h => h.get 0 rfl) rfl dX6_isBack_58 61 rfl ?_
    refine r_iload_n hC 2 dX6_isBack_61 rfl 62 rfl ?_
    refine r_invSr hC [.ref (b 2), .int 0, .ref (b 1), .int 0] (.int (bI (likeQ th r 0 0))) mSX6_isLike q3257 (metX6_isLike _ _ hG (b 2) (b 1) th r 0 0 (by omega) (by omega) _ rfl) (fun _ h => h.in.sub [1, 2] rfl rfl) ⟨rfl, rfl⟩ 0 0 rfl rfl (Nat.le_of_ble_eq_true rfl) (Nat.le_of_ble_eq_true rfl) rfl (Nat.le_of_ble_eq_true rfl) dX6_isBack_62 65 rfl ?_
    refine r_ifeq hC 106 dX6_isBack_65 (by decide) 68 rfl (fun c1 => ?_) (fun c1 => ?_)
    · skip
      refine r_iinc hC 2 3 1 [(3, .int 2), (4, .int 1), (2, .int 0), (0, .ref (b 0)), (1, .int 0)] dX6_isBack_106 rfl (by decide) (Nat.le_of_ble_eq_true rfl) rfl 109 rfl ?_
      refine r_goto hC 9 dX6_isBack_109 (by decide) ?_
      refine rn.sub (lv' := [(3, .int 2), (2, .int 0), (0, .ref (b 0)), (1, .int 0)]) [0, 2, 3, 4] rfl ?_
      exact hT02 (by rw [← hz, trio_f1 (a := 0) (b := 1) (c := 2) (bI_0.mp c1)])
    · skip
      refine r_aload_n hC 3 dX6_isBack_68 rfl 69 rfl ?_
      refine r_get (v := .ref (b 2)) hC kX6 2 rfl q2755 (fun _ h => h.get 0 rfl) rfl dX6_isBack_69 72 rfl ?_
      refine r_iconst hC 1 dX6_isBack_72 ic_1 73 rfl ?_
      refine r_aload_n hC 3 dX6_isBack_73 rfl 74 rfl ?_
      refine r_get (v := .ref (b 1)) hC kX6 1 rfl q2754 (fun _ h => h.get 0 rfl) rfl dX6_isBack_74 77 rfl ?_
      refine r_iload_n hC 1 dX6_isBack_77 rfl 78 rfl ?_
      refine r_invSr hC [.ref (b 2), .int 1, .ref (b 1), .int 1] (.int (bI (likeQ th r 1 1))) mSX6_isLike q3257 (metX6_isLike _ _ hG (b 2) (b 1) th r 1 1 (by omega) (by omega) _ rfl) (fun _ h => h.in.sub [1, 2] rfl rfl) ⟨rfl, rfl⟩ 0 0 rfl rfl (Nat.le_of_ble_eq_true rfl) (Nat.le_of_ble_eq_true rfl) rfl (Nat.le_of_ble_eq_true rfl) dX6_isBack_78 81 rfl ?_
      refine r_ifeq hC 106 dX6_isBack_81 (by decide) 84 rfl (fun c2 => ?_) (fun c2 => ?_)
      · skip
        refine r_iinc hC 2 3 1 [(3, .int 2), (4, .int 1), (2, .int 0), (0, .ref (b 0)), (1, .int 0)] dX6_isBack_106 rfl (by decide) (Nat.le_of_ble_eq_true rfl) rfl 109 rfl ?_
        refine r_goto hC 9 dX6_isBack_109 (by decide) ?_
        refine rn.sub (lv' := [(3, .int 2), (2, .int 0), (0, .ref (b 0)), (1, .int 0)]) [0, 2, 3, 4] rfl ?_
        exact hT02 (by rw [← hz, trio_f2 (a := 0) (b := 1) (c := 2) (bI_n0.mp c1) (bI_0.mp c2)])
      · skip
        refine r_aload_n hC 3 dX6_isBack_84 rfl 85 rfl ?_
        refine r_get (v := .ref (b 2)) hC kX6 2 rfl q2755 (fun _ h => h.get 0 rfl) rfl dX6_isBack_85 88 rfl ?_
        refine r_iconst hC 2 dX6_isBack_88 ic_2 89 rfl ?_
        refine r_aload_n hC 3 dX6_isBack_89 rfl 90 rfl ?_
        refine r_get (v := .ref (b 1)) hC kX6 1 rfl q2754 (fun _ h => h.get 0 rfl) rfl dX6_isBack_90 93 rfl ?_
        refine r_iconst hC 3 dX6_isBack_93 ic_3 94 rfl ?_
        refine r_iload_n hC 2 dX6_isBack_94 rfl 95 rfl ?_
        refine r_isub hC 3 dX6_isBack_95  (by decide) 96 rfl ?_
        refine r_iload_n hC 1 dX6_isBack_96 rfl 97 rfl ?_
        refine r_isub hC 2 dX6_isBack_97  (by decide) 98 rfl ?_
        refine r_invSr hC [.ref (b 2), .int 2, .ref (b 1), .int 2] (.int (bI (likeQ th r 2 2))) mSX6_isLike q3257 (metX6_isLike _ _ hG (b 2) (b 1) th r 2 2 (by omega) (by omega) _ rfl) (fun _ h => h.in.sub [1, 2] rfl rfl) ⟨rfl, rfl⟩ 0 0 rfl rfl (Nat.le_of_ble_eq_true rfl) (Nat.le_of_ble_eq_true rfl) rfl (Nat.le_of_ble_eq_true rfl) dX6_isBack_98 101 rfl ?_
        refine r_ifeq hC 106 dX6_isBack_101 (by decide) 104 rfl (fun c3 => ?_) (fun c3 => ?_)
        · skip
          refine r_iinc hC 2 3 1 [(3, .int 2), (4, .int 1), (2, .int 0), (0, .ref (b 0)), (1, .int 0)] dX6_isBack_106 rfl (by decide) (Nat.le_of_ble_eq_true rfl) rfl 109 rfl ?_
          refine r_goto hC 9 dX6_isBack_109 (by decide) ?_
          refine rn.sub (lv' := [(3, .int 2), (2, .int 0), (0, .ref (b 0)), (1, .int 0)]) [0, 2, 3, 4] rfl ?_
          exact hT02 (by rw [← hz, trio_f3 (a := 0) (b := 1) (c := 2) (bI_n0.mp c1) (bI_n0.mp c2) (bI_0.mp c3)])
        · skip
          refine r_iconst hC 1 dX6_isBack_104 ic_1 105 rfl ?_
          exact r_zret hC (by decide) (Nat.le_of_ble_eq_true rfl) (Nat.le_of_ble_eq_true rfl) (fun V9 h => hQ _ _ ⟨by rw [← hz, trio_t (bI_n0.mp c1) (bI_n0.mp c2) (bI_n0.mp c3)]; rfl, h.1⟩) dX6_isBack_105
  have hT00 : bI (trioQ th r 0 1 2 || false) = z → rn C (xRo [(b 0, .inr (5, mF b i j)), (b 2, .inl (1, 111, .inr (.inl th))), (b 1, .inl (1, 111, .inr (.inl r)))] V) 0 0 9 [(3, .int 0), (2, .int 0), (0, .ref (b 0)), (1, .int 0)] [] := by
    intro hz
    refine r_iload_n hC 0 dX6_isBack_9 rfl 10 rfl ?_
    refine r_iconst hC 3 dX6_isBack_10 ic_3 11 rfl ?_
    refine r_icge hC 112 dX6_isBack_11 (by decide) 14 rfl (fun h => absurd h (by decide)) (fun _ => ?_)
    refine r_iload_n hC 3 dX6_isBack_14 rfl 15 rfl ?_
    refine r_ifeq hC 31 dX6_isBack_15 (by decide) 18 rfl (fun _ => ?_) (fun h => absurd h (by decide))
    refine r_iload_n hC 1 dX6_isBack_31 rfl 32 rfl ?_
    refine r_ifne hC 44 dX6_isBack_32 (by decide) 35 rfl (fun h => absurd h (by decide)) (fun _ => ?_)
    refine r_iload_n hC 0 dX6_isBack_35 rfl 36 rfl ?_
    refine r_iconst hC 1 dX6_isBack_36 ic_1 37 rfl ?_
    refine r_icne hC 44 dX6_isBack_37 (by decide) 40 rfl (fun _ => ?_) (fun h => absurd h (by decide))
    refine r_iconst hC 0 dX6_isBack_44 ic_0 45 rfl ?_
    refine r_istore hC 4 [(4, .int 0), (3, .int 0), (2, .int 0), (0, .ref (b 0)), (1, .int 0)] dX6_isBack_45 (Nat.le_of_ble_eq_true rfl) rfl 47 rfl ?_
    refine r_iload hC 0 dX6_isBack_47 rfl 49 rfl ?_
    refine r_ifeq hC 106 dX6_isBack_49 (by decide) 52 rfl (fun _ => ?_) (fun h => absurd h (by decide))
    refine r_iinc hC 1 3 1 [(3, .int 1), (4, .int 0), (2, .int 0), (0, .ref (b 0)), (1, .int 0)] dX6_isBack_106 rfl (by decide) (Nat.le_of_ble_eq_true rfl) rfl 109 rfl ?_
    refine r_goto hC 9 dX6_isBack_109 (by decide) ?_
    refine rn.sub (lv' := [(3, .int 1), (2, .int 0), (0, .ref (b 0)), (1, .int 0)]) [0, 2, 3, 4] rfl ?_
    exact hT01 hz
  exact hT00 hz
theorem back_1 {f g : Nat → Int64} : backQ f g true = (trioQ f g 0 1 2 || (trioQ f g 0 2 1 || (trioQ f g 1 0 2 || (trioQ f g 1 2 0 || (trioQ f g 2 0 1 || (trioQ f g 2 1 0 || false)))))) := if_pos rfl
theorem back_0 {f g : Nat → Int64} : backQ f g false = (trioQ f g 0 1 2 || false) := if_neg (by decide)
