/-! ===== the class: texts ===== -/
set_option maxRecDepth 100000
section XLDS
variable {C : xC} {I : xV → Prop} {k n pc : Nat} {lv : List (Nat × Value)} {st : List Value} {own : String} {cc : ByteArray} {nL0 : Nat} {ret : Option FieldType} {rm : Room}
theorem r_ldcS (hC : xCtx C own cc nL0 ret rm) {tx : String} {ix a : Nat} (hM : vk_R own ix tx a (xGG C).1) (hd : decode cc pc = .ok (.ldc ix, 2)) (pc1 : Nat) (hp : pc + 2 = pc1) (kk : rn C I k n pc1 lv (.ref a :: st)) : rn C I k n pc lv st := by
  subst hp
  obtain ⟨p, l, e, R, s, m, args, below, meth, c, G, nL, Q, X⟩ := C
  obtain ⟨hx, hb, hml, hnL, hown, hts, hK, -, -, hW0, -⟩ := hC
  exact fun V H locs ls hV hR hL hl => va_ldcS hx hb hown (vk_R.warm hW0 hM) hd (kk V H locs ls hV hR hL hl)
end XLDS
theorem pot_nxP {T : Nat → Int32} {en : Nat} {ps : PS} : potP T en (nxP T en ps) ≤ potP T en ps := by
  cases ps with
  | error x => exact Nat.le_refl _
  | ok g =>
    by_cases hg : g < en
    · have := pot_nx (T := T) hg
      show potP T en (.ok (tBeg T en (tEnd T en g))) ≤ _
      omega
    · have h1 := tEnd_ge (bf := T) (e := en) (g := g)
      have h2 := tBeg_ge (bf := T) (e := en) (p := tEnd T en g)
      have h3 := tEnd_ge (bf := T) (e := en) (g := tBeg T en (tEnd T en g))
      have h4 : tEnd T en g = g := by unfold tEnd; rw [if_neg hg]
      show en + 1 - tEnd T en (tBeg T en (tEnd T en g)) + (if tBeg T en (tEnd T en g) < en then 1 else 0) ≤ en + 1 - tEnd T en g + (if g < en then 1 else 0)
      rw [if_neg (by omega), if_neg hg]
      omega
theorem pot_wr {T : Nat → Int32} {en : Nat} {c : Int32} {ps : PS} : potP T en (wrP c ps) = 0 := by cases ps <;> rfl
theorem pot_must {T : Nat → Int32} {en : Nat} {c : Int32} {ps : PS} : potP T en (mustP T en c ps) ≤ potP T en ps := by
  unfold mustP
  split
  · exact pot_nxP
  · rw [pot_wr]; exact Nat.zero_le _
theorem pot_exp {T : Nat → Int32} {en : Nat} {w : Int64} {ps : PS} : potP T en (expP T en w ps) ≤ potP T en ps := by
  unfold expP
  split
  · exact pot_nxP
  · rw [pot_wr]; exact Nat.zero_le _
theorem pot_num {T : Nat → Int32} {en : Nat} {lo hi : Int64} {ps : PS} : potP T en (numP T en lo hi ps) ≤ potP T en ps := by
  cases ps with
  | error x => exact Nat.le_refl _
  | ok g =>
    show potP T en (if tKind T en g = 2 then (if m_in (tVal T en g) lo hi = true then nxP T en (.ok g) else .error (2, g)) else .error (1, g)) ≤ _
    split
    · split
      · exact pot_nxP
      · exact Nat.zero_le _
    · exact Nat.zero_le _
theorem pot_sg0 {T : Nat → Int32} {en : Nat} {ps : PS} : potP T en (sgn0 T en ps) ≤ potP T en ps := by
  unfold sgn0
  split
  · exact pot_nxP
  · exact Nat.le_refl _
theorem pot_sgn {T : Nat → Int32} {en : Nat} {hi : Int64} {ps : PS} : potP T en (sgnP T en hi ps) ≤ potP T en ps := Nat.le_trans pot_num pot_sg0
theorem pot_schQ {T : Nat → Int32} {en : Nat} {ps : PS} : potP T en (schQ T en ps) ≤ potP T en ps := by
  unfold schQ
  split
  · exact pot_nxP
  · split
    · exact pot_nxP
    · exact pot_exp
theorem must_e {T : Nat → Int32} {en : Nat} {c : Int32} {x : Int32 × Nat} : mustP T en c (.error x) = .error x := rfl
theorem exp_e {T : Nat → Int32} {en : Nat} {w : Int64} {x : Int32 × Nat} : expP T en w (.error x) = .error x := rfl
theorem num_e {T : Nat → Int32} {en : Nat} {lo hi : Int64} {x : Int32 × Nat} : numP T en lo hi (.error x) = .error x := rfl
theorem sgn_e {T : Nat → Int32} {en : Nat} {hi : Int64} {x : Int32 × Nat} : sgnP T en hi (.error x) = .error x := rfl
set_option maxHeartbeats 4000000 in
set_option maxRecDepth 100000 in
theorem metX8_expectP (l : Launch) (G : xG) (hG : xGood G) (sc tx sy en : Nat) (T B : Nat → Int32) (m : Nat) (hE : scE G sy en T B m) (g : Nat) (tw : xW) (htw : tokW sc tx sy en T B m g tw) (z3 : Nat) (ch : Int32) (hs : syQ B m ch = true) (hl : letQ ch = false) (hf : figQ ch = false) : xWm l G yX8_expect (Cond.code yX8_expect cX8_expect 2 none) { frames := 8, locals := 212, cells := 6 * (potP T en (.ok g) - potP T en (mustP T en ch (.ok g))), slots := 50 * (potP T en (.ok g) - potP T en (mustP T en ch (.ok g))) } [.ref sc, .int ch] tw (fun v w' => ∃ g' : Nat, mustP T en ch (.ok g) = .ok g' ∧ v = none ∧ tokW sc tx sy en T B m g' w') (fun q w' => ∃ (c : Int32) (g1 : Nat), mustP T en ch (.ok g) = .error (c, g1) ∧ w' = [exK z3 c q g1]) := by
  intro V hV
  refine xMet_ofT RX8 hG rfl (by decide) (Nat.le_of_ble_eq_true rfl) fun C hC hQ hX hl hg _ hTab => ?_
  subst hl hg
  obtain ⟨V0, hV0⟩ : ∃ V0, V0 = V := ⟨_, rfl⟩
  obtain ⟨F, hF⟩ : ∃ F, F = xF tw := ⟨_, rfl⟩
  refine rn.mono (J := xSt F V0 ([] ++ tw)) (fun V9 h => by rw [h, hV0, hF]; exact hV.st) ?_
  show rn C (xSt F V0 ([] ++ tw)) 0 0 0 [(0, .ref sc), (1, .int ch)] []
  rcases Bool.eq_false_or_eq_true (isB T en ch (.ok g)) with hb | hb
  · skip
    have hp : mustP T en ch (.ok g) = .ok (tBeg T en (tEnd T en g)) := (if_pos hb)
    have hpot := pot_nx (T := T) (isB_lt hb)
    have hq9 : potP T en (mustP T en ch (.ok g)) = potP T en (.ok (tBeg T en (tEnd T en g))) := by rw [hp]
    refine r_aload_n hC 0 dX8_expect_0 rfl 1 rfl ?_
    refine r_iload_n hC 1 dX8_expect_1 rfl 2 rfl ?_
    refine xCall.r (r := some (.int 1)) (r_cV hC kX8 sc [.int ch] mVX8_isAt q1410 (fun _ h => tok_recv htw h.in.right) (fun V9 h9 => (xRm_v (metX8_isAt _ _ hG sc tx sy en T B m hE g tw htw ch hs hl hf) (show _ = some (Value.int 1) by rw [hb]; rfl)) V9 h9.in.right) ⟨rfl, rfl⟩ (by first | omega | (dsimp only; omega)) (by first | omega | (dsimp only; omega)) rfl (Nat.le_of_ble_eq_true rfl) dX8_expect_2) (0 + 0) (0 + 0) 5 rfl rfl rfl ?_
    refine r_ifne hC 13 dX8_expect_5 (by decide) 8 rfl (fun _ => ?_) (fun h => absurd h (by decide))
    refine r_aload_n hC 0 dX8_expect_13 rfl 14 rfl ?_
    refine xCall.tl (ws := []) (r_cV hC kX8 sc [] mVX8_advance q976 (fun _ h => tok_recv htw h.in.right) (fun V9 h9 => (metX8_advance _ _ hG sc tx sy en T B m hE g tw htw) V9 h9.in.right) ⟨rfl, rfl⟩ (by first | omega | (dsimp only; omega)) (by first | omega | (dsimp only; omega)) rfl (Nat.le_of_ble_eq_true rfl) dX8_expect_14) ((0 + 0) + ((tEnd T en (tBeg T en (tEnd T en g)) - (tBeg T en (tEnd T en g))) + 4)) ((0 + 0) + (5 * (tEnd T en (tBeg T en (tEnd T en g)) - (tBeg T en (tEnd T en g))) + 36)) 17 rfl rfl rfl (fun v2 w3 h4 => ?_) (fun _ _ h => h.elim)
    obtain ⟨rfl, ht1⟩ := h4
    show rn C (xSt F V0 ([] ++ w3)) ((0 + 0) + ((tEnd T en (tBeg T en (tEnd T en g)) - (tBeg T en (tEnd T en g))) + 4)) ((0 + 0) + (5 * (tEnd T en (tBeg T en (tEnd T en g)) - (tBeg T en (tEnd T en g))) + 36)) 17 [(0, .ref sc), (1, .int ch)] []
    exact r_vret hC (by first | omega | (dsimp only; omega)) (by first | omega | (dsimp only; omega)) (fun V9 h => hQ _ _ ⟨w3, ⟨_, hp, rfl, ht1⟩, by rw [← hV0, ← hF]; exact h⟩) dX8_expect_17
  · skip
    have hp : mustP T en ch (.ok g) = .error (1, g) := (if_neg (by rw [hb]; decide))
    have hpot := pot_1 (T := T) (tok_le htw)
    have hq9 : potP T en (mustP T en ch (.ok g)) = 0 := by rw [hp]; rfl
    refine r_aload_n hC 0 dX8_expect_0 rfl 1 rfl ?_
    refine r_iload_n hC 1 dX8_expect_1 rfl 2 rfl ?_
    refine xCall.r (r := some (.int 0)) (r_cV hC kX8 sc [.int ch] mVX8_isAt q1410 (fun _ h => tok_recv htw h.in.right) (fun V9 h9 => (xRm_v (metX8_isAt _ _ hG sc tx sy en T B m hE g tw htw ch hs hl hf) (show _ = some (Value.int 0) by rw [hb]; rfl)) V9 h9.in.right) ⟨rfl, rfl⟩ (by first | omega | (dsimp only; omega)) (by first | omega | (dsimp only; omega)) rfl (Nat.le_of_ble_eq_true rfl) dX8_expect_2) (0 + 0) (0 + 0) 5 rfl rfl rfl ?_
    refine r_ifne hC 13 dX8_expect_5 (by decide) 8 rfl (fun h => absurd h (by decide)) (fun _ => ?_)
    refine r_aload_n hC 0 dX8_expect_8 rfl 9 rfl ?_
    refine xCall.tl (ws := []) (r_cV hC kX8 sc [] mVX8_wrong q1346 (fun _ h => tok_recv htw h.in.right) (fun V9 h9 => (metX8_wrongT _ _ hG sc tx sy en T B m hE g tw htw) V9 h9.in.right) ⟨rfl, rfl⟩ (by first | omega | (dsimp only; omega)) (by first | omega | (dsimp only; omega)) rfl (Nat.le_of_ble_eq_true rfl) dX8_expect_9) ((0 + 0) + 1) ((0 + 0) + 7) 12 rfl rfl rfl (fun v11 w12 h13 => ?_) (fun _ _ h => h.elim)
    obtain ⟨q8, tw9, rfl, ht10, rfl⟩ := h13
    refine rn.mono (J := xSt F V0 ([(q8, .inr (8, [.int (nI g), .null, .null, .null, .null, .null, .int 0]))] ++ tw9)) (fun _ h => h.perm perm_ex) ?_
    show rn C (xSt F V0 ([(q8, .inr (8, [.int (nI g), .null, .null, .null, .null, .null, .int 0]))] ++ tw9)) ((0 + 0) + 1) ((0 + 0) + 7) 12 [(0, .ref sc), (1, .int ch)] [.ref q8]
    refine r_athrow hC (fun _ h => h.get 0 rfl) dX8_expect_12 ?_
    exact rx_out hC hTab (fun _ h => by cases h) (by first | omega | (dsimp only; omega)) (by first | omega | (dsimp only; omega)) (fun V9 h => hX _ _ ⟨[(q8, .inr (8, [.int (nI g), .null, .null, .null, .null, .null, .int 0]))], ⟨_, _, hp, rfl⟩, by rw [← hV0, ← hF]; exact h.left1.sub [0] rfl rfl⟩)
set_option maxHeartbeats 4000000 in
set_option maxRecDepth 100000 in
theorem metX8_expectWordP (l : Launch) (G : xG) (hG : xGood G) (sc tx sy en : Nat) (T B : Nat → Int32) (m : Nat) (hE : scE G sy en T B m) (g : Nat) (tw : xW) (htw : tokW sc tx sy en T B m g tw) (z3 : Nat) (ka kv cm : Nat) (CB : Nat → Int32) (hst : xStr G ka kv cm CB) (w : Int64) (hkw : kwQ CB cm w) : xWm l G yX8_expectWord (Cond.code yX8_expectWord cX8_expectWord 2 none) { frames := 9, locals := 234, cells := 6 * (potP T en (.ok g) - potP T en (expP T en w (.ok g))), slots := 50 * (potP T en (.ok g) - potP T en (expP T en w (.ok g))) } [.ref sc, .ref ka] tw (fun v w' => ∃ g' : Nat, expP T en w (.ok g) = .ok g' ∧ v = none ∧ tokW sc tx sy en T B m g' w') (fun q w' => ∃ (c : Int32) (g1 : Nat), expP T en w (.ok g) = .error (c, g1) ∧ w' = [exK z3 c q g1]) := by
  intro V hV
  refine xMet_ofT RX8 hG rfl (by decide) (Nat.le_of_ble_eq_true rfl) fun C hC hQ hX hl hg _ hTab => ?_
  subst hl hg
  obtain ⟨V0, hV0⟩ : ∃ V0, V0 = V := ⟨_, rfl⟩
  obtain ⟨F, hF⟩ : ∃ F, F = xF tw := ⟨_, rfl⟩
  refine rn.mono (J := xSt F V0 ([] ++ tw)) (fun V9 h => by rw [h, hV0, hF]; exact hV.st) ?_
  show rn C (xSt F V0 ([] ++ tw)) 0 0 0 [(0, .ref sc), (1, .ref ka)] []
  rcases Bool.eq_false_or_eq_true (isW T en w (.ok g)) with hb | hb
  · skip
    have hp : expP T en w (.ok g) = .ok (tBeg T en (tEnd T en g)) := (if_pos hb)
    have hpot := pot_nx (T := T) (isW_lt hb)
    have hq9 : potP T en (expP T en w (.ok g)) = potP T en (.ok (tBeg T en (tEnd T en g))) := by rw [hp]
    refine r_aload_n hC 0 dX8_expectWord_0 rfl 1 rfl ?_
    refine r_aload_n hC 1 dX8_expectWord_1 rfl 2 rfl ?_
    refine xCall.tl (ws := []) (r_cV hC kX8 sc [.ref ka] mVX8_accept q1405 (fun _ h => tok_recv htw h.in.right) (fun V9 h9 => (metX8_acceptY _ _ hG sc tx sy en T B m hE g tw htw ka kv cm CB hst w hkw hb) V9 h9.in.right) ⟨rfl, rfl⟩ (by first | omega | (dsimp only; omega)) (by first | omega | (dsimp only; omega)) rfl (Nat.le_of_ble_eq_true rfl) dX8_expectWord_2) (0 + (6 * (potP T en (.ok g) - potP T en (.ok (tBeg T en (tEnd T en g)))))) (0 + (50 * (potP T en (.ok g) - potP T en (.ok (tBeg T en (tEnd T en g)))))) 5 rfl rfl rfl (fun v2 w3 h4 => ?_) (fun _ _ h => h.elim)
    obtain ⟨rfl, ht1⟩ := h4
    show rn C (xSt F V0 ([] ++ w3)) (0 + (6 * (potP T en (.ok g) - potP T en (.ok (tBeg T en (tEnd T en g)))))) (0 + (50 * (potP T en (.ok g) - potP T en (.ok (tBeg T en (tEnd T en g)))))) 5 [(0, .ref sc), (1, .ref ka)] [.int 1]
    refine r_ifne hC 13 dX8_expectWord_5 (by decide) 8 rfl (fun _ => ?_) (fun h => absurd h (by decide))
    exact r_vret hC (by first | omega | (dsimp only; omega)) (by first | omega | (dsimp only; omega)) (fun V9 h => hQ _ _ ⟨w3, ⟨_, hp, rfl, ht1⟩, by rw [← hV0, ← hF]; exact h⟩) dX8_expectWord_13
  · skip
    have hp : expP T en w (.ok g) = .error (1, g) := (if_neg (by rw [hb]; decide))
    have hpot := pot_1 (T := T) (tok_le htw)
    have hq9 : potP T en (expP T en w (.ok g)) = 0 := by rw [hp]; rfl
    refine r_aload_n hC 0 dX8_expectWord_0 rfl 1 rfl ?_
    refine r_aload_n hC 1 dX8_expectWord_1 rfl 2 rfl ?_
    refine xCall.tl (ws := []) (r_cV hC kX8 sc [.ref ka] mVX8_accept q1405 (fun _ h => tok_recv htw h.in.right) (fun V9 h9 => (metX8_acceptN _ _ hG sc tx sy en T B m hE g tw htw ka kv cm CB hst w hkw hb) V9 h9.in.right) ⟨rfl, rfl⟩ (by first | omega | (dsimp only; omega)) (by first | omega | (dsimp only; omega)) rfl (Nat.le_of_ble_eq_true rfl) dX8_expectWord_2) (0 + 0) (0 + 0) 5 rfl rfl rfl (fun v9 w10 h11 => ?_) (fun _ _ h => h.elim)
    obtain ⟨rfl, ht8⟩ := h11
    show rn C (xSt F V0 ([] ++ w10)) (0 + 0) (0 + 0) 5 [(0, .ref sc), (1, .ref ka)] [.int 0]
    refine r_ifne hC 13 dX8_expectWord_5 (by decide) 8 rfl (fun h => absurd h (by decide)) (fun _ => ?_)
    refine r_aload_n hC 0 dX8_expectWord_8 rfl 9 rfl ?_
    refine xCall.tl (ws := []) (r_cV hC kX8 sc [] mVX8_wrong q1346 (fun _ h => tok_recv ht8 h.in.right) (fun V9 h9 => (metX8_wrongT _ _ hG sc tx sy en T B m hE g w10 ht8) V9 h9.in.right) ⟨rfl, rfl⟩ (by first | omega | (dsimp only; omega)) (by first | omega | (dsimp only; omega)) rfl (Nat.le_of_ble_eq_true rfl) dX8_expectWord_9) ((0 + 0) + 1) ((0 + 0) + 7) 12 rfl rfl rfl (fun v18 w19 h20 => ?_) (fun _ _ h => h.elim)
    obtain ⟨q15, tw16, rfl, ht17, rfl⟩ := h20
    refine rn.mono (J := xSt F V0 ([(q15, .inr (8, [.int (nI g), .null, .null, .null, .null, .null, .int 0]))] ++ tw16)) (fun _ h => h.perm perm_ex) ?_
    show rn C (xSt F V0 ([(q15, .inr (8, [.int (nI g), .null, .null, .null, .null, .null, .int 0]))] ++ tw16)) ((0 + 0) + 1) ((0 + 0) + 7) 12 [(0, .ref sc), (1, .ref ka)] [.ref q15]
    refine r_athrow hC (fun _ h => h.get 0 rfl) dX8_expectWord_12 ?_
    exact rx_out hC hTab (fun _ h => by cases h) (by first | omega | (dsimp only; omega)) (by first | omega | (dsimp only; omega)) (fun V9 h => hX _ _ ⟨[(q15, .inr (8, [.int (nI g), .null, .null, .null, .null, .null, .int 0]))], ⟨_, _, hp, rfl⟩, by rw [← hV0, ← hF]; exact h.left1.sub [0] rfl rfl⟩)
theorem metX8_numberC (l : Launch) (G : xG) (hG : xGood G) (sc tx sy en : Nat) (T B : Nat → Int32) (m : Nat) (hE : scE G sy en T B m) (g : Nat) (tw : xW) (htw : tokW sc tx sy en T B m g tw) (z3 : Nat) (lo hi : Int32) (lo6 hi6 : Int64) (h0 : 0 ≤ lo.toInt) (h9 : hi.toInt ≤ 1000000000) (e1 : lo.toInt64 = lo6) (e2 : hi.toInt64 = hi6) : xWm l G yX8_number (Cond.code yX8_number cX8_number 4 (some .int)) { frames := 8, locals := 212, cells := 6 * (potP T en (.ok g) - potP T en (numP T en lo6 hi6 (.ok g))), slots := 50 * (potP T en (.ok g) - potP T en (numP T en lo6 hi6 (.ok g))) } [.ref sc, .int lo, .int hi] tw (fun v w' => ∃ g' : Nat, numP T en lo6 hi6 (.ok g) = .ok g' ∧ v = some (.int (numV T en lo6 hi6 (.ok g)).toInt32) ∧ tokW sc tx sy en T B m g' w') (fun q w' => ∃ (c : Int32) (g1 : Nat), numP T en lo6 hi6 (.ok g) = .error (c, g1) ∧ w' = [exK z3 c q g1]) := by
  subst e1 e2
  exact metX8_number l G hG sc tx sy en T B m hE g tw htw z3 lo hi h0 h9
set_option maxHeartbeats 4000000 in
set_option maxRecDepth 100000 in
theorem metX7_signed (l : Launch) (G : xG) (hG : xGood G) (sc tx sy en : Nat) (T B : Nat → Int32) (m : Nat) (hE : scE G sy en T B m) (g : Nat) (tw : xW) (htw : tokW sc tx sy en T B m g tw) (z3 : Nat) (rd md : Nat) (o : Nat → Nat) (hs45 : syQ B m 45 = true) (hs59 : syQ B m 59 = true) (hi : Int32) (hi6 : Int64) (hh9 : hi.toInt ≤ 1000000000) (hh6 : hi.toInt64 = hi6) : xWm l G yX7_signed (Cond.code yX7_signed cX7_signed 4 (some .int)) { frames := 9, locals := 235, cells := 6 * (potP T en (.ok g) - potP T en (sgnP T en hi6 (.ok g))), slots := 50 * (potP T en (.ok g) - potP T en (sgnP T en hi6 (.ok g))) } [.ref rd, .int hi] ([(rd, .inr (6, [.ref sc, .ref md, .ref (o 0)]))] ++ tw) (fun v w' => ∃ (g' : Nat) (tw' : xW), sgnP T en hi6 (.ok g) = .ok g' ∧ v = some (.int (sgnV T en hi6 (.ok g)).toInt32) ∧ tokW sc tx sy en T B m g' tw' ∧ w' = ([(rd, .inr (6, [.ref sc, .ref md, .ref (o 0)]))] ++ tw')) (fun q w' => ∃ (c : Int32) (g1 : Nat), sgnP T en hi6 (.ok g) = .error (c, g1) ∧ w' = [exK z3 c q g1]) := by
  intro V hV
  refine xMet_ofT RX7 hG rfl (by decide) (Nat.le_of_ble_eq_true rfl) fun C hC hQ hX hl hg _ hTab => ?_
  subst hl hg
  have hm1 : potP T en (sgnP T en hi6 (.ok g)) ≤ potP T en (sgn0 T en (.ok g)) := pot_num
  have hm2 : potP T en (sgn0 T en (.ok g)) ≤ potP T en (.ok g) := pot_sg0
  obtain ⟨V0, hV0⟩ : ∃ V0, V0 = V := ⟨_, rfl⟩
  obtain ⟨F, hF⟩ : ∃ F, F = xF ([(rd, .inr (6, [.ref sc, .ref md, .ref (o 0)]))] ++ tw) := ⟨_, rfl⟩
  refine rn.mono (J := xSt F V0 ([(rd, .inr (6, [.ref sc, .ref md, .ref (o 0)]))] ++ tw)) (fun V9 h => by rw [h, hV0, hF]; exact hV.st) ?_
  show rn C (xSt F V0 ([(rd, .inr (6, [.ref sc, .ref md, .ref (o 0)]))] ++ tw)) 0 0 0 [(0, .ref rd), (1, .int hi)] []
  refine r_aload_n hC 0 dX7_signed_0 rfl 1 rfl ?_
  refine r_get (v := .ref sc) hC kX7 0 rfl q1299 (fun _ h => h.get 0 rfl) rfl dX7_signed_1 4 rfl ?_
  refine r_bipush hC 45 dX7_signed_4 bp_45 6 rfl ?_
  rcases Bool.eq_false_or_eq_true (isB T en 45 (.ok g)) with hk1 | hk1
  · skip
    refine xCall.r (r := some (.int 1)) (r_cV hC kX8 sc [.int 45] mVX8_isAt q1424 (fun _ h => tok_recv htw h.in.right) (fun V9 h9 => (xRm_v (metX8_isAt _ _ hG sc tx sy en T B m hE g tw htw 45 hs45 (by decide) (by decide)) (show _ = some (Value.int 1) by rw [hk1]; rfl)) V9 h9.in.right) ⟨rfl, rfl⟩ (by first | omega | (dsimp only; omega)) (by first | omega | (dsimp only; omega)) rfl (Nat.le_of_ble_eq_true rfl) dX7_signed_6) (0 + 0) (0 + 0) 9 rfl rfl rfl ?_
    have hsg : sgnP T en hi6 (.ok g) = numP T en 0 hi6 (nxP T en (.ok g)) := by rw [sgnP, sgn0, if_pos hk1]
    have hsp := congrArg (potP T en) hsg
    refine r_istore_n hC 2 [(2, .int 1), (0, .ref rd), (1, .int hi)] dX7_signed_9 rfl (Nat.le_of_ble_eq_true rfl) rfl 10 rfl ?_
    refine r_iload_n hC 0 dX7_signed_10 rfl 11 rfl ?_
    refine r_ifeq hC 21 dX7_signed_11 (by decide) 14 rfl (fun h => absurd h (by decide)) (fun _ => ?_)
    refine r_aload_n hC 1 dX7_signed_14 rfl 15 rfl ?_
    refine r_get (v := .ref sc) hC kX7 0 rfl q1299 (fun _ h => h.get 0 rfl) rfl dX7_signed_15 18 rfl ?_
    have he3 : nxP T en (.ok g) = .ok (tBeg T en (tEnd T en g)) := rfl
    have : potP T en (nxP T en (.ok g)) = potP T en (.ok (tBeg T en (tEnd T en g))) := by rw [he3]
    have := pot_nx (T := T) (isB_lt hk1)
    refine xCall.tl (ws := [(rd, .inr (6, [.ref sc, .ref md, .ref (o 0)]))]) (r_cV hC kX8 sc [] mVX8_advance q1425 (fun _ h => tok_recv htw h.in.right) (fun V9 h9 => (metX8_advance _ _ hG sc tx sy en T B m hE g tw htw) V9 h9.in.right) ⟨rfl, rfl⟩ (by first | omega | (dsimp only; omega)) (by first | omega | (dsimp only; omega)) rfl (Nat.le_of_ble_eq_true rfl) dX7_signed_18) ((0 + 0) + ((tEnd T en (tBeg T en (tEnd T en g)) - (tBeg T en (tEnd T en g))) + 4)) ((0 + 0) + (5 * (tEnd T en (tBeg T en (tEnd T en g)) - (tBeg T en (tEnd T en g))) + 36)) 21 rfl rfl rfl (fun v4 w5 h6 => ?_) (fun _ _ h => h.elim)
    obtain ⟨rfl, ht2⟩ := h6
    show rn C (xSt F V0 ([(rd, .inr (6, [.ref sc, .ref md, .ref (o 0)]))] ++ w5)) ((0 + 0) + ((tEnd T en (tBeg T en (tEnd T en g)) - (tBeg T en (tEnd T en g))) + 4)) ((0 + 0) + (5 * (tEnd T en (tBeg T en (tEnd T en g)) - (tBeg T en (tEnd T en g))) + 36)) 21 [(2, .int 1), (0, .ref rd), (1, .int hi)] []
    refine r_aload_n hC 1 dX7_signed_21 rfl 22 rfl ?_
    refine r_get (v := .ref sc) hC kX7 0 rfl q1299 (fun _ h => h.get 0 rfl) rfl dX7_signed_22 25 rfl ?_
    refine r_iconst hC 0 dX7_signed_25 ic_0 26 rfl ?_
    refine r_iload_n hC 2 dX7_signed_26 rfl 27 rfl ?_
    have : potP T en (numP T en 0 hi6 (.ok (tBeg T en (tEnd T en g)))) = potP T en (numP T en 0 hi6 (nxP T en (.ok g))) := by rw [he3]
    have : potP T en (.ok (tBeg T en (tEnd T en g))) = potP T en (nxP T en (.ok g)) := by rw [he3]
    refine xCall.tl (ws := [(rd, .inr (6, [.ref sc, .ref md, .ref (o 0)]))]) (r_cV hC kX8 sc [.int 0, .int hi] mVX8_number q1338 (fun _ h => tok_recv ht2 h.in.right) (fun V9 h9 => (metX8_numberC _ _ hG sc tx sy en T B m hE (tBeg T en (tEnd T en g)) w5 ht2 z3 0 hi 0 hi6 (by decide) hh9 rfl hh6) V9 h9.in.right) ⟨rfl, rfl⟩ (by first | omega | (dsimp only; omega)) (by first | omega | (dsimp only; omega)) rfl (Nat.le_of_ble_eq_true rfl) dX7_signed_27) (((0 + 0) + ((tEnd T en (tBeg T en (tEnd T en g)) - (tBeg T en (tEnd T en g))) + 4)) + (6 * (potP T en (.ok (tBeg T en (tEnd T en g))) - potP T en (numP T en 0 hi6 (.ok (tBeg T en (tEnd T en g))))))) (((0 + 0) + (5 * (tEnd T en (tBeg T en (tEnd T en g)) - (tBeg T en (tEnd T en g))) + 36)) + (50 * (potP T en (.ok (tBeg T en (tEnd T en g))) - potP T en (numP T en 0 hi6 (.ok (tBeg T en (tEnd T en g))))))) 30 rfl rfl rfl (fun v17 w18 h19 => ?_) (fun q20 w21 h22 => ?_)
    · skip
      obtain ⟨g10, hp11, rfl, ht12⟩ := h19
      show rn C (xSt F V0 ([(rd, .inr (6, [.ref sc, .ref md, .ref (o 0)]))] ++ w18)) (((0 + 0) + ((tEnd T en (tBeg T en (tEnd T en g)) - (tBeg T en (tEnd T en g))) + 4)) + (6 * (potP T en (.ok (tBeg T en (tEnd T en g))) - potP T en (numP T en 0 hi6 (.ok (tBeg T en (tEnd T en g))))))) (((0 + 0) + (5 * (tEnd T en (tBeg T en (tEnd T en g)) - (tBeg T en (tEnd T en g))) + 36)) + (50 * (potP T en (.ok (tBeg T en (tEnd T en g))) - potP T en (numP T en 0 hi6 (.ok (tBeg T en (tEnd T en g))))))) 30 [(2, .int 1), (0, .ref rd), (1, .int hi)] [.int ((numV T en 0 hi6 (.ok (tBeg T en (tEnd T en g)))).toInt32)]
      have he13 : numP T en 0 hi6 (nxP T en (.ok g)) = .ok g10 := by rw [he3]; exact hp11
      have : potP T en (numP T en 0 hi6 (nxP T en (.ok g))) = potP T en (.ok g10) := by rw [he13]
      refine r_istore_n hC 3 [(3, .int ((numV T en 0 hi6 (.ok (tBeg T en (tEnd T en g)))).toInt32)), (2, .int 1), (0, .ref rd), (1, .int hi)] dX7_signed_30 rfl (Nat.le_of_ble_eq_true rfl) rfl 31 rfl ?_
      refine r_iload_n hC 1 dX7_signed_31 rfl 32 rfl ?_
      refine r_ifeq hC 40 dX7_signed_32 (by decide) 35 rfl (fun h => absurd h (by decide)) (fun _ => ?_)
      refine r_iload_n hC 0 dX7_signed_35 rfl 36 rfl ?_
      refine r_ineg hC (-((numV T en 0 hi6 (.ok (tBeg T en (tEnd T en g)))).toInt32)) dX7_signed_36 (rfl) 37 rfl ?_
      refine r_goto hC 41 dX7_signed_37 (by decide) ?_
      exact r_iret hC (by first | omega | (dsimp only; omega)) (by first | omega | (dsimp only; omega)) (fun V9 h => hQ _ _ ⟨([(rd, .inr (6, [.ref sc, .ref md, .ref (o 0)]))] ++ w18), ⟨_, w18, (by rw [sgnP, sgn0, if_pos hk1]; exact he13), (by rw [sgnV, sgn0, if_pos hk1, if_pos hk1]; exact congrArg (fun z => some (Value.int z)) (Int64.toInt32_neg _).symm), ht12, rfl⟩, by rw [← hV0, ← hF]; exact h⟩) dX7_signed_41
    · skip
      obtain ⟨c14, ge15, hx16, rfl⟩ := h22
      show rx C (xSt F V0 [(rd, .inr (6, [.ref sc, .ref md, .ref (o 0)])), exK z3 c14 q20 ge15]) (((0 + 0) + ((tEnd T en (tBeg T en (tEnd T en g)) - (tBeg T en (tEnd T en g))) + 4)) + (6 * (potP T en (.ok (tBeg T en (tEnd T en g))) - potP T en (numP T en 0 hi6 (.ok (tBeg T en (tEnd T en g))))))) (((0 + 0) + (5 * (tEnd T en (tBeg T en (tEnd T en g)) - (tBeg T en (tEnd T en g))) + 36)) + (50 * (potP T en (.ok (tBeg T en (tEnd T en g))) - potP T en (numP T en 0 hi6 (.ok (tBeg T en (tEnd T en g))))))) 27 [(2, .int 1), (0, .ref rd), (1, .int hi)] [] q20
      have hx16e : numP T en 0 hi6 (nxP T en (.ok g)) = .error (c14, ge15) := by rw [he3]; exact hx16
      exact rx_out hC hTab (fun _ h => by cases h) (by first | omega | (dsimp only; omega)) (by first | omega | (dsimp only; omega)) (fun V9 h => hX _ _ ⟨[exK z3 c14 q20 ge15], ⟨_, _, (by rw [sgnP, sgn0, if_pos hk1]; exact hx16e), rfl⟩, by rw [← hV0, ← hF]; exact h.sub [1] rfl rfl⟩)
  · skip
    refine xCall.r (r := some (.int 0)) (r_cV hC kX8 sc [.int 45] mVX8_isAt q1424 (fun _ h => tok_recv htw h.in.right) (fun V9 h9 => (xRm_v (metX8_isAt _ _ hG sc tx sy en T B m hE g tw htw 45 hs45 (by decide) (by decide)) (show _ = some (Value.int 0) by rw [hk1]; rfl)) V9 h9.in.right) ⟨rfl, rfl⟩ (by first | omega | (dsimp only; omega)) (by first | omega | (dsimp only; omega)) rfl (Nat.le_of_ble_eq_true rfl) dX7_signed_6) (0 + 0) (0 + 0) 9 rfl rfl rfl ?_
    have hsg : sgnP T en hi6 (.ok g) = numP T en 0 hi6 (.ok g) := by rw [sgnP, sgn0, if_neg (nt hk1)]
    have hsp := congrArg (potP T en) hsg
    refine r_istore_n hC 2 [(2, .int 0), (0, .ref rd), (1, .int hi)] dX7_signed_9 rfl (Nat.le_of_ble_eq_true rfl) rfl 10 rfl ?_
    refine r_iload_n hC 0 dX7_signed_10 rfl 11 rfl ?_
    refine r_ifeq hC 21 dX7_signed_11 (by decide) 14 rfl (fun _ => ?_) (fun h => absurd h (by decide))
    refine r_aload_n hC 1 dX7_signed_21 rfl 22 rfl ?_
    refine r_get (v := .ref sc) hC kX7 0 rfl q1299 (fun _ h => h.get 0 rfl) rfl dX7_signed_22 25 rfl ?_
    refine r_iconst hC 0 dX7_signed_25 ic_0 26 rfl ?_
    refine r_iload_n hC 2 dX7_signed_26 rfl 27 rfl ?_
    skip
    skip
    refine xCall.tl (ws := [(rd, .inr (6, [.ref sc, .ref md, .ref (o 0)]))]) (r_cV hC kX8 sc [.int 0, .int hi] mVX8_number q1338 (fun _ h => tok_recv htw h.in.right) (fun V9 h9 => (metX8_numberC _ _ hG sc tx sy en T B m hE g tw htw z3 0 hi 0 hi6 (by decide) hh9 rfl hh6) V9 h9.in.right) ⟨rfl, rfl⟩ (by first | omega | (dsimp only; omega)) (by first | omega | (dsimp only; omega)) rfl (Nat.le_of_ble_eq_true rfl) dX7_signed_27) ((0 + 0) + (6 * (potP T en (.ok g) - potP T en (numP T en 0 hi6 (.ok g))))) ((0 + 0) + (50 * (potP T en (.ok g) - potP T en (numP T en 0 hi6 (.ok g))))) 30 rfl rfl rfl (fun v30 w31 h32 => ?_) (fun q33 w34 h35 => ?_)
    · skip
      obtain ⟨g23, hp24, rfl, ht25⟩ := h32
      show rn C (xSt F V0 ([(rd, .inr (6, [.ref sc, .ref md, .ref (o 0)]))] ++ w31)) ((0 + 0) + (6 * (potP T en (.ok g) - potP T en (numP T en 0 hi6 (.ok g))))) ((0 + 0) + (50 * (potP T en (.ok g) - potP T en (numP T en 0 hi6 (.ok g))))) 30 [(2, .int 0), (0, .ref rd), (1, .int hi)] [.int ((numV T en 0 hi6 (.ok g)).toInt32)]
      have he26 : numP T en 0 hi6 (.ok g) = .ok g23 := hp24
      have : potP T en (numP T en 0 hi6 (.ok g)) = potP T en (.ok g23) := by rw [he26]
      refine r_istore_n hC 3 [(3, .int ((numV T en 0 hi6 (.ok g)).toInt32)), (2, .int 0), (0, .ref rd), (1, .int hi)] dX7_signed_30 rfl (Nat.le_of_ble_eq_true rfl) rfl 31 rfl ?_
      refine r_iload_n hC 1 dX7_signed_31 rfl 32 rfl ?_
      refine r_ifeq hC 40 dX7_signed_32 (by decide) 35 rfl (fun _ => ?_) (fun h => absurd h (by decide))
      refine r_iload_n hC 0 dX7_signed_40 rfl 41 rfl ?_
      exact r_iret hC (by first | omega | (dsimp only; omega)) (by first | omega | (dsimp only; omega)) (fun V9 h => hQ _ _ ⟨([(rd, .inr (6, [.ref sc, .ref md, .ref (o 0)]))] ++ w31), ⟨_, w31, (by rw [sgnP, sgn0, if_neg (nt hk1)]; exact he26), (by rw [sgnV, sgn0, if_neg (nt hk1), if_neg (nt hk1)]), ht25, rfl⟩, by rw [← hV0, ← hF]; exact h⟩) dX7_signed_41
    · skip
      obtain ⟨c27, ge28, hx29, rfl⟩ := h35
      show rx C (xSt F V0 [(rd, .inr (6, [.ref sc, .ref md, .ref (o 0)])), exK z3 c27 q33 ge28]) ((0 + 0) + (6 * (potP T en (.ok g) - potP T en (numP T en 0 hi6 (.ok g))))) ((0 + 0) + (50 * (potP T en (.ok g) - potP T en (numP T en 0 hi6 (.ok g))))) 27 [(2, .int 0), (0, .ref rd), (1, .int hi)] [] q33
      have hx29e : numP T en 0 hi6 (.ok g) = .error (c27, ge28) := hx29
      exact rx_out hC hTab (fun _ h => by cases h) (by first | omega | (dsimp only; omega)) (by first | omega | (dsimp only; omega)) (fun V9 h => hX _ _ ⟨[exK z3 c27 q33 ge28], ⟨_, _, (by rw [sgnP, sgn0, if_neg (nt hk1)]; exact hx29e), rfl⟩, by rw [← hV0, ← hF]; exact h.sub [1] rfl rfl⟩)
def schW (T : Nat → Int32) (en : Nat) (ps : PS) : Int32 := if isW T en 3079449 ps = true then 0 else if isW T en 239884 ps = true then 1 else 2
theorem schW_V {T : Nat → Int32} {en : Nat} {ps : PS} : (schV T en ps).toInt32 = schW T en (nxP T en ps) := by
  unfold schV schW
  split
  · rfl
  · split <;> rfl
set_option maxHeartbeats 4000000 in
set_option maxRecDepth 100000 in
theorem metX7_scheme (l : Launch) (G : xG) (hG : xGood G) (sc tx sy en : Nat) (T B : Nat → Int32) (m : Nat) (hE : scE G sy en T B m) (g : Nat) (tw : xW) (htw : tokW sc tx sy en T B m g tw) (z3 : Nat) (rd md : Nat) (o : Nat → Nat) (hs45 : syQ B m 45 = true) (hs59 : syQ B m 59 = true) : xWm l G yX7_scheme (Cond.code yX7_scheme cX7_scheme 1 (some .int)) { frames := 10, locals := 255, cells := 6 * (potP T en (.ok g) - potP T en (schQ T en (.ok g))), slots := 50 * (potP T en (.ok g) - potP T en (schQ T en (.ok g))) } [.ref rd] ([(rd, .inr (6, [.ref sc, .ref md, .ref (o 0)]))] ++ tw) (fun v w' => ∃ (g' : Nat) (tw' : xW), schQ T en (.ok g) = .ok g' ∧ v = some (.int (schW T en (.ok g))) ∧ tokW sc tx sy en T B m g' tw' ∧ w' = ([(rd, .inr (6, [.ref sc, .ref md, .ref (o 0)]))] ++ tw')) (fun q w' => ∃ (c : Int32) (g1 : Nat), schQ T en (.ok g) = .error (c, g1) ∧ w' = [exK z3 c q g1]) := by
  intro V hV
  refine xMet_ofT RX7 hG rfl (by decide) (Nat.le_of_ble_eq_true rfl) fun C hC hQ hX hl hg _ hTab => ?_
  subst hl hg
  have hm1 : potP T en (schQ T en (.ok g)) ≤ potP T en (.ok g) := pot_schQ
  have hm2 : potP T en (expP T en 318696356 (.ok g)) ≤ potP T en (.ok g) := pot_exp
  obtain ⟨V0, hV0⟩ : ∃ V0, V0 = V := ⟨_, rfl⟩
  obtain ⟨F, hF⟩ : ∃ F, F = xF ([(rd, .inr (6, [.ref sc, .ref md, .ref (o 0)]))] ++ tw) := ⟨_, rfl⟩
  refine rn.mono (J := xSt F V0 ([(rd, .inr (6, [.ref sc, .ref md, .ref (o 0)]))] ++ tw)) (fun V9 h => by rw [h, hV0, hF]; exact hV.st) ?_
  show rn C (xSt F V0 ([(rd, .inr (6, [.ref sc, .ref md, .ref (o 0)]))] ++ tw)) 0 0 0 [(0, .ref rd)] []
  refine r_aload_n hC 0 dX7_scheme_0 rfl 1 rfl ?_
  refine r_get (v := .ref sc) hC kX7 0 rfl q1299 (fun _ h => h.get 0 rfl) rfl dX7_scheme_1 4 rfl ?_
  obtain ⟨ka1, kv2, hr3, hst4⟩ := ks_X7_40 hG
  refine r_ldcS hC hr3 dX7_scheme_4 6 rfl ?_
  rcases Bool.eq_false_or_eq_true (isW T en 3079449 (.ok g)) with hk5 | hk5
  · skip
    have he7 : nxP T en (.ok g) = .ok (tBeg T en (tEnd T en g)) := rfl
    have : potP T en (nxP T en (.ok g)) = potP T en (.ok (tBeg T en (tEnd T en g))) := by rw [he7]
    have := (pot_nx (T := T) (isW_lt hk5)).2
    refine xCall.tl (ws := [(rd, .inr (6, [.ref sc, .ref md, .ref (o 0)]))]) (r_cV hC kX8 sc [.ref ka1] mVX8_accept q1321 (fun _ h => tok_recv htw h.in.right) (fun V9 h9 => (metX8_acceptY _ _ hG sc tx sy en T B m hE g tw htw ka1 kv2 5 (fun j => ([101, 117, 108, 101, 114] : List Int32).getD j 0) hst4 3079449 kw_X7_40 hk5) V9 h9.in.right) ⟨rfl, rfl⟩ (by first | omega | (dsimp only; omega)) (by first | omega | (dsimp only; omega)) rfl (Nat.le_of_ble_eq_true rfl) dX7_scheme_6) (0 + (6 * (potP T en (.ok g) - potP T en (.ok (tBeg T en (tEnd T en g)))))) (0 + (50 * (potP T en (.ok g) - potP T en (.ok (tBeg T en (tEnd T en g)))))) 9 rfl rfl rfl (fun v8 w9 h10 => ?_) (fun _ _ h => h.elim)
    obtain ⟨rfl, ht6⟩ := h10
    show rn C (xSt F V0 ([(rd, .inr (6, [.ref sc, .ref md, .ref (o 0)]))] ++ w9)) (0 + (6 * (potP T en (.ok g) - potP T en (.ok (tBeg T en (tEnd T en g)))))) (0 + (50 * (potP T en (.ok g) - potP T en (.ok (tBeg T en (tEnd T en g)))))) 9 [(0, .ref rd)] [.int 1]
    refine r_ifeq hC 14 dX7_scheme_9 (by decide) 12 rfl (fun h => absurd h (by decide)) (fun _ => ?_)
    refine r_iconst hC 0 dX7_scheme_12 ic_0 13 rfl ?_
    exact r_iret hC (by first | omega | (dsimp only; omega)) (by first | omega | (dsimp only; omega)) (fun V9 h => hQ _ _ ⟨([(rd, .inr (6, [.ref sc, .ref md, .ref (o 0)]))] ++ w9), ⟨_, w9, (by rw [schQ, if_pos hk5]; exact he7), (by rw [schW, if_pos hk5]), ht6, rfl⟩, by rw [← hV0, ← hF]; exact h⟩) dX7_scheme_13
  · skip
    refine xCall.tl (ws := [(rd, .inr (6, [.ref sc, .ref md, .ref (o 0)]))]) (r_cV hC kX8 sc [.ref ka1] mVX8_accept q1321 (fun _ h => tok_recv htw h.in.right) (fun V9 h9 => (metX8_acceptN _ _ hG sc tx sy en T B m hE g tw htw ka1 kv2 5 (fun j => ([101, 117, 108, 101, 114] : List Int32).getD j 0) hst4 3079449 kw_X7_40 hk5) V9 h9.in.right) ⟨rfl, rfl⟩ (by first | omega | (dsimp only; omega)) (by first | omega | (dsimp only; omega)) rfl (Nat.le_of_ble_eq_true rfl) dX7_scheme_6) (0 + 0) (0 + 0) 9 rfl rfl rfl (fun v15 w16 h17 => ?_) (fun _ _ h => h.elim)
    obtain ⟨rfl, ht14⟩ := h17
    show rn C (xSt F V0 ([(rd, .inr (6, [.ref sc, .ref md, .ref (o 0)]))] ++ w16)) (0 + 0) (0 + 0) 9 [(0, .ref rd)] [.int 0]
    refine r_ifeq hC 14 dX7_scheme_9 (by decide) 12 rfl (fun _ => ?_) (fun h => absurd h (by decide))
    refine r_aload_n hC 0 dX7_scheme_14 rfl 15 rfl ?_
    refine r_get (v := .ref sc) hC kX7 0 rfl q1299 (fun _ h => h.get 0 rfl) rfl dX7_scheme_15 18 rfl ?_
    obtain ⟨ka21, kv22, hr23, hst24⟩ := ks_X7_46 hG
    refine r_ldcS hC hr23 dX7_scheme_18 20 rfl ?_
    rcases Bool.eq_false_or_eq_true (isW T en 239884 (.ok g)) with hk25 | hk25
    · skip
      have he27 : nxP T en (.ok g) = .ok (tBeg T en (tEnd T en g)) := rfl
      have : potP T en (nxP T en (.ok g)) = potP T en (.ok (tBeg T en (tEnd T en g))) := by rw [he27]
      have := (pot_nx (T := T) (isW_lt hk25)).2
      refine xCall.tl (ws := [(rd, .inr (6, [.ref sc, .ref md, .ref (o 0)]))]) (r_cV hC kX8 sc [.ref ka21] mVX8_accept q1321 (fun _ h => tok_recv ht14 h.in.right) (fun V9 h9 => (metX8_acceptY _ _ hG sc tx sy en T B m hE g w16 ht14 ka21 kv22 4 (fun j => ([108, 101, 97, 112] : List Int32).getD j 0) hst24 239884 kw_X7_46 hk25) V9 h9.in.right) ⟨rfl, rfl⟩ (by first | omega | (dsimp only; omega)) (by first | omega | (dsimp only; omega)) rfl (Nat.le_of_ble_eq_true rfl) dX7_scheme_20) ((0 + 0) + (6 * (potP T en (.ok g) - potP T en (.ok (tBeg T en (tEnd T en g)))))) ((0 + 0) + (50 * (potP T en (.ok g) - potP T en (.ok (tBeg T en (tEnd T en g)))))) 23 rfl rfl rfl (fun v28 w29 h30 => ?_) (fun _ _ h => h.elim)
      obtain ⟨rfl, ht26⟩ := h30
      show rn C (xSt F V0 ([(rd, .inr (6, [.ref sc, .ref md, .ref (o 0)]))] ++ w29)) ((0 + 0) + (6 * (potP T en (.ok g) - potP T en (.ok (tBeg T en (tEnd T en g)))))) ((0 + 0) + (50 * (potP T en (.ok g) - potP T en (.ok (tBeg T en (tEnd T en g)))))) 23 [(0, .ref rd)] [.int 1]
      refine r_ifeq hC 28 dX7_scheme_23 (by decide) 26 rfl (fun h => absurd h (by decide)) (fun _ => ?_)
      refine r_iconst hC 1 dX7_scheme_26 ic_1 27 rfl ?_
      exact r_iret hC (by first | omega | (dsimp only; omega)) (by first | omega | (dsimp only; omega)) (fun V9 h => hQ _ _ ⟨([(rd, .inr (6, [.ref sc, .ref md, .ref (o 0)]))] ++ w29), ⟨_, w29, (by rw [schQ, if_neg (nt hk5), if_pos hk25]; exact he27), (by rw [schW, if_neg (nt hk5), if_pos hk25]), ht26, rfl⟩, by rw [← hV0, ← hF]; exact h⟩) dX7_scheme_27
    · skip
      refine xCall.tl (ws := [(rd, .inr (6, [.ref sc, .ref md, .ref (o 0)]))]) (r_cV hC kX8 sc [.ref ka21] mVX8_accept q1321 (fun _ h => tok_recv ht14 h.in.right) (fun V9 h9 => (metX8_acceptN _ _ hG sc tx sy en T B m hE g w16 ht14 ka21 kv22 4 (fun j => ([108, 101, 97, 112] : List Int32).getD j 0) hst24 239884 kw_X7_46 hk25) V9 h9.in.right) ⟨rfl, rfl⟩ (by first | omega | (dsimp only; omega)) (by first | omega | (dsimp only; omega)) rfl (Nat.le_of_ble_eq_true rfl) dX7_scheme_20) ((0 + 0) + 0) ((0 + 0) + 0) 23 rfl rfl rfl (fun v35 w36 h37 => ?_) (fun _ _ h => h.elim)
      obtain ⟨rfl, ht34⟩ := h37
      show rn C (xSt F V0 ([(rd, .inr (6, [.ref sc, .ref md, .ref (o 0)]))] ++ w36)) ((0 + 0) + 0) ((0 + 0) + 0) 23 [(0, .ref rd)] [.int 0]
      refine r_ifeq hC 28 dX7_scheme_23 (by decide) 26 rfl (fun _ => ?_) (fun h => absurd h (by decide))
      refine r_aload_n hC 0 dX7_scheme_28 rfl 29 rfl ?_
      refine r_get (v := .ref sc) hC kX7 0 rfl q1299 (fun _ h => h.get 0 rfl) rfl dX7_scheme_29 32 rfl ?_
      obtain ⟨ka41, kv42, hr43, hst44⟩ := ks_X7_48 hG
      refine r_ldcS hC hr43 dX7_scheme_32 34 rfl ?_
      skip
      skip
      refine xCall.tl (ws := [(rd, .inr (6, [.ref sc, .ref md, .ref (o 0)]))]) (r_cV hC kX8 sc [.ref ka41] mVX8_expectWord q1401 (fun _ h => tok_recv ht34 h.in.right) (fun V9 h9 => (metX8_expectWordP _ _ hG sc tx sy en T B m hE g w36 ht34 z3 ka41 kv42 6 (fun j => ([118, 101, 114, 108, 101, 116] : List Int32).getD j 0) hst44 318696356 kw_X7_48) V9 h9.in.right) ⟨rfl, rfl⟩ (by first | omega | (dsimp only; omega)) (by first | omega | (dsimp only; omega)) rfl (Nat.le_of_ble_eq_true rfl) dX7_scheme_34) (((0 + 0) + 0) + (6 * (potP T en (.ok g) - potP T en (expP T en 318696356 (.ok g))))) (((0 + 0) + 0) + (50 * (potP T en (.ok g) - potP T en (expP T en 318696356 (.ok g))))) 37 rfl rfl rfl (fun v52 w53 h54 => ?_) (fun q55 w56 h57 => ?_)
      · skip
        obtain ⟨g45, hp46, rfl, ht47⟩ := h54
        show rn C (xSt F V0 ([(rd, .inr (6, [.ref sc, .ref md, .ref (o 0)]))] ++ w53)) (((0 + 0) + 0) + (6 * (potP T en (.ok g) - potP T en (expP T en 318696356 (.ok g))))) (((0 + 0) + 0) + (50 * (potP T en (.ok g) - potP T en (expP T en 318696356 (.ok g))))) 37 [(0, .ref rd)] []
        have he48 : expP T en 318696356 (.ok g) = .ok g45 := hp46
        have : potP T en (expP T en 318696356 (.ok g)) = potP T en (.ok g45) := by rw [he48]
        refine r_iconst hC 2 dX7_scheme_37 ic_2 38 rfl ?_
        exact r_iret hC (by first | omega | (dsimp only; omega)) (by first | omega | (dsimp only; omega)) (fun V9 h => hQ _ _ ⟨([(rd, .inr (6, [.ref sc, .ref md, .ref (o 0)]))] ++ w53), ⟨_, w53, (by rw [schQ, if_neg (nt hk5), if_neg (nt hk25)]; exact he48), (by rw [schW, if_neg (nt hk5), if_neg (nt hk25)]), ht47, rfl⟩, by rw [← hV0, ← hF]; exact h⟩) dX7_scheme_38
      · skip
        obtain ⟨c49, ge50, hx51, rfl⟩ := h57
        show rx C (xSt F V0 [(rd, .inr (6, [.ref sc, .ref md, .ref (o 0)])), exK z3 c49 q55 ge50]) (((0 + 0) + 0) + (6 * (potP T en (.ok g) - potP T en (expP T en 318696356 (.ok g))))) (((0 + 0) + 0) + (50 * (potP T en (.ok g) - potP T en (expP T en 318696356 (.ok g))))) 34 [(0, .ref rd)] [] q55
        have hx51e : expP T en 318696356 (.ok g) = .error (c49, ge50) := hx51
        exact rx_out hC hTab (fun _ h => by cases h) (by first | omega | (dsimp only; omega)) (by first | omega | (dsimp only; omega)) (fun V9 h => hX _ _ ⟨[exK z3 c49 q55 ge50], ⟨_, _, (by rw [schQ, if_neg (nt hk5), if_neg (nt hk25)]; exact hx51e), rfl⟩, by rw [← hV0, ← hF]; exact h.sub [1] rfl rfl⟩)
