/-! ===== the class: Scanner over a token: what goes on ===== -/
set_option maxRecDepth 100000
theorem perm_ex {ws tw ex : xW} : (ws ++ (tw ++ ex)).Perm ((ws ++ ex) ++ tw) := by
  rw [List.append_assoc]
  exact List.Perm.append_left ws List.perm_append_comm
theorem xCall.tl {C : xC} {k n pc len : Nat} {lv : List (Nat × Value)} {st stk : List Value} {rm2 : Room} {F : Nat → Prop} {V0 : xV} {ws tl : xW} {Q : Option Value → xW → Prop} {X9 : Nat → xW → Prop} (h : xCall C (xSt F V0 (ws ++ tl)) k n pc len lv stk st rm2 (fun V v V' => ∃ w', Q v w' ∧ xSt (xF tl) V w' V') (fun V q V' => ∃ w', X9 q w' ∧ xSt (xF tl) V w' V')) (k1 n1 pc1 : Nat) (hk1 : k + rm2.cells = k1) (hn1 : n + rm2.slots = n1) (hp : pc + len = pc1)
    (kk : ∀ v w', Q v w' → rn C (xSt F V0 (ws ++ w')) k1 n1 pc1 lv (v.toList ++ st)) (kx : ∀ q w', X9 q w' → rx C (xSt F V0 (ws ++ w')) k1 n1 pc lv st q) : rn C (xSt F V0 (ws ++ tl)) k n pc lv stk :=
  xCall.p h List.perm_append_comm k1 n1 pc1 hk1 hn1 hp kk kx
/-- how much is left to read: what reading may cost is counted by it -/
def potP (T : Nat → Int32) (en : Nat) : PS → Nat
  | .ok g => en + 1 - tEnd T en g + (if g < en then 1 else 0)
  | .error _ => 0
/-- one token on: what it costs -/
theorem pot_nx {T : Nat → Int32} {en g : Nat} (hg : g < en) : (tEnd T en (tBeg T en (tEnd T en g)) - tBeg T en (tEnd T en g)) + 1 + potP T en (.ok (tBeg T en (tEnd T en g))) ≤ potP T en (.ok g) + 1 ∧ potP T en (.ok (tBeg T en (tEnd T en g))) + 1 ≤ potP T en (.ok g) := by
  have h1 := tEnd_le (bf := T) (Nat.le_of_lt hg)
  have key : ∀ g' : Nat, tEnd T en g ≤ g' → g' ≤ en → (tEnd T en g' - g') + 1 + potP T en (.ok g') ≤ potP T en (.ok g) + 1 ∧ potP T en (.ok g') + 1 ≤ potP T en (.ok g) := by
    intro g' h2 h3
    have h4 := tEnd_le (bf := T) h3
    show (tEnd T en g' - g') + 1 + (en + 1 - tEnd T en g' + (if g' < en then 1 else 0)) ≤ en + 1 - tEnd T en g + (if g < en then 1 else 0) + 1 ∧ (en + 1 - tEnd T en g' + (if g' < en then 1 else 0)) + 1 ≤ en + 1 - tEnd T en g + (if g < en then 1 else 0)
    rw [if_pos hg]
    generalize tEnd T en g = e0 at h1 h2
    by_cases hg' : g' < en
    · have h5 := tEnd_gt (bf := T) hg'
      rw [if_pos hg']
      generalize tEnd T en g' = e1 at h4 h5
      omega
    · rw [if_neg hg']
      have h6 : tEnd T en g' = g' := by unfold tEnd; rw [if_neg hg']
      rw [h6]
      omega
  exact key _ runE_ge (runE_le h1)
theorem pot_1 {T : Nat → Int32} {en g : Nat} (h : g ≤ en) : 1 ≤ potP T en (.ok g) := by
  have h1 := tEnd_le (bf := T) h
  show 1 ≤ en + 1 - tEnd T en g + (if g < en then 1 else 0)
  omega
theorem pot_le {T : Nat → Int32} {en g : Nat} (h : en ≤ 600) : potP T en (.ok g) ≤ 602 := by
  show en + 1 - tEnd T en g + (if g < en then 1 else 0) ≤ 602
  split <;> omega
theorem isW_lt {T : Nat → Int32} {en g : Nat} {w : Int64} (h : isW T en w (.ok g) = true) : g < en := by
  have h9 : (decide (tKind T en g = 1) && (decide (tEnd T en g - g ≤ 8) && decide (tWord T en g = w))) = true := h
  simp only [Bool.and_eq_true, decide_eq_true_eq] at h9
  have h1 := h9.1
  unfold tKind at h1
  split at h1
  · assumption
  · exact absurd h1 (by decide)
theorem isB_lt {T : Nat → Int32} {en g : Nat} {c : Int32} (h : isB T en c (.ok g) = true) : g < en := by
  have h9 : (decide (tKind T en g = 3) && decide (T g = c)) = true := h
  simp only [Bool.and_eq_true, decide_eq_true_eq] at h9
  have h1 := h9.1
  unfold tKind at h1
  split at h1
  · assumption
  · exact absurd h1 (by decide)
set_option maxHeartbeats 4000000 in
set_option maxRecDepth 100000 in
theorem metX8_acceptY (l : Launch) (G : xG) (hG : xGood G) (sc tx sy en : Nat) (T B : Nat → Int32) (m : Nat) (hE : scE G sy en T B m) (g : Nat) (tw : xW) (htw : tokW sc tx sy en T B m g tw) (ka kv cm : Nat) (CB : Nat → Int32) (hst : xStr G ka kv cm CB) (w : Int64) (hkw : kwQ CB cm w) (hw : isW T en w (.ok g) = true) : xWm l G yX8_accept (Cond.code yX8_accept cX8_accept 3 (some .boolean)) { frames := 8, locals := 212, cells := 6 * (potP T en (.ok g) - potP T en (.ok (tBeg T en (tEnd T en g)))), slots := 50 * (potP T en (.ok g) - potP T en (.ok (tBeg T en (tEnd T en g)))) } [.ref sc, .ref ka] tw (fun v w' => v = some (.int 1) ∧ tokW sc tx sy en T B m (tBeg T en (tEnd T en g)) w') (fun _ _ => False) := by
  intro V hV
  refine xMet_ofT RX8 hG rfl (by decide) (Nat.le_of_ble_eq_true rfl) fun C hC hQ hX hl hg _ hTab => ?_
  subst hl hg
  have hpot := pot_nx (T := T) (isW_lt hw)
  obtain ⟨V0, hV0⟩ : ∃ V0, V0 = V := ⟨_, rfl⟩
  obtain ⟨F, hF⟩ : ∃ F, F = xF tw := ⟨_, rfl⟩
  refine rn.mono (J := xSt F V0 ([] ++ tw)) (fun V9 h => by rw [h, hV0, hF]; exact hV.st) ?_
  show rn C (xSt F V0 ([] ++ tw)) 0 0 0 [(0, .ref sc), (1, .ref ka)] []
  refine r_aload_n hC 0 dX8_accept_0 rfl 1 rfl ?_
  refine r_aload_n hC 1 dX8_accept_1 rfl 2 rfl ?_
  refine xCall.r (r := some (.int 1)) (r_cV hC kX8 sc [.ref ka] mVX8_isWord q1325 (fun _ h => tok_recv htw h.in.right) (fun V9 h9 => (xRm_v (metX8_isWord _ _ hG sc tx sy en T B m hE g tw htw ka kv cm CB hst w hkw) (show _ = some (Value.int 1) by rw [hw]; rfl)) V9 h9.in.right) ⟨rfl, rfl⟩ (Nat.le_of_ble_eq_true rfl) (Nat.le_of_ble_eq_true rfl) rfl (Nat.le_of_ble_eq_true rfl) dX8_accept_2) 0 0 5 rfl rfl rfl ?_
  refine r_istore_n hC 2 [(2, .int 1), (0, .ref sc), (1, .ref ka)] dX8_accept_5 rfl (Nat.le_of_ble_eq_true rfl) rfl 6 rfl ?_
  refine r_iload_n hC 0 dX8_accept_6 rfl 7 rfl ?_
  refine r_ifeq hC 14 dX8_accept_7 (by decide) 10 rfl (fun h => absurd h (by decide)) (fun _ => ?_)
  refine r_aload_n hC 1 dX8_accept_10 rfl 11 rfl ?_
  refine xCall.tl (ws := []) (r_cV hC kX8 sc [] mVX8_advance q976 (fun _ h => tok_recv htw h.in.right) (fun V9 h9 => (metX8_advance _ _ hG sc tx sy en T B m hE g tw htw) V9 h9.in.right) ⟨rfl, rfl⟩ (by first | omega | (dsimp only; omega)) (by first | omega | (dsimp only; omega)) rfl (Nat.le_of_ble_eq_true rfl) dX8_accept_11) (0 + ((tEnd T en (tBeg T en (tEnd T en g)) - (tBeg T en (tEnd T en g))) + 4)) (0 + (5 * (tEnd T en (tBeg T en (tEnd T en g)) - (tBeg T en (tEnd T en g))) + 36)) 14 rfl rfl rfl (fun v2 w3 h4 => ?_) (fun _ _ h => h.elim)
  obtain ⟨rfl, ht1⟩ := h4
  show rn C (xSt F V0 ([] ++ w3)) (0 + ((tEnd T en (tBeg T en (tEnd T en g)) - (tBeg T en (tEnd T en g))) + 4)) (0 + (5 * (tEnd T en (tBeg T en (tEnd T en g)) - (tBeg T en (tEnd T en g))) + 36)) 14 [(2, .int 1), (0, .ref sc), (1, .ref ka)] []
  refine r_iload_n hC 0 dX8_accept_14 rfl 15 rfl ?_
  exact r_zret hC (by decide) (by first | omega | (dsimp only; omega)) (by first | omega | (dsimp only; omega)) (fun V9 h => hQ _ _ ⟨w3, ⟨rfl, ht1⟩, by rw [← hV0, ← hF]; exact h⟩) dX8_accept_15
set_option maxHeartbeats 4000000 in
set_option maxRecDepth 100000 in
theorem metX8_acceptN (l : Launch) (G : xG) (hG : xGood G) (sc tx sy en : Nat) (T B : Nat → Int32) (m : Nat) (hE : scE G sy en T B m) (g : Nat) (tw : xW) (htw : tokW sc tx sy en T B m g tw) (ka kv cm : Nat) (CB : Nat → Int32) (hst : xStr G ka kv cm CB) (w : Int64) (hkw : kwQ CB cm w) (hw : isW T en w (.ok g) = false) : xWm l G yX8_accept (Cond.code yX8_accept cX8_accept 3 (some .boolean)) { frames := 8, locals := 212, cells := 0, slots := 0 } [.ref sc, .ref ka] tw (fun v w' => v = some (.int 0) ∧ tokW sc tx sy en T B m g w') (fun _ _ => False) := by
  intro V hV
  refine xMet_ofT RX8 hG rfl (by decide) (Nat.le_of_ble_eq_true rfl) fun C hC hQ hX hl hg _ hTab => ?_
  subst hl hg
  obtain ⟨V0, hV0⟩ : ∃ V0, V0 = V := ⟨_, rfl⟩
  obtain ⟨F, hF⟩ : ∃ F, F = xF tw := ⟨_, rfl⟩
  refine rn.mono (J := xSt F V0 ([] ++ tw)) (fun V9 h => by rw [h, hV0, hF]; exact hV.st) ?_
  show rn C (xSt F V0 ([] ++ tw)) 0 0 0 [(0, .ref sc), (1, .ref ka)] []
  refine r_aload_n hC 0 dX8_accept_0 rfl 1 rfl ?_
  refine r_aload_n hC 1 dX8_accept_1 rfl 2 rfl ?_
  refine xCall.r (r := some (.int 0)) (r_cV hC kX8 sc [.ref ka] mVX8_isWord q1325 (fun _ h => tok_recv htw h.in.right) (fun V9 h9 => (xRm_v (metX8_isWord _ _ hG sc tx sy en T B m hE g tw htw ka kv cm CB hst w hkw) (show _ = some (Value.int 0) by rw [hw]; rfl)) V9 h9.in.right) ⟨rfl, rfl⟩ (Nat.le_of_ble_eq_true rfl) (Nat.le_of_ble_eq_true rfl) rfl (Nat.le_of_ble_eq_true rfl) dX8_accept_2) 0 0 5 rfl rfl rfl ?_
  refine r_istore_n hC 2 [(2, .int 0), (0, .ref sc), (1, .ref ka)] dX8_accept_5 rfl (Nat.le_of_ble_eq_true rfl) rfl 6 rfl ?_
  refine r_iload_n hC 0 dX8_accept_6 rfl 7 rfl ?_
  refine r_ifeq hC 14 dX8_accept_7 (by decide) 10 rfl (fun _ => ?_) (fun h => absurd h (by decide))
  refine r_iload_n hC 0 dX8_accept_14 rfl 15 rfl ?_
  exact r_zret hC (by decide) (Nat.le_of_ble_eq_true rfl) (Nat.le_of_ble_eq_true rfl) (fun V9 h => hQ _ _ ⟨tw, ⟨rfl, htw⟩, by rw [← hV0, ← hF]; exact h⟩) dX8_accept_15
theorem xWm.frp {l : Launch} {G : xG} {y : MethodName} {w : Cond} {rm : Room} {As : List Value} {wc : xW} {Q Q' : Option Value → xW → Prop} {X X' : Nat → xW → Prop} (h : xWm l G y w rm As wc Q X) (ex : xW) (hQ : ∀ v w1, Q v w1 → ∃ w2, Q' v w2 ∧ (ex ++ w1).Perm w2) (hX : ∀ q w1, X q w1 → ∃ w2, X' q w2 ∧ (ex ++ w1).Perm w2) : xWm l G y w rm As (wc ++ ex) Q' X' := by
  intro V hV
  refine xMet.imp (h V hV.left) (fun v V' ⟨w', h1, h2⟩ => ?_) (fun q V' ⟨w', h1, h2⟩ => ?_)
  · obtain ⟨w2, g1, g2⟩ := hQ v w' h1
    exact ⟨w2, g1, (hV.st.joinA h2).perm g2⟩
  · obtain ⟨w2, g1, g2⟩ := hX q w' h1
    exact ⟨w2, g1, (hV.st.joinA h2).perm g2⟩
theorem perm_sc {s e : Nat × xE} {A : xW} : (A ++ [s, e]).Perm ((s :: A) ++ [e]) := List.perm_middle
set_option maxHeartbeats 4000000 in
set_option maxRecDepth 100000 in
theorem metX8_wrongT (l : Launch) (G : xG) (hG : xGood G) (sc tx sy en : Nat) (T B : Nat → Int32) (m : Nat) (hE : scE G sy en T B m) (g : Nat) (tw : xW) (htw : tokW sc tx sy en T B m g tw) : xWm l G yX8_wrong (Cond.code yX8_wrong cX8_wrong 1 (some (.object "ThreeBodies$SyntaxException"))) { frames := 5, locals := 110, cells := 1, slots := 7 } [.ref sc] tw (fun v w' => ∃ (q : Nat) (tw' : xW), v = some (.ref q) ∧ tokW sc tx sy en T B m g tw' ∧ w' = tw' ++ [(q, .inr (8, [.int (nI g), .null, .null, .null, .null, .null, .int 0]))]) (fun _ _ => False) := by
  obtain ⟨vl, wd, ex, rfl, h⟩ := htw
  refine (metX8_wrong l G hG sc tx sy en g (tEnd T en g) _ vl wd).frp _ (fun v w1 h1 => ?_) (fun _ _ h => h.elim)
  obtain ⟨q, h1, rfl⟩ := h1
  exact ⟨_, ⟨q, _, h1, ⟨vl, wd, ex, rfl, h⟩, rfl⟩, perm_sc⟩
set_option maxHeartbeats 4000000 in
set_option maxRecDepth 100000 in
theorem metX8_lookTS (l : Launch) (G : xG) (hG : xGood G) (sc tx sy en : Nat) (T B : Nat → Int32) (m : Nat) (hE : scE G sy en T B m) (g : Nat) (tw : xW) (htw : tokW sc tx sy en T B m g tw) (lo hi : Int32) (hk : ¬ ckQ T en B m g = 2) : xWm l G yX8_look (Cond.code yX8_look cX8_look 3 (some .int)) { frames := 6, locals := 130, cells := 1, slots := 7 } [.ref sc, .int lo, .int hi] tw (fun _ _ => False) (fun q w' => w' = [(q, .inr (8, [.int (nI g), .null, .null, .null, .null, .null, .int 0]))]) := by
  obtain ⟨vl, wd, ex, rfl, hge, hv, hw⟩ := htw
  refine xWm.drop (wc := [_]) ?_ (_ :: ex)
  intro V hV
  refine xMet.imp (metX8_lookS l G hG sc tx sy en g (tEnd T en g) _ vl wd lo hi hk V hV) (fun _ _ ⟨_, h, _⟩ => h.elim) (fun q V' ⟨w', h1, h2⟩ => ?_)
  subst h1
  exact ⟨_, rfl, h2.sub [1] rfl rfl⟩
set_option maxHeartbeats 4000000 in
set_option maxRecDepth 100000 in
theorem metX8_lookTR1 (l : Launch) (G : xG) (hG : xGood G) (sc tx sy en : Nat) (T B : Nat → Int32) (m : Nat) (hE : scE G sy en T B m) (g : Nat) (tw : xW) (htw : tokW sc tx sy en T B m g tw) (lo hi : Int32) (hk : ckQ T en B m g = 2) (h1 : cval T g (tEnd T en g - g) < lo) : xWm l G yX8_look (Cond.code yX8_look cX8_look 3 (some .int)) { frames := 5, locals := 110, cells := 1, slots := 7 } [.ref sc, .int lo, .int hi] tw (fun _ _ => False) (fun q w' => w' = [(q, .inr (9, [.int (nI g), .null, .null, .null, .null, .null, .int 0]))]) := by
  obtain ⟨vl, wd, ex, rfl, hge, hv, hw⟩ := htw
  obtain rfl := hv hk
  rw [hk]
  refine xWm.drop (wc := [_]) ?_ (_ :: ex)
  intro V hV
  refine xMet.imp (metX8_lookR1 l G hG sc tx sy en g (tEnd T en g) _ wd lo hi h1 V hV) (fun _ _ ⟨_, h, _⟩ => h.elim) (fun q V' ⟨w', h1, h2⟩ => ?_)
  subst h1
  exact ⟨_, rfl, h2.sub [1] rfl rfl⟩
set_option maxHeartbeats 4000000 in
set_option maxRecDepth 100000 in
theorem metX8_lookTR2 (l : Launch) (G : xG) (hG : xGood G) (sc tx sy en : Nat) (T B : Nat → Int32) (m : Nat) (hE : scE G sy en T B m) (g : Nat) (tw : xW) (htw : tokW sc tx sy en T B m g tw) (lo hi : Int32) (hk : ckQ T en B m g = 2) (h1 : lo ≤ cval T g (tEnd T en g - g)) (h2 : ¬ cval T g (tEnd T en g - g) ≤ hi) : xWm l G yX8_look (Cond.code yX8_look cX8_look 3 (some .int)) { frames := 5, locals := 110, cells := 1, slots := 7 } [.ref sc, .int lo, .int hi] tw (fun _ _ => False) (fun q w' => w' = [(q, .inr (9, [.int (nI g), .null, .null, .null, .null, .null, .int 0]))]) := by
  obtain ⟨vl, wd, ex, rfl, hge, hv, hw⟩ := htw
  obtain rfl := hv hk
  rw [hk]
  refine xWm.drop (wc := [_]) ?_ (_ :: ex)
  intro V hV
  refine xMet.imp (metX8_lookR2 l G hG sc tx sy en g (tEnd T en g) _ wd lo hi h1 h2 V hV) (fun _ _ ⟨_, h, _⟩ => h.elim) (fun q V' ⟨w', h1, h2⟩ => ?_)
  subst h1
  exact ⟨_, rfl, h2.sub [1] rfl rfl⟩
set_option maxHeartbeats 4000000 in
set_option maxRecDepth 100000 in
theorem metX8_lookTG (l : Launch) (G : xG) (hG : xGood G) (sc tx sy en : Nat) (T B : Nat → Int32) (m : Nat) (hE : scE G sy en T B m) (g : Nat) (tw : xW) (htw : tokW sc tx sy en T B m g tw) (lo hi : Int32) (hk : ckQ T en B m g = 2) (h1 : lo ≤ cval T g (tEnd T en g - g)) (h2 : cval T g (tEnd T en g - g) ≤ hi) : xRm l G yX8_look (Cond.code yX8_look cX8_look 3 (some .int)) { frames := 0, locals := 0, cells := 0, slots := 0 } [.ref sc, .int lo, .int hi] tw (some (.int (cval T g (tEnd T en g - g)))) := by
  obtain ⟨vl, wd, ex, rfl, hge, hv, hw⟩ := htw
  obtain rfl := hv hk
  rw [hk]
  exact (metX8_lookG l G hG sc tx sy en g (tEnd T en g) _ wd lo hi h1 h2).left (ex := _ :: ex)
