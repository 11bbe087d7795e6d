/-! ===== the class: Scanner.number, in one ===== -/
set_option maxRecDepth 100000
/-- the exception that says the code c, thrown at the place g (code 3: the class z3) -/
def exK (z3 : Nat) (c : Int32) (q g : Nat) : Nat × xE := (q, .inr (if c = 1 then 8 else if c = 2 then 9 else z3, [.int (nI g), .null, .null, .null, .null, .null, .int 0]))
theorem num_cases {T B : Nat → Int32} {en m g : Nat} {lo hi : Int32} (h0 : 0 ≤ lo.toInt) (h1 : hi.toInt ≤ 1000000000) : (ckQ T en B m g = 2 ∧ lo ≤ cval T g (tEnd T en g - g) ∧ cval T g (tEnd T en g - g) ≤ hi ∧ numP T en lo.toInt64 hi.toInt64 (.ok g) = .ok (tBeg T en (tEnd T en g)) ∧ (numV T en lo.toInt64 hi.toInt64 (.ok g)).toInt32 = cval T g (tEnd T en g - g)) ∨ (¬ ckQ T en B m g = 2 ∧ numP T en lo.toInt64 hi.toInt64 (.ok g) = .error (1, g)) ∨ (ckQ T en B m g = 2 ∧ cval T g (tEnd T en g - g) < lo ∧ numP T en lo.toInt64 hi.toInt64 (.ok g) = .error (2, g)) ∨ (ckQ T en B m g = 2 ∧ lo ≤ cval T g (tEnd T en g - g) ∧ ¬ cval T g (tEnd T en g - g) ≤ hi ∧ numP T en lo.toInt64 hi.toInt64 (.ok g) = .error (2, g)) := by
  by_cases hk : ckQ T en B m g = 2
  · have hf := tok_fig hk
    have hK := (ck_2 (B := B) (m := m)).mpr hk
    have hi' := cn_in (n := tEnd T en g - g) hf h0 h1
    have e : ∀ b : Bool, m_in (tVal T en g) lo.toInt64 hi.toInt64 = b → numP T en lo.toInt64 hi.toInt64 (.ok g) = if b = true then .ok (tBeg T en (tEnd T en g)) else .error (2, g) := by
      intro b hb
      show (if tKind T en g = 2 then (if m_in (tVal T en g) lo.toInt64 hi.toInt64 = true then nxP T en (.ok g) else .error (2, g)) else .error (1, g)) = _
      rw [if_pos hK, hb]
      rfl
    by_cases hin : lo ≤ cval T g (tEnd T en g - g) ∧ cval T g (tEnd T en g - g) ≤ hi
    · refine Or.inl ⟨hk, hin.1, hin.2, e true (hi'.mpr hin), ?_⟩
      have hv : numV T en lo.toInt64 hi.toInt64 (.ok g) = tVal T en g := by
        show (if numG T en lo.toInt64 hi.toInt64 g = true then tVal T en g else lo.toInt64) = _
        rw [if_pos]
        unfold numG
        rw [decide_eq_true hK, Bool.true_and]
        exact hi'.mpr hin
      rw [hv, show tVal T en g = nval T g (tEnd T en g - g) from rfl, ← cn_val (lo := lo) hf h1 hin.2, Int32.toInt32_toInt64]
    · have hb : m_in (tVal T en g) lo.toInt64 hi.toInt64 = false := by
        cases h9 : m_in (tVal T en g) lo.toInt64 hi.toInt64 with
        | false => rfl
        | true => exact absurd (hi'.mp h9) hin
      by_cases hlo : cval T g (tEnd T en g - g) < lo
      · exact Or.inr (Or.inr (Or.inl ⟨hk, hlo, e false hb⟩))
      · exact Or.inr (Or.inr (Or.inr ⟨hk, Int32.not_lt.mp hlo, fun h9 => hin ⟨Int32.not_lt.mp hlo, h9⟩, e false hb⟩))
  · refine Or.inr (Or.inl ⟨hk, ?_⟩)
    show (if tKind T en g = 2 then (if m_in (tVal T en g) lo.toInt64 hi.toInt64 = true then nxP T en (.ok g) else .error (2, g)) else .error (1, g)) = (.error (1, g) : PS)
    rw [if_neg (fun h9 => hk (ck_2.mp h9))]
set_option maxHeartbeats 4000000 in
set_option maxRecDepth 100000 in
theorem metX8_number (l : Launch) (G : xG) (hG : xGood G) (sc tx sy en : Nat) (T B : Nat → Int32) (m : Nat) (hE : scE G sy en T B m) (g : Nat) (tw : xW) (htw : tokW sc tx sy en T B m g tw) (z3 : Nat) (lo hi : Int32) (h0 : 0 ≤ lo.toInt) (h9 : hi.toInt ≤ 1000000000) : xWm l G yX8_number (Cond.code yX8_number cX8_number 4 (some .int)) { frames := 8, locals := 212, cells := 6 * (potP T en (.ok g) - potP T en (numP T en lo.toInt64 hi.toInt64 (.ok g))), slots := 50 * (potP T en (.ok g) - potP T en (numP T en lo.toInt64 hi.toInt64 (.ok g))) } [.ref sc, .int lo, .int hi] tw (fun v w' => ∃ g' : Nat, numP T en lo.toInt64 hi.toInt64 (.ok g) = .ok g' ∧ v = some (.int (numV T en lo.toInt64 hi.toInt64 (.ok g)).toInt32) ∧ tokW sc tx sy en T B m g' w') (fun q w' => ∃ (c : Int32) (g1 : Nat), numP T en lo.toInt64 hi.toInt64 (.ok g) = .error (c, g1) ∧ w' = [exK z3 c q g1]) := by
  intro V hV
  refine xMet_ofT RX8 hG rfl (by decide) (Nat.le_of_ble_eq_true rfl) fun C hC hQ hX hl hg _ hTab => ?_
  subst hl hg
  obtain ⟨V0, hV0⟩ : ∃ V0, V0 = V := ⟨_, rfl⟩
  obtain ⟨F, hF⟩ : ∃ F, F = xF tw := ⟨_, rfl⟩
  refine rn.mono (J := xSt F V0 ([] ++ tw)) (fun V9 h => by rw [h, hV0, hF]; exact hV.st) ?_
  show rn C (xSt F V0 ([] ++ tw)) 0 0 0 [(0, .ref sc), (1, .int lo), (2, .int hi)] []
  refine r_aload_n hC 0 dX8_number_0 rfl 1 rfl ?_
  refine r_iload_n hC 1 dX8_number_1 rfl 2 rfl ?_
  refine r_iload_n hC 2 dX8_number_2 rfl 3 rfl ?_
  rcases num_cases (T := T) (B := B) (en := en) (m := m) (g := g) h0 h9 with ⟨hk, h1, h2, hp, hv⟩ | ⟨hk, hp⟩ | ⟨hk, h1, hp⟩ | ⟨hk, h1, h2, hp⟩
  · skip
    have hpot := pot_nx (T := T) (ck_lt (T := T) (B := B) (m := m) (by rw [hk]; decide))
    have hq9 : potP T en (numP T en lo.toInt64 hi.toInt64 (.ok g)) = potP T en (.ok (tBeg T en (tEnd T en g))) := by rw [hp]
    refine xCall.r (r := some (.int (cval T g (tEnd T en g - g)))) (r_cV hC kX8 sc [.int lo, .int hi] mVX8_look q1342 (fun _ h => tok_recv htw h.in.right) (fun V9 h9 => (metX8_lookTG _ _ hG sc tx sy en T B m hE g tw htw lo hi hk h1 h2) V9 h9.in.right) ⟨rfl, rfl⟩ (by first | omega | (dsimp only; omega)) (by first | omega | (dsimp only; omega)) rfl (Nat.le_of_ble_eq_true rfl) dX8_number_3) (0 + 0) (0 + 0) 6 rfl rfl rfl ?_
    refine r_istore_n hC 3 [(3, .int (cval T g (tEnd T en g - g))), (0, .ref sc), (1, .int lo), (2, .int hi)] dX8_number_6 rfl (Nat.le_of_ble_eq_true rfl) rfl 7 rfl ?_
    refine r_aload_n hC 1 dX8_number_7 rfl 8 rfl ?_
    refine xCall.tl (ws := []) (r_cV hC kX8 sc [] mVX8_advance q976 (fun _ h => tok_recv htw h.in.right) (fun V9 h9 => (metX8_advance _ _ hG sc tx sy en T B m hE g tw htw) V9 h9.in.right) ⟨rfl, rfl⟩ (by first | omega | (dsimp only; omega)) (by first | omega | (dsimp only; omega)) rfl (Nat.le_of_ble_eq_true rfl) dX8_number_8) ((0 + 0) + ((tEnd T en (tBeg T en (tEnd T en g)) - (tBeg T en (tEnd T en g))) + 4)) ((0 + 0) + (5 * (tEnd T en (tBeg T en (tEnd T en g)) - (tBeg T en (tEnd T en g))) + 36)) 11 rfl rfl rfl (fun v2 w3 h4 => ?_) (fun _ _ h => h.elim)
    obtain ⟨rfl, ht1⟩ := h4
    show rn C (xSt F V0 ([] ++ w3)) ((0 + 0) + ((tEnd T en (tBeg T en (tEnd T en g)) - (tBeg T en (tEnd T en g))) + 4)) ((0 + 0) + (5 * (tEnd T en (tBeg T en (tEnd T en g)) - (tBeg T en (tEnd T en g))) + 36)) 11 [(3, .int (cval T g (tEnd T en g - g))), (0, .ref sc), (1, .int lo), (2, .int hi)] []
    refine r_iload_n hC 0 dX8_number_11 rfl 12 rfl ?_
    exact r_iret hC (by first | omega | (dsimp only; omega)) (by first | omega | (dsimp only; omega)) (fun V9 h => hQ _ _ ⟨w3, ⟨_, hp, by rw [hv], ht1⟩, by rw [← hV0, ← hF]; exact h⟩) dX8_number_12
  · skip
    have hpot := pot_1 (T := T) (tok_le htw)
    have hq9 : potP T en (numP T en lo.toInt64 hi.toInt64 (.ok g)) = 0 := by rw [hp]; rfl
    refine xCall.tl (ws := []) (r_cV hC kX8 sc [.int lo, .int hi] mVX8_look q1342 (fun _ h => tok_recv htw h.in.right) (fun V9 h9 => (metX8_lookTS _ _ hG sc tx sy en T B m hE g tw htw lo hi hk) V9 h9.in.right) ⟨rfl, rfl⟩ (by first | omega | (dsimp only; omega)) (by first | omega | (dsimp only; omega)) rfl (Nat.le_of_ble_eq_true rfl) dX8_number_3) (0 + 1) (0 + 7) 6 rfl rfl rfl (fun _ _ h => h.elim) (fun q11 w12 h13 => ?_)
    obtain rfl := h13
    show rx C (xSt F V0 [(q11, .inr (8, [.int (nI g), .null, .null, .null, .null, .null, .int 0]))]) (0 + 1) (0 + 7) 3 [(0, .ref sc), (1, .int lo), (2, .int hi)] [] q11
    exact rx_out hC hTab (fun _ h => by cases h) (by first | omega | (dsimp only; omega)) (by first | omega | (dsimp only; omega)) (fun V9 h => hX _ _ ⟨[(q11, .inr (8, [.int (nI g), .null, .null, .null, .null, .null, .int 0]))], ⟨_, _, hp, rfl⟩, by rw [← hV0, ← hF]; exact h.sub [0] rfl rfl⟩)
  · skip
    have hpot := pot_1 (T := T) (tok_le htw)
    have hq9 : potP T en (numP T en lo.toInt64 hi.toInt64 (.ok g)) = 0 := by rw [hp]; rfl
    refine xCall.tl (ws := []) (r_cV hC kX8 sc [.int lo, .int hi] mVX8_look q1342 (fun _ h => tok_recv htw h.in.right) (fun V9 h9 => (metX8_lookTR1 _ _ hG sc tx sy en T B m hE g tw htw lo hi hk h1) V9 h9.in.right) ⟨rfl, rfl⟩ (by first | omega | (dsimp only; omega)) (by first | omega | (dsimp only; omega)) rfl (Nat.le_of_ble_eq_true rfl) dX8_number_3) (0 + 1) (0 + 7) 6 rfl rfl rfl (fun _ _ h => h.elim) (fun q17 w18 h19 => ?_)
    obtain rfl := h19
    show rx C (xSt F V0 [(q17, .inr (9, [.int (nI g), .null, .null, .null, .null, .null, .int 0]))]) (0 + 1) (0 + 7) 3 [(0, .ref sc), (1, .int lo), (2, .int hi)] [] q17
    exact rx_out hC hTab (fun _ h => by cases h) (by first | omega | (dsimp only; omega)) (by first | omega | (dsimp only; omega)) (fun V9 h => hX _ _ ⟨[(q17, .inr (9, [.int (nI g), .null, .null, .null, .null, .null, .int 0]))], ⟨_, _, hp, rfl⟩, by rw [← hV0, ← hF]; exact h.sub [0] rfl rfl⟩)
  · skip
    have hpot := pot_1 (T := T) (tok_le htw)
    have hq9 : potP T en (numP T en lo.toInt64 hi.toInt64 (.ok g)) = 0 := by rw [hp]; rfl
    refine xCall.tl (ws := []) (r_cV hC kX8 sc [.int lo, .int hi] mVX8_look q1342 (fun _ h => tok_recv htw h.in.right) (fun V9 h9 => (metX8_lookTR2 _ _ hG sc tx sy en T B m hE g tw htw lo hi hk h1 h2) V9 h9.in.right) ⟨rfl, rfl⟩ (by first | omega | (dsimp only; omega)) (by first | omega | (dsimp only; omega)) rfl (Nat.le_of_ble_eq_true rfl) dX8_number_3) (0 + 1) (0 + 7) 6 rfl rfl rfl (fun _ _ h => h.elim) (fun q23 w24 h25 => ?_)
    obtain rfl := h25
    show rx C (xSt F V0 [(q23, .inr (9, [.int (nI g), .null, .null, .null, .null, .null, .int 0]))]) (0 + 1) (0 + 7) 3 [(0, .ref sc), (1, .int lo), (2, .int hi)] [] q23
    exact rx_out hC hTab (fun _ h => by cases h) (by first | omega | (dsimp only; omega)) (by first | omega | (dsimp only; omega)) (fun V9 h => hX _ _ ⟨[(q23, .inr (9, [.int (nI g), .null, .null, .null, .null, .null, .int 0]))], ⟨_, _, hp, rfl⟩, by rw [← hV0, ← hF]; exact h.sub [0] rfl rfl⟩)
