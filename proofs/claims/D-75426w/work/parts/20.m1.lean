/-! ===== the reference: numbers, places, roots ===== -/
set_option maxRecDepth 100000
def bI (b : Bool) : Int32 := if b then 1 else 0
theorem bI_0 {b : Bool} : bI b = 0 ↔ b = false := by cases b <;> decide
theorem bI_n0 {b : Bool} : (¬ bI b = 0) ↔ b = true := by cases b <;> decide
theorem bI_nar (b : Bool) : narrow .boolean (.int (bI b)) = .int (bI b) := by cases b <;> rfl
def m_in (v lo hi : Int64) : Bool := !decide (v < lo) && !decide (hi < v)
def m_size (v : Int64) : Int64 := if 0 ≤ v then v else -v
def m_floored (a b : Int64) : Int64 := if 0 ≤ a - a / b * b then a / b else a / b - 1
def m_first (p : Nat) : Nat := if p = 2 then 1 else 0
def m_second (p : Nat) : Nat := if p = 0 then 1 else 2
/-- the greatest number between a and b whose square is at most sq, by halving: the loop of both programs -/
def rootN : Nat → Nat → Nat → Int64 → Nat
  | 0, a, _, _ => a
  | f + 1, a, b, sq => if a < b then (if sq < lN ((a + b + 1) / 2 * ((a + b + 1) / 2)) then rootN f a ((a + b + 1) / 2 - 1) sq else rootN f ((a + b + 1) / 2) b sq) else a
def rootQ (sq : Int64) : Nat := rootN 19 0 300000 sq
def awayQ (dx dy : Int64) : Nat := rootQ (dx * dx + dy * dy)
theorem rootN_exit {f a b : Nat} {sq : Int64} (h : b ≤ a) : rootN f a b sq = a := by
  cases f with
  | zero => rfl
  | succ f => rw [rootN, if_neg (by omega)]
theorem rootN_le {f : Nat} : ∀ {a b : Nat} {sq : Int64}, a ≤ b → rootN f a b sq ≤ b := by
  induction f with
  | zero => intro a b sq h; exact h
  | succ f ih =>
    intro a b sq h
    rw [rootN]
    split
    · split
      · exact Nat.le_trans (ih (by omega)) (by omega)
      · exact ih (by omega)
    · exact h
theorem rootQ_le (sq : Int64) : rootQ sq ≤ 300000 := rootN_le (by omega)

set_option maxHeartbeats 4000000 in
set_option maxRecDepth 100000 in
theorem metX6_in (l : Launch) (G : xG) (hG : xGood G) (v lo hi : Int64) : xRm l G yX6_in (Cond.code yX6_in cX6_in 6 (some .boolean)) { frames := 0, locals := 0, cells := 0, slots := 0 } [.long v, .long lo, .long hi] [] (some (.int (bI (m_in v lo hi)))) := by
  intro V hV
  refine xMet_of RX6 hG rfl (by decide) (Nat.le_of_ble_eq_true rfl) fun C hC hQ hX hl hg _ => ?_
  subst hl hg
  refine rn.mono (J := xRo [] V) (fun V9 h => ⟨h, hV⟩) ?_
  show rn C (xRo [] V) 0 0 0 [(0, .long v), (2, .long lo), (4, .long hi)] []
  refine r_lload_n hC 0 dX6_in_0 rfl 1 rfl ?_
  refine r_lload_n hC 1 dX6_in_1 rfl 2 rfl ?_
  refine r_lclt hC 17 dX6_in_2 dX6_in_3 (by decide) 6 rfl (fun c1 => ?_) (fun c1 => ?_)
  · skip
    refine r_iconst hC 0 dX6_in_17 ic_0 18 rfl ?_
    exact r_zret hC (by decide) (Nat.le_of_ble_eq_true rfl) (Nat.le_of_ble_eq_true rfl) (fun V9 h => hQ _ _ ⟨by simp [m_in, bI, c1], h.1⟩) dX6_in_18
  · skip
    refine r_lload_n hC 0 dX6_in_6 rfl 7 rfl ?_
    refine r_lload hC 2 dX6_in_7 rfl 9 rfl ?_
    refine r_lcgt hC 17 dX6_in_9 dX6_in_10 (by decide) 13 rfl (fun c2 => ?_) (fun c2 => ?_)
    · skip
      refine r_iconst hC 0 dX6_in_17 ic_0 18 rfl ?_
      exact r_zret hC (by decide) (Nat.le_of_ble_eq_true rfl) (Nat.le_of_ble_eq_true rfl) (fun V9 h => hQ _ _ ⟨by simp [m_in, bI, c1, c2], h.1⟩) dX6_in_18
    · skip
      refine r_iconst hC 1 dX6_in_13 ic_1 14 rfl ?_
      refine r_goto hC 18 dX6_in_14 (by decide) ?_
      exact r_zret hC (by decide) (Nat.le_of_ble_eq_true rfl) (Nat.le_of_ble_eq_true rfl) (fun V9 h => hQ _ _ ⟨by simp [m_in, bI, c1, c2], h.1⟩) dX6_in_18
set_option maxHeartbeats 4000000 in
set_option maxRecDepth 100000 in
theorem metX6_size (l : Launch) (G : xG) (hG : xGood G) (v : Int64) : xRm l G yX6_size (Cond.code yX6_size cX6_size 2 (some .long)) { frames := 0, locals := 0, cells := 0, slots := 0 } [.long v] [] (some (.long (m_size v))) := by
  intro V hV
  refine xMet_of RX6 hG rfl (by decide) (Nat.le_of_ble_eq_true rfl) fun C hC hQ hX hl hg _ => ?_
  subst hl hg
  refine rn.mono (J := xRo [] V) (fun V9 h => ⟨h, hV⟩) ?_
  show rn C (xRo [] V) 0 0 0 [(0, .long v)] []
  refine r_lload_n hC 0 dX6_size_0 rfl 1 rfl ?_
  refine r_lconst hC 0 dX6_size_1 lc_0 2 rfl ?_
  refine r_lcge hC 11 dX6_size_2 dX6_size_3 (by decide) 6 rfl (fun c1 => ?_) (fun c1 => ?_)
  · skip
    refine r_lload_n hC 0 dX6_size_11 rfl 12 rfl ?_
    exact r_lret hC (Nat.le_of_ble_eq_true rfl) (Nat.le_of_ble_eq_true rfl) (fun V9 h => hQ _ _ ⟨by simp [m_size, c1], h.1⟩) dX6_size_12
  · skip
    refine r_lload_n hC 0 dX6_size_6 rfl 7 rfl ?_
    refine r_lneg hC (-v) dX6_size_7 (rfl) 8 rfl ?_
    refine r_goto hC 12 dX6_size_8 (by decide) ?_
    exact r_lret hC (Nat.le_of_ble_eq_true rfl) (Nat.le_of_ble_eq_true rfl) (fun V9 h => hQ _ _ ⟨by simp [m_size, c1], h.1⟩) dX6_size_12
set_option maxHeartbeats 4000000 in
set_option maxRecDepth 100000 in
theorem metX6_floored (l : Launch) (G : xG) (hG : xGood G) (a b : Int64) (hb : ¬ b = 0) : xRm l G yX6_floored (Cond.code yX6_floored cX6_floored 6 (some .long)) { frames := 0, locals := 0, cells := 0, slots := 0 } [.long a, .long b] [] (some (.long (m_floored a b))) := by
  intro V hV
  refine xMet_of RX6 hG rfl (by decide) (Nat.le_of_ble_eq_true rfl) fun C hC hQ hX hl hg _ => ?_
  subst hl hg
  refine rn.mono (J := xRo [] V) (fun V9 h => ⟨h, hV⟩) ?_
  show rn C (xRo [] V) 0 0 0 [(0, .long a), (2, .long b)] []
  refine r_lload_n hC 0 dX6_floored_0 rfl 1 rfl ?_
  refine r_lload_n hC 1 dX6_floored_1 rfl 2 rfl ?_
  refine r_ldiv hC (a / b) dX6_floored_2 (by assumption) (rfl) 3 rfl ?_
  refine r_lstore hC 4 [(4, .long (a / b)), (0, .long a), (2, .long b)] dX6_floored_3 (Nat.le_of_ble_eq_true rfl) rfl 5 rfl ?_
  refine r_lload_n hC 1 dX6_floored_5 rfl 6 rfl ?_
  refine r_lload_n hC 2 dX6_floored_6 rfl 7 rfl ?_
  refine r_lrem hC (a - a / b * b) dX6_floored_7 (by assumption) (rfl) 8 rfl ?_
  refine r_lconst hC 0 dX6_floored_8 lc_0 9 rfl ?_
  refine r_lcge hC 20 dX6_floored_9 dX6_floored_10 (by decide) 13 rfl (fun c1 => ?_) (fun c1 => ?_)
  · skip
    refine r_lload hC 0 dX6_floored_20 rfl 22 rfl ?_
    exact r_lret hC (Nat.le_of_ble_eq_true rfl) (Nat.le_of_ble_eq_true rfl) (fun V9 h => hQ _ _ ⟨by unfold m_floored; first | rw [if_pos (by assumption)] | rw [if_neg (by assumption)], h.1⟩) dX6_floored_22
  · skip
    refine r_lload hC 0 dX6_floored_13 rfl 15 rfl ?_
    refine r_lconst hC 1 dX6_floored_15 lc_1 16 rfl ?_
    refine r_lsub hC ((a / b) - 1) dX6_floored_16  (rfl) 17 rfl ?_
    refine r_goto hC 22 dX6_floored_17 (by decide) ?_
    exact r_lret hC (Nat.le_of_ble_eq_true rfl) (Nat.le_of_ble_eq_true rfl) (fun V9 h => hQ _ _ ⟨by unfold m_floored; first | rw [if_pos (by assumption)] | rw [if_neg (by assumption)], h.1⟩) dX6_floored_22
set_option maxHeartbeats 4000000 in
set_option maxRecDepth 100000 in
theorem metX6_at (l : Launch) (G : xG) (hG : xGood G) (b w : Nat) : xRm l G yX6_at (Cond.code yX6_at cX6_at 2 (some .int)) { frames := 0, locals := 0, cells := 0, slots := 0 } [.int (nI b), .int (nI w)] [] (some (.int (nI (6 + 5 * b + w)))) := by
  intro V hV
  refine xMet_of RX6 hG rfl (by decide) (Nat.le_of_ble_eq_true rfl) fun C hC hQ hX hl hg _ => ?_
  subst hl hg
  refine rn.mono (J := xRo [] V) (fun V9 h => ⟨h, hV⟩) ?_
  show rn C (xRo [] V) 0 0 0 [(0, .int (nI b)), (1, .int (nI w))] []
  refine r_bipush hC 6 dX6_at_0 bp_6 2 rfl ?_
  refine r_iconst hC 5 dX6_at_2 ic_5 3 rfl ?_
  refine r_iload_n hC 0 dX6_at_3 rfl 4 rfl ?_
  refine r_imul hC (nI (5 * b)) dX6_at_4  (pk_mul 5 b) 5 rfl ?_
  refine r_iadd hC (nI (6 + 5 * b)) dX6_at_5  (nI_add 6 (5 * b)) 6 rfl ?_
  refine r_iload_n hC 1 dX6_at_6 rfl 7 rfl ?_
  refine r_iadd hC (nI (6 + 5 * b + w)) dX6_at_7  (nI_add (6 + 5 * b) w) 8 rfl ?_
  exact r_iret hC (Nat.le_of_ble_eq_true rfl) (Nat.le_of_ble_eq_true rfl) (fun V9 h => hQ _ _ ⟨rfl, h.1⟩) dX6_at_8
set_option maxHeartbeats 4000000 in
theorem metX6_firstOf (l : Launch) (G : xG) (hG : xGood G) (p : Nat) (hp : p < 3) : xRm l G yX6_firstOf (Cond.code yX6_firstOf cX6_firstOf 1 (some .int)) { frames := 0, locals := 0, cells := 0, slots := 0 } [.int (nI p)] [] (some (.int (nI (m_first p)))) := by
  have h0 : xRm l G yX6_firstOf (Cond.code yX6_firstOf cX6_firstOf 1 (some .int)) { frames := 0, locals := 0, cells := 0, slots := 0 } [.int 0] [] (some (.int (nI (m_first 0)))) ∧ xRm l G yX6_firstOf (Cond.code yX6_firstOf cX6_firstOf 1 (some .int)) { frames := 0, locals := 0, cells := 0, slots := 0 } [.int 1] [] (some (.int (nI (m_first 1)))) ∧ xRm l G yX6_firstOf (Cond.code yX6_firstOf cX6_firstOf 1 (some .int)) { frames := 0, locals := 0, cells := 0, slots := 0 } [.int 2] [] (some (.int (nI (m_first 2)))) := by
    refine ⟨?_, ?_, ?_⟩
    · intro V hV
      refine xMet_of RX6 hG rfl (by decide) (Nat.le_of_ble_eq_true rfl) fun C hC hQ hX hl hg _ => ?_
      subst hl hg
      refine rn.mono (J := xRo [] V) (fun V9 h => ⟨h, hV⟩) ?_
      show rn C (xRo [] V) 0 0 0 [(0, .int 0)] []
      refine r_iload_n hC 0 dX6_firstOf_0 rfl 1 rfl ?_
      refine r_iconst hC 2 dX6_firstOf_1 ic_2 2 rfl ?_
      refine r_icne hC 9 dX6_firstOf_2 (by decide) 5 rfl (fun _ => ?_) (fun h => absurd h (by decide))
      refine r_iconst hC 0 dX6_firstOf_9 ic_0 10 rfl ?_
      exact r_iret hC (Nat.le_of_ble_eq_true rfl) (Nat.le_of_ble_eq_true rfl) (fun V9 h => hQ _ _ ⟨rfl, h.1⟩) dX6_firstOf_10
    · intro V hV
      refine xMet_of RX6 hG rfl (by decide) (Nat.le_of_ble_eq_true rfl) fun C hC hQ hX hl hg _ => ?_
      subst hl hg
      refine rn.mono (J := xRo [] V) (fun V9 h => ⟨h, hV⟩) ?_
      show rn C (xRo [] V) 0 0 0 [(0, .int 1)] []
      refine r_iload_n hC 0 dX6_firstOf_0 rfl 1 rfl ?_
      refine r_iconst hC 2 dX6_firstOf_1 ic_2 2 rfl ?_
      refine r_icne hC 9 dX6_firstOf_2 (by decide) 5 rfl (fun _ => ?_) (fun h => absurd h (by decide))
      refine r_iconst hC 0 dX6_firstOf_9 ic_0 10 rfl ?_
      exact r_iret hC (Nat.le_of_ble_eq_true rfl) (Nat.le_of_ble_eq_true rfl) (fun V9 h => hQ _ _ ⟨rfl, h.1⟩) dX6_firstOf_10
    · intro V hV
      refine xMet_of RX6 hG rfl (by decide) (Nat.le_of_ble_eq_true rfl) fun C hC hQ hX hl hg _ => ?_
      subst hl hg
      refine rn.mono (J := xRo [] V) (fun V9 h => ⟨h, hV⟩) ?_
      show rn C (xRo [] V) 0 0 0 [(0, .int 2)] []
      refine r_iload_n hC 0 dX6_firstOf_0 rfl 1 rfl ?_
      refine r_iconst hC 2 dX6_firstOf_1 ic_2 2 rfl ?_
      refine r_icne hC 9 dX6_firstOf_2 (by decide) 5 rfl (fun h => absurd h (by decide)) (fun _ => ?_)
      refine r_iconst hC 1 dX6_firstOf_5 ic_1 6 rfl ?_
      refine r_goto hC 10 dX6_firstOf_6 (by decide) ?_
      exact r_iret hC (Nat.le_of_ble_eq_true rfl) (Nat.le_of_ble_eq_true rfl) (fun V9 h => hQ _ _ ⟨rfl, h.1⟩) dX6_firstOf_10
  rcases (show p = 0 ∨ p = 1 ∨ p = 2 by omega) with rfl | rfl | rfl
  · exact h0.1
  · exact h0.2.1
  · exact h0.2.2
set_option maxHeartbeats 4000000 in
theorem metX6_secondOf (l : Launch) (G : xG) (hG : xGood G) (p : Nat) (hp : p < 3) : xRm l G yX6_secondOf (Cond.code yX6_secondOf cX6_secondOf 1 (some .int)) { frames := 0, locals := 0, cells := 0, slots := 0 } [.int (nI p)] [] (some (.int (nI (m_second p)))) := by
  have h0 : xRm l G yX6_secondOf (Cond.code yX6_secondOf cX6_secondOf 1 (some .int)) { frames := 0, locals := 0, cells := 0, slots := 0 } [.int 0] [] (some (.int (nI (m_second 0)))) ∧ xRm l G yX6_secondOf (Cond.code yX6_secondOf cX6_secondOf 1 (some .int)) { frames := 0, locals := 0, cells := 0, slots := 0 } [.int 1] [] (some (.int (nI (m_second 1)))) ∧ xRm l G yX6_secondOf (Cond.code yX6_secondOf cX6_secondOf 1 (some .int)) { frames := 0, locals := 0, cells := 0, slots := 0 } [.int 2] [] (some (.int (nI (m_second 2)))) := by
    refine ⟨?_, ?_, ?_⟩
    · intro V hV
      refine xMet_of RX6 hG rfl (by decide) (Nat.le_of_ble_eq_true rfl) fun C hC hQ hX hl hg _ => ?_
      subst hl hg
      refine rn.mono (J := xRo [] V) (fun V9 h => ⟨h, hV⟩) ?_
      show rn C (xRo [] V) 0 0 0 [(0, .int 0)] []
      refine r_iload_n hC 0 dX6_secondOf_0 rfl 1 rfl ?_
      refine r_ifne hC 8 dX6_secondOf_1 (by decide) 4 rfl (fun h => absurd h (by decide)) (fun _ => ?_)
      refine r_iconst hC 1 dX6_secondOf_4 ic_1 5 rfl ?_
      refine r_goto hC 9 dX6_secondOf_5 (by decide) ?_
      exact r_iret hC (Nat.le_of_ble_eq_true rfl) (Nat.le_of_ble_eq_true rfl) (fun V9 h => hQ _ _ ⟨rfl, h.1⟩) dX6_secondOf_9
    · intro V hV
      refine xMet_of RX6 hG rfl (by decide) (Nat.le_of_ble_eq_true rfl) fun C hC hQ hX hl hg _ => ?_
      subst hl hg
      refine rn.mono (J := xRo [] V) (fun V9 h => ⟨h, hV⟩) ?_
      show rn C (xRo [] V) 0 0 0 [(0, .int 1)] []
      refine r_iload_n hC 0 dX6_secondOf_0 rfl 1 rfl ?_
      refine r_ifne hC 8 dX6_secondOf_1 (by decide) 4 rfl (fun _ => ?_) (fun h => absurd h (by decide))
      refine r_iconst hC 2 dX6_secondOf_8 ic_2 9 rfl ?_
      exact r_iret hC (Nat.le_of_ble_eq_true rfl) (Nat.le_of_ble_eq_true rfl) (fun V9 h => hQ _ _ ⟨rfl, h.1⟩) dX6_secondOf_9
    · intro V hV
      refine xMet_of RX6 hG rfl (by decide) (Nat.le_of_ble_eq_true rfl) fun C hC hQ hX hl hg _ => ?_
      subst hl hg
      refine rn.mono (J := xRo [] V) (fun V9 h => ⟨h, hV⟩) ?_
      show rn C (xRo [] V) 0 0 0 [(0, .int 2)] []
      refine r_iload_n hC 0 dX6_secondOf_0 rfl 1 rfl ?_
      refine r_ifne hC 8 dX6_secondOf_1 (by decide) 4 rfl (fun _ => ?_) (fun h => absurd h (by decide))
      refine r_iconst hC 2 dX6_secondOf_8 ic_2 9 rfl ?_
      exact r_iret hC (Nat.le_of_ble_eq_true rfl) (Nat.le_of_ble_eq_true rfl) (fun V9 h => hQ _ _ ⟨rfl, h.1⟩) dX6_secondOf_9
  rcases (show p = 0 ∨ p = 1 ∨ p = 2 by omega) with rfl | rfl | rfl
  · exact h0.1
  · exact h0.2.1
  · exact h0.2.2
set_option maxHeartbeats 4000000 in
set_option maxRecDepth 100000 in
theorem lpX6_root {C : xC} {I : xV → Prop} {k n : Nat} {rm : Room} (hC : xCtx C RX6 cX6_root 8 (some .long) rm) (sq : Int64) : ∀ (f a b : Nat), a ≤ b → b ≤ 300000 → b - a < 2 ^ f → rn C I k n 51 [(2, .long (lN (rootN f a b sq)))] [] → rn C I k n 7 [(4, .long (lN b)), (2, .long (lN a)), (0, .long sq)] [] := by
  intro f
  induction f with
  | zero =>
    intro a b hab hb hf kx
    have hba : b = a := by simp at hf; omega
    subst hba
    refine r_lload_n hC 1 dX6_root_7 rfl 8 rfl ?_
    refine r_lload hC 0 dX6_root_8 rfl 10 rfl ?_
    refine r_lcge hC 51 dX6_root_10 dX6_root_11 (by decide) 14 rfl (fun _ => ?_) (fun h => absurd (Int64.le_refl _) h)
    refine rn.sub (lv' := [(2, .long (lN b))]) [1] rfl ?_
    exact kx
  | succ f ih =>
    intro a b hab hb hf kx
    refine r_lload_n hC 1 dX6_root_7 rfl 8 rfl ?_
    refine r_lload hC 0 dX6_root_8 rfl 10 rfl ?_
    refine r_lcge hC 51 dX6_root_10 dX6_root_11 (by decide) 14 rfl (fun c1 => ?_) (fun c1 => ?_)
    · skip
      have hba : b ≤ a := (lN_le (by omega) (by omega)).mp c1
      rw [rootN_exit hba] at kx
      refine rn.sub (lv' := [(2, .long (lN a))]) [1] rfl ?_
      exact kx
    · skip
      refine r_lload_n hC 1 dX6_root_14 rfl 15 rfl ?_
      refine r_lload hC 0 dX6_root_15 rfl 17 rfl ?_
      refine r_ladd hC (lN (a + b)) dX6_root_17  (lN_add a b) 18 rfl ?_
      refine r_lconst hC 1 dX6_root_18 lc_1 19 rfl ?_
      refine r_ladd hC (lN (a + b + 1)) dX6_root_19  (lN_add (a + b) 1) 20 rfl ?_
      refine r_ldc2 hC q2728 dX6_root_20 23 rfl ?_
      refine r_ldiv hC (lN ((a + b + 1) / 2)) dX6_root_23 (by decide) (pk_lDiv (a := a + b + 1) (b := 2) (by omega) (by omega) (by omega)) 24 rfl ?_
      refine r_lstore hC 6 [(6, .long (lN ((a + b + 1) / 2))), (4, .long (lN b)), (2, .long (lN a)), (0, .long sq)] dX6_root_24 (Nat.le_of_ble_eq_true rfl) rfl 26 rfl ?_
      refine r_lload hC 0 dX6_root_26 rfl 28 rfl ?_
      refine r_lload hC 0 dX6_root_28 rfl 30 rfl ?_
      refine r_lmul hC (lN (((a + b + 1) / 2) * ((a + b + 1) / 2))) dX6_root_30  (lN_mul ((a + b + 1) / 2) ((a + b + 1) / 2)) 31 rfl ?_
      refine r_lload_n hC 3 dX6_root_31 rfl 32 rfl ?_
      refine r_lcgt hC 42 dX6_root_32 dX6_root_33 (by decide) 36 rfl (fun c2 => ?_) (fun c2 => ?_)
      · skip
        refine r_lload hC 0 dX6_root_42 rfl 44 rfl ?_
        refine r_lconst hC 1 dX6_root_44 lc_1 45 rfl ?_
        have hlt0 : a < b := Nat.not_le.mp fun h => c1 ((lN_le (by omega) (by omega)).mpr h)
        refine r_lsub hC (lN (((a + b + 1) / 2) - 1)) dX6_root_45  (lN_sub (a := (a + b + 1) / 2) (b := 1) (by omega)) 46 rfl ?_
        refine r_lstore hC 4 [(4, .long (lN (((a + b + 1) / 2) - 1))), (6, .long (lN ((a + b + 1) / 2))), (2, .long (lN a)), (0, .long sq)] dX6_root_46 (Nat.le_of_ble_eq_true rfl) rfl 48 rfl ?_
        refine r_goto hC 7 dX6_root_48 (by decide) ?_
        have hlt : a < b := Nat.not_le.mp fun h => c1 ((lN_le (by omega) (by omega)).mpr h)
        rw [rootN, if_pos hlt, if_pos c2] at kx
        refine rn.sub (lv' := [(4, .long (lN (((a + b + 1) / 2) - 1))), (2, .long (lN a)), (0, .long sq)]) [0, 2, 3] rfl ?_
        exact ih _ _ (by omega) (by omega) (by rw [Nat.pow_succ] at hf; omega) kx
      · skip
        refine r_lload hC 0 dX6_root_36 rfl 38 rfl ?_
        refine r_lstore_n hC 2 [(2, .long (lN ((a + b + 1) / 2))), (6, .long (lN ((a + b + 1) / 2))), (4, .long (lN b)), (0, .long sq)] dX6_root_38 rfl (Nat.le_of_ble_eq_true rfl) rfl 39 rfl ?_
        refine r_goto hC 48 dX6_root_39 (by decide) ?_
        refine r_goto hC 7 dX6_root_48 (by decide) ?_
        have hlt : a < b := Nat.not_le.mp fun h => c1 ((lN_le (by omega) (by omega)).mpr h)
        rw [rootN, if_pos hlt, if_neg c2] at kx
        refine rn.sub (lv' := [(4, .long (lN b)), (2, .long (lN ((a + b + 1) / 2))), (0, .long sq)]) [2, 0, 3] rfl ?_
        exact ih _ _ (by omega) (by omega) (by rw [Nat.pow_succ] at hf; omega) kx
set_option maxHeartbeats 4000000 in
set_option maxRecDepth 100000 in
theorem metX6_root (l : Launch) (G : xG) (hG : xGood G) (sq : Int64) : xRm l G yX6_root (Cond.code yX6_root cX6_root 8 (some .long)) { frames := 0, locals := 0, cells := 0, slots := 0 } [.long sq] [] (some (.long (lN (rootQ sq)))) := by
  intro V hV
  refine xMet_of RX6 hG rfl (by decide) (Nat.le_of_ble_eq_true rfl) fun C hC hQ hX hl hg _ => ?_
  subst hl hg
  refine rn.mono (J := xRo [] V) (fun V9 h => ⟨h, hV⟩) ?_
  show rn C (xRo [] V) 0 0 0 [(0, .long sq)] []
  refine r_lconst hC 0 dX6_root_0 lc_0 1 rfl ?_
  refine r_lstore_n hC 2 [(2, .long 0), (0, .long sq)] dX6_root_1 rfl (Nat.le_of_ble_eq_true rfl) rfl 2 rfl ?_
  refine r_ldc2 hC q2752 dX6_root_2 5 rfl ?_
  refine r_lstore hC 4 [(4, .long 300000), (2, .long 0), (0, .long sq)] dX6_root_5 (Nat.le_of_ble_eq_true rfl) rfl 7 rfl ?_
  refine rn.sub (lv' := [(4, .long 300000), (2, .long 0), (0, .long sq)]) [0, 1, 2] rfl ?_
  refine lpX6_root hC sq 19 0 300000 (by omega) (by omega) (by decide) ?_
  refine r_lload_n hC 0 dX6_root_51 rfl 52 rfl ?_
  exact r_lret hC (Nat.le_of_ble_eq_true rfl) (Nat.le_of_ble_eq_true rfl) (fun V9 h => hQ _ _ ⟨rfl, h.1⟩) dX6_root_52
set_option maxHeartbeats 4000000 in
set_option maxRecDepth 100000 in
theorem metX6_away (l : Launch) (G : xG) (hG : xGood G) (dx dy : Int64) : xRm l G yX6_away (Cond.code yX6_away cX6_away 4 (some .long)) { frames := 1, locals := 27, cells := 0, slots := 0 } [.long dx, .long dy] [] (some (.long (lN (awayQ dx dy)))) := by
  intro V hV
  refine xMet_of RX6 hG rfl (by decide) (Nat.le_of_ble_eq_true rfl) fun C hC hQ hX hl hg _ => ?_
  subst hl hg
  refine rn.mono (J := xRo [] V) (fun V9 h => ⟨h, hV⟩) ?_
  show rn C (xRo [] V) 0 0 0 [(0, .long dx), (2, .long dy)] []
  refine r_lload_n hC 0 dX6_away_0 rfl 1 rfl ?_
  refine r_lload_n hC 0 dX6_away_1 rfl 2 rfl ?_
  refine r_lmul hC (dx * dx) dX6_away_2  (rfl) 3 rfl ?_
  refine r_lload_n hC 1 dX6_away_3 rfl 4 rfl ?_
  refine r_lload_n hC 1 dX6_away_4 rfl 5 rfl ?_
  refine r_lmul hC (dy * dy) dX6_away_5  (rfl) 6 rfl ?_
  refine r_ladd hC ((dx * dx) + (dy * dy)) dX6_away_6  (rfl) 7 rfl ?_
  refine r_invSr hC [.long ((dx * dx) + (dy * dy))] (.long (lN (rootQ ((dx * dx) + (dy * dy))))) mSX6_root q2749 (metX6_root _ _ hG ((dx * dx) + (dy * dy))) (fun _ _ => xIn.nil) ⟨rfl, rfl⟩ 0 0 rfl rfl (Nat.le_of_ble_eq_true rfl) (Nat.le_of_ble_eq_true rfl) rfl (Nat.le_of_ble_eq_true rfl) dX6_away_7 10 rfl ?_
  exact r_lret hC (Nat.le_of_ble_eq_true rfl) (Nat.le_of_ble_eq_true rfl) (fun V9 h => hQ _ _ ⟨rfl, h.1⟩) dX6_away_10
/-- the distance of a pair in a row -/
def distQ (r : Nat → Int64) (p : Nat) : Nat := awayQ (r (6 + 5 * m_second p + 1) - r (6 + 5 * m_first p + 1)) (r (6 + 5 * m_second p + 2) - r (6 + 5 * m_first p + 2))
theorem m_first_lt {p : Nat} : m_first p < 3 := by unfold m_first; split <;> omega
theorem m_second_lt {p : Nat} : m_second p < 3 := by unfold m_second; split <;> omega
set_option maxHeartbeats 4000000 in
set_option maxRecDepth 100000 in
theorem metX6_distanceOf (l : Launch) (G : xG) (hG : xGood G) (a : Nat) (r : Nat → Int64) (p : Nat) (hp : p < 3) : xRm l G yX6_distanceOf (Cond.code yX6_distanceOf cX6_distanceOf 4 (some .long)) { frames := 2, locals := 50, cells := 0, slots := 0 } [.ref a, .int (nI p)] [(a, .inl (1, 111, .inr (.inl r)))] (some (.long (lN (distQ r p)))) := by
  intro V hV
  refine xMet_of RX6 hG rfl (by decide) (Nat.le_of_ble_eq_true rfl) fun C hC hQ hX hl hg _ => ?_
  subst hl hg
  have hf := @m_first_lt p
  have hs := @m_second_lt p
  refine rn.mono (J := xRo [(a, .inl (1, 111, .inr (.inl r)))] V) (fun V9 h => ⟨h, hV⟩) ?_
  show rn C (xRo [(a, .inl (1, 111, .inr (.inl r)))] V) 0 0 0 [(0, .ref a), (1, .int (nI p))] []
  refine r_iload_n hC 1 dX6_distanceOf_0 rfl 1 rfl ?_
  refine r_invSr hC [.int (nI p)] (.int (nI (m_first p))) mSX6_firstOf q2733 (metX6_firstOf _ _ hG p (by omega)) (fun _ _ => xIn.nil) ⟨rfl, rfl⟩ 0 0 rfl rfl (Nat.le_of_ble_eq_true rfl) (Nat.le_of_ble_eq_true rfl) rfl (Nat.le_of_ble_eq_true rfl) dX6_distanceOf_1 4 rfl ?_
  refine r_istore_n hC 2 [(2, .int (nI (m_first p))), (0, .ref a), (1, .int (nI p))] dX6_distanceOf_4 rfl (Nat.le_of_ble_eq_true rfl) rfl 5 rfl ?_
  refine r_iload_n hC 2 dX6_distanceOf_5 rfl 6 rfl ?_
  refine r_invSr hC [.int (nI p)] (.int (nI (m_second p))) mSX6_secondOf q2736 (metX6_secondOf _ _ hG p (by omega)) (fun _ _ => xIn.nil) ⟨rfl, rfl⟩ 0 0 rfl rfl (Nat.le_of_ble_eq_true rfl) (Nat.le_of_ble_eq_true rfl) rfl (Nat.le_of_ble_eq_true rfl) dX6_distanceOf_6 9 rfl ?_
  refine r_istore_n hC 3 [(3, .int (nI (m_second p))), (2, .int (nI (m_first p))), (0, .ref a), (1, .int (nI p))] dX6_distanceOf_9 rfl (Nat.le_of_ble_eq_true rfl) rfl 10 rfl ?_
  refine r_aload_n hC 2 dX6_distanceOf_10 rfl 11 rfl ?_
  refine r_iload_n hC 0 dX6_distanceOf_11 rfl 12 rfl ?_
  refine r_iconst hC 1 dX6_distanceOf_12 ic_1 13 rfl ?_
  refine r_invSr hC [.int (nI (m_second p)), .int 1] (.int (nI (6 + 5 * (m_second p) + 1))) mSX6_at q2711 (metX6_at _ _ hG (m_second p) 1) (fun _ _ => xIn.nil) ⟨rfl, rfl⟩ 0 0 rfl rfl (Nat.le_of_ble_eq_true rfl) (Nat.le_of_ble_eq_true rfl) rfl (Nat.le_of_ble_eq_true rfl) dX6_distanceOf_13 16 rfl ?_
  refine r_lald hC (6 + 5 * (m_second p) + 1) (xix_n (6 + 5 * (m_second p) + 1) (by omega) (Nat.le_of_ble_eq_true rfl)) (fun _ h => h.get 0 rfl) (r (6 + 5 * (m_second p) + 1)) (rfl) dX6_distanceOf_16 17 rfl ?_
  refine r_aload_n hC 2 dX6_distanceOf_17 rfl 18 rfl ?_
  refine r_iload_n hC 1 dX6_distanceOf_18 rfl 19 rfl ?_
  refine r_iconst hC 1 dX6_distanceOf_19 ic_1 20 rfl ?_
  refine r_invSr hC [.int (nI (m_first p)), .int 1] (.int (nI (6 + 5 * (m_first p) + 1))) mSX6_at q2711 (metX6_at _ _ hG (m_first p) 1) (fun _ _ => xIn.nil) ⟨rfl, rfl⟩ 0 0 rfl rfl (Nat.le_of_ble_eq_true rfl) (Nat.le_of_ble_eq_true rfl) rfl (Nat.le_of_ble_eq_true rfl) dX6_distanceOf_20 23 rfl ?_
  refine r_lald hC (6 + 5 * (m_first p) + 1) (xix_n (6 + 5 * (m_first p) + 1) (by omega) (Nat.le_of_ble_eq_true rfl)) (fun _ h => h.get 0 rfl) (r (6 + 5 * (m_first p) + 1)) (rfl) dX6_distanceOf_23 24 rfl ?_
  refine r_lsub hC ((r (6 + 5 * (m_second p) + 1)) - (r (6 + 5 * (m_first p) + 1))) dX6_distanceOf_24  (rfl) 25 rfl ?_
  refine r_aload_n hC 2 dX6_distanceOf_25 rfl 26 rfl ?_
  refine r_iload_n hC 0 dX6_distanceOf_26 rfl 27 rfl ?_
  refine r_iconst hC 2 dX6_distanceOf_27 ic_2 28 rfl ?_
  refine r_invSr hC [.int (nI (m_second p)), .int 2] (.int (nI (6 + 5 * (m_second p) + 2))) mSX6_at q2711 (metX6_at _ _ hG (m_second p) 2) (fun _ _ => xIn.nil) ⟨rfl, rfl⟩ 0 0 rfl rfl (Nat.le_of_ble_eq_true rfl) (Nat.le_of_ble_eq_true rfl) rfl (Nat.le_of_ble_eq_true rfl) dX6_distanceOf_28 31 rfl ?_
  refine r_lald hC (6 + 5 * (m_second p) + 2) (xix_n (6 + 5 * (m_second p) + 2) (by omega) (Nat.le_of_ble_eq_true rfl)) (fun _ h => h.get 0 rfl) (r (6 + 5 * (m_second p) + 2)) (rfl) dX6_distanceOf_31 32 rfl ?_
  refine r_aload_n hC 2 dX6_distanceOf_32 rfl 33 rfl ?_
  refine r_iload_n hC 1 dX6_distanceOf_33 rfl 34 rfl ?_
  refine r_iconst hC 2 dX6_distanceOf_34 ic_2 35 rfl ?_
  refine r_invSr hC [.int (nI (m_first p)), .int 2] (.int (nI (6 + 5 * (m_first p) + 2))) mSX6_at q2711 (metX6_at _ _ hG (m_first p) 2) (fun _ _ => xIn.nil) ⟨rfl, rfl⟩ 0 0 rfl rfl (Nat.le_of_ble_eq_true rfl) (Nat.le_of_ble_eq_true rfl) rfl (Nat.le_of_ble_eq_true rfl) dX6_distanceOf_35 38 rfl ?_
  refine r_lald hC (6 + 5 * (m_first p) + 2) (xix_n (6 + 5 * (m_first p) + 2) (by omega) (Nat.le_of_ble_eq_true rfl)) (fun _ h => h.get 0 rfl) (r (6 + 5 * (m_first p) + 2)) (rfl) dX6_distanceOf_38 39 rfl ?_
  refine r_lsub hC ((r (6 + 5 * (m_second p) + 2)) - (r (6 + 5 * (m_first p) + 2))) dX6_distanceOf_39  (rfl) 40 rfl ?_
  refine r_invSr hC [.long ((r (6 + 5 * (m_second p) + 1)) - (r (6 + 5 * (m_first p) + 1))), .long ((r (6 + 5 * (m_second p) + 2)) - (r (6 + 5 * (m_first p) + 2)))] (.long (lN (awayQ ((r (6 + 5 * (m_second p) + 1)) - (r (6 + 5 * (m_first p) + 1))) ((r (6 + 5 * (m_second p) + 2)) - (r (6 + 5 * (m_first p) + 2)))))) mSX6_away q2746 (metX6_away _ _ hG ((r (6 + 5 * (m_second p) + 1)) - (r (6 + 5 * (m_first p) + 1))) ((r (6 + 5 * (m_second p) + 2)) - (r (6 + 5 * (m_first p) + 2)))) (fun _ _ => xIn.nil) ⟨rfl, rfl⟩ 0 0 rfl rfl (Nat.le_of_ble_eq_true rfl) (Nat.le_of_ble_eq_true rfl) rfl (Nat.le_of_ble_eq_true rfl) dX6_distanceOf_40 43 rfl ?_
  exact r_lret hC (Nat.le_of_ble_eq_true rfl) (Nat.le_of_ble_eq_true rfl) (fun V9 h => hQ _ _ ⟨rfl, h.1⟩) dX6_distanceOf_43
