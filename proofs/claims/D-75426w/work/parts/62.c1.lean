/-! ===== the class: numbers, statics ===== -/
set_option maxRecDepth 100000
theorem nr_at {w : Cond} (k : Nat) (h : (flatC (Jvm.Cond.and given_1 narrow_1))[k]? = some w) : w ∈ flatC (Jvm.Cond.and given_1 narrow_1) := List.mem_of_getElem? h
theorem xG0 {G : xG} (hG : xGood G) {w : Cond} (h : w ∈ lw_tbl) : ∃ b : Nat, w.before #[Value.ref b] G.1 = true := by
  obtain ⟨-, b, ht, -⟩ := hG
  exact ⟨b, ht w h⟩
theorem lw_sub {w : Cond} (h : w ∈ lw_all) : w ∈ lw_tbl := (List.mem_filter.mp h).1
theorem bI_fit (b : Bool) : fits .boolean (.int (bI b)) = true := by cases b <;> rfl
theorem i64_of {v : Int64} (h1 : -2147483648 ≤ v.toInt) (h2 : v.toInt ≤ 2147483647) : v.toInt32.toInt64 = v := by
  apply Int64.toInt_inj.mp
  rw [Int32.toInt_toInt64, Int64.toInt_toInt32]
  exact Int.bmod_eq_of_le (by omega) (by omega)
theorem i32_of (v : Int64) : v.toInt32.toInt = v.toInt.bmod (2 ^ 32) := Int64.toInt_toInt32 v
theorem za_ONE {G : xG} (hG : xGood G) : ∃ t, xZ G "ThreeBodies" "ONE" "[I" (.ref t) ∧ xTb G .int t 3 (fun j => .int (nI (m_first j))) := by
  obtain ⟨-, b, ht, hn, -⟩ := hG
  replace hn := flat_of_before _ hn
  have hA : ∀ a : Nat, a < G.1.heap.size → ¬ xA G a := fun a h => Nat.not_le.mpr h
  obtain ⟨t, h1, h2⟩ := va_Tof (tm := .static "ThreeBodies" "ONE" "[I") (ty := .int) (N := 3) (f := fun j => .int (nI (m_first j))) (A := xA G) (by decide) (hn _ (nr_at 5 rfl)) (va_eqt (hn _ (nr_at 6 rfl))) (fun j hj => match j, hj with
    | 0, _ => va_eqt (hn _ (nr_at 7 rfl))
    | 1, _ => va_eqt (hn _ (nr_at 8 rfl))
    | 2, _ => va_eqt (hn _ (nr_at 9 rfl))
    | m + 3, h => absurd h (by omega)) hA
  exact ⟨t, va_Zof (ht _ (q272)) (ht _ (lw_sub q99)) h1 hA, h2⟩
theorem za_OTH {G : xG} (hG : xGood G) : ∃ t, xZ G "ThreeBodies" "OTHER" "[I" (.ref t) ∧ xTb G .int t 3 (fun j => .int (nI (m_second j))) := by
  obtain ⟨-, b, ht, hn, -⟩ := hG
  replace hn := flat_of_before _ hn
  have hA : ∀ a : Nat, a < G.1.heap.size → ¬ xA G a := fun a h => Nat.not_le.mpr h
  obtain ⟨t, h1, h2⟩ := va_Tof (tm := .static "ThreeBodies" "OTHER" "[I") (ty := .int) (N := 3) (f := fun j => .int (nI (m_second j))) (A := xA G) (by decide) (hn _ (nr_at 11 rfl)) (va_eqt (hn _ (nr_at 12 rfl))) (fun j hj => match j, hj with
    | 0, _ => va_eqt (hn _ (nr_at 13 rfl))
    | 1, _ => va_eqt (hn _ (nr_at 14 rfl))
    | 2, _ => va_eqt (hn _ (nr_at 15 rfl))
    | m + 3, h => absurd h (by omega)) hA
  exact ⟨t, va_Zof (ht _ (q274)) (ht _ (lw_sub q99)) h1 hA, h2⟩
def x_max (a b : Int32) : Int32 := if a < b then b else a
def x_abs (a : Int32) : Int32 := if 0 ≤ a then a else -a
def x_min (a b : Int32) : Int32 := if b < a then b else a
def x_maxL (a b : Int64) : Int64 := if a < b then b else a
def x_minL (a b : Int64) : Int64 := if b < a then b else a
set_option maxHeartbeats 4000000 in
set_option maxRecDepth 100000 in
theorem metJ4_max (l : Launch) (G : xG) (hG : xGood G) (a b : Int32) : xRm l G yJ4_max (Cond.code yJ4_max cJ4_max 2 (some .int)) { frames := 0, locals := 0, cells := 0, slots := 0 } [.int a, .int b] [] (some (.int (x_max a b))) := by
  intro V hV
  refine xMet_ofM RJ4 hG rfl (by decide +kernel) (Nat.le_of_ble_eq_true rfl) fun C hC hQ hX hl hg _ hTab => ?_
  subst hl hg
  refine rn.mono (J := xRo [] V) (fun V9 h => ⟨h, hV⟩) ?_
  show rn C (xRo [] V) 0 0 0 [(0, .int a), (1, .int b)] []
  refine r_iload_n hC 0 dJ4_max_0 rfl 1 rfl ?_
  refine r_iload_n hC 1 dJ4_max_1 rfl 2 rfl ?_
  refine r_iclt hC 9 dJ4_max_2 (by decide) 5 rfl (fun c1 => ?_) (fun c1 => ?_)
  · skip
    refine r_iload_n hC 1 dJ4_max_9 rfl 10 rfl ?_
    exact r_iret hC (Nat.le_of_ble_eq_true rfl) (Nat.le_of_ble_eq_true rfl) (fun V9 h => hQ _ _ ⟨by rw [x_max, if_pos c1], h.1⟩) dJ4_max_10
  · skip
    refine r_iload_n hC 0 dJ4_max_5 rfl 6 rfl ?_
    refine r_goto hC 10 dJ4_max_6 (by decide) ?_
    exact r_iret hC (Nat.le_of_ble_eq_true rfl) (Nat.le_of_ble_eq_true rfl) (fun V9 h => hQ _ _ ⟨by rw [x_max, if_neg c1], h.1⟩) dJ4_max_10
set_option maxHeartbeats 4000000 in
set_option maxRecDepth 100000 in
theorem metJ4_min (l : Launch) (G : xG) (hG : xGood G) (a b : Int32) : xRm l G yJ4_min (Cond.code yJ4_min cJ4_min 2 (some .int)) { frames := 0, locals := 0, cells := 0, slots := 0 } [.int a, .int b] [] (some (.int (x_min a b))) := by
  intro V hV
  refine xMet_ofM RJ4 hG rfl (by decide +kernel) (Nat.le_of_ble_eq_true rfl) fun C hC hQ hX hl hg _ hTab => ?_
  subst hl hg
  refine rn.mono (J := xRo [] V) (fun V9 h => ⟨h, hV⟩) ?_
  show rn C (xRo [] V) 0 0 0 [(0, .int a), (1, .int b)] []
  refine r_iload_n hC 0 dJ4_min_0 rfl 1 rfl ?_
  refine r_iload_n hC 1 dJ4_min_1 rfl 2 rfl ?_
  refine r_icgt hC 9 dJ4_min_2 (by decide) 5 rfl (fun c1 => ?_) (fun c1 => ?_)
  · skip
    refine r_iload_n hC 1 dJ4_min_9 rfl 10 rfl ?_
    exact r_iret hC (Nat.le_of_ble_eq_true rfl) (Nat.le_of_ble_eq_true rfl) (fun V9 h => hQ _ _ ⟨by rw [x_min, if_pos c1], h.1⟩) dJ4_min_10
  · skip
    refine r_iload_n hC 0 dJ4_min_5 rfl 6 rfl ?_
    refine r_goto hC 10 dJ4_min_6 (by decide) ?_
    exact r_iret hC (Nat.le_of_ble_eq_true rfl) (Nat.le_of_ble_eq_true rfl) (fun V9 h => hQ _ _ ⟨by rw [x_min, if_neg c1], h.1⟩) dJ4_min_10
set_option maxHeartbeats 4000000 in
set_option maxRecDepth 100000 in
theorem metJ4_abs (l : Launch) (G : xG) (hG : xGood G) (a : Int32) : xRm l G yJ4_abs (Cond.code yJ4_abs cJ4_abs 1 (some .int)) { frames := 0, locals := 0, cells := 0, slots := 0 } [.int a] [] (some (.int (x_abs a))) := by
  intro V hV
  refine xMet_ofM RJ4 hG rfl (by decide +kernel) (Nat.le_of_ble_eq_true rfl) fun C hC hQ hX hl hg _ hTab => ?_
  subst hl hg
  refine rn.mono (J := xRo [] V) (fun V9 h => ⟨h, hV⟩) ?_
  show rn C (xRo [] V) 0 0 0 [(0, .int a)] []
  refine r_iload_n hC 0 dJ4_abs_0 rfl 1 rfl ?_
  refine r_ifge hC 9 dJ4_abs_1 (by decide) 4 rfl (fun c1 => ?_) (fun c1 => ?_)
  · skip
    refine r_iload_n hC 0 dJ4_abs_9 rfl 10 rfl ?_
    exact r_iret hC (Nat.le_of_ble_eq_true rfl) (Nat.le_of_ble_eq_true rfl) (fun V9 h => hQ _ _ ⟨by rw [x_abs, if_pos c1], h.1⟩) dJ4_abs_10
  · skip
    refine r_iload_n hC 0 dJ4_abs_4 rfl 5 rfl ?_
    refine r_ineg hC (-a) dJ4_abs_5 (rfl) 6 rfl ?_
    refine r_goto hC 10 dJ4_abs_6 (by decide) ?_
    exact r_iret hC (Nat.le_of_ble_eq_true rfl) (Nat.le_of_ble_eq_true rfl) (fun V9 h => hQ _ _ ⟨by rw [x_abs, if_neg c1], h.1⟩) dJ4_abs_10
set_option maxHeartbeats 4000000 in
set_option maxRecDepth 100000 in
theorem metJ4_max_2 (l : Launch) (G : xG) (hG : xGood G) (a b : Int64) : xRm l G yJ4_max_2 (Cond.code yJ4_max_2 cJ4_max_2 4 (some .long)) { frames := 0, locals := 0, cells := 0, slots := 0 } [.long a, .long b] [] (some (.long (x_maxL a b))) := by
  intro V hV
  refine xMet_ofM RJ4 hG rfl (by decide +kernel) (Nat.le_of_ble_eq_true rfl) fun C hC hQ hX hl hg _ hTab => ?_
  subst hl hg
  refine rn.mono (J := xRo [] V) (fun V9 h => ⟨h, hV⟩) ?_
  show rn C (xRo [] V) 0 0 0 [(0, .long a), (2, .long b)] []
  refine r_lload_n hC 0 dJ4_max_2_0 rfl 1 rfl ?_
  refine r_lload_n hC 1 dJ4_max_2_1 rfl 2 rfl ?_
  refine r_lclt hC 10 dJ4_max_2_2 dJ4_max_2_3 (by decide) 6 rfl (fun c1 => ?_) (fun c1 => ?_)
  · skip
    refine r_lload_n hC 1 dJ4_max_2_10 rfl 11 rfl ?_
    exact r_lret hC (Nat.le_of_ble_eq_true rfl) (Nat.le_of_ble_eq_true rfl) (fun V9 h => hQ _ _ ⟨by rw [x_maxL, if_pos c1], h.1⟩) dJ4_max_2_11
  · skip
    refine r_lload_n hC 0 dJ4_max_2_6 rfl 7 rfl ?_
    refine r_goto hC 11 dJ4_max_2_7 (by decide) ?_
    exact r_lret hC (Nat.le_of_ble_eq_true rfl) (Nat.le_of_ble_eq_true rfl) (fun V9 h => hQ _ _ ⟨by rw [x_maxL, if_neg c1], h.1⟩) dJ4_max_2_11
set_option maxHeartbeats 4000000 in
set_option maxRecDepth 100000 in
theorem metJ4_min_2 (l : Launch) (G : xG) (hG : xGood G) (a b : Int64) : xRm l G yJ4_min_2 (Cond.code yJ4_min_2 cJ4_min_2 4 (some .long)) { frames := 0, locals := 0, cells := 0, slots := 0 } [.long a, .long b] [] (some (.long (x_minL a b))) := by
  intro V hV
  refine xMet_ofM RJ4 hG rfl (by decide +kernel) (Nat.le_of_ble_eq_true rfl) fun C hC hQ hX hl hg _ hTab => ?_
  subst hl hg
  refine rn.mono (J := xRo [] V) (fun V9 h => ⟨h, hV⟩) ?_
  show rn C (xRo [] V) 0 0 0 [(0, .long a), (2, .long b)] []
  refine r_lload_n hC 0 dJ4_min_2_0 rfl 1 rfl ?_
  refine r_lload_n hC 1 dJ4_min_2_1 rfl 2 rfl ?_
  refine r_lcgt hC 10 dJ4_min_2_2 dJ4_min_2_3 (by decide) 6 rfl (fun c1 => ?_) (fun c1 => ?_)
  · skip
    refine r_lload_n hC 1 dJ4_min_2_10 rfl 11 rfl ?_
    exact r_lret hC (Nat.le_of_ble_eq_true rfl) (Nat.le_of_ble_eq_true rfl) (fun V9 h => hQ _ _ ⟨by rw [x_minL, if_pos c1], h.1⟩) dJ4_min_2_11
  · skip
    refine r_lload_n hC 0 dJ4_min_2_6 rfl 7 rfl ?_
    refine r_goto hC 11 dJ4_min_2_7 (by decide) ?_
    exact r_lret hC (Nat.le_of_ble_eq_true rfl) (Nat.le_of_ble_eq_true rfl) (fun V9 h => hQ _ _ ⟨by rw [x_minL, if_neg c1], h.1⟩) dJ4_min_2_11
def x_fdL (a b : Int64) : Int64 := if 0 ≤ a ^^^ b then a / b else if a / b * b = a then a / b else a / b - 1
def x_fd (a b : Int32) : Int32 := if 0 ≤ a ^^^ b then a / b else if a / b * b = a then a / b else a / b - 1
set_option maxHeartbeats 4000000 in
set_option maxRecDepth 100000 in
theorem metJ4_floorDiv (l : Launch) (G : xG) (hG : xGood G) (a b : Int64) (hb : ¬ b = 0) : xRm l G yJ4_floorDiv (Cond.code yJ4_floorDiv cJ4_floorDiv 6 (some .long)) { frames := 0, locals := 0, cells := 0, slots := 0 } [.long a, .long b] [] (some (.long (x_fdL a b))) := by
  intro V hV
  refine xMet_ofM RJ4 hG rfl (by decide +kernel) (Nat.le_of_ble_eq_true rfl) fun C hC hQ hX hl hg _ hTab => ?_
  subst hl hg
  refine rn.mono (J := xRo [] V) (fun V9 h => ⟨h, hV⟩) ?_
  show rn C (xRo [] V) 0 0 0 [(0, .long a), (2, .long b)] []
  refine r_lload_n hC 0 dJ4_floorDiv_0 rfl 1 rfl ?_
  refine r_lload_n hC 1 dJ4_floorDiv_1 rfl 2 rfl ?_
  refine r_ldiv hC (a / b) dJ4_floorDiv_2 (by assumption) (rfl) 3 rfl ?_
  refine r_lstore hC 4 [(4, .long (a / b)), (0, .long a), (2, .long b)] dJ4_floorDiv_3 (Nat.le_of_ble_eq_true rfl) rfl 5 rfl ?_
  refine r_lload_n hC 1 dJ4_floorDiv_5 rfl 6 rfl ?_
  refine r_lload_n hC 2 dJ4_floorDiv_6 rfl 7 rfl ?_
  refine r_lxor hC (a ^^^ b) dJ4_floorDiv_7  (rfl) 8 rfl ?_
  refine r_lconst hC 0 dJ4_floorDiv_8 lc_0 9 rfl ?_
  refine r_lcge hC 27 dJ4_floorDiv_9 dJ4_floorDiv_10 (by decide) 13 rfl (fun c1 => ?_) (fun c1 => ?_)
  · skip
    refine r_lload hC 0 dJ4_floorDiv_27 rfl 29 rfl ?_
    exact r_lret hC (Nat.le_of_ble_eq_true rfl) (Nat.le_of_ble_eq_true rfl) (fun V9 h => hQ _ _ ⟨by rw [x_fdL, if_pos c1], h.1⟩) dJ4_floorDiv_29
  · skip
    refine r_lload hC 0 dJ4_floorDiv_13 rfl 15 rfl ?_
    refine r_lload_n hC 2 dJ4_floorDiv_15 rfl 16 rfl ?_
    refine r_lmul hC ((a / b) * b) dJ4_floorDiv_16  (rfl) 17 rfl ?_
    refine r_lload_n hC 1 dJ4_floorDiv_17 rfl 18 rfl ?_
    refine r_lceq hC 27 dJ4_floorDiv_18 dJ4_floorDiv_19 (by decide) 22 rfl (fun c2 => ?_) (fun c2 => ?_)
    · skip
      refine r_lload hC 0 dJ4_floorDiv_27 rfl 29 rfl ?_
      exact r_lret hC (Nat.le_of_ble_eq_true rfl) (Nat.le_of_ble_eq_true rfl) (fun V9 h => hQ _ _ ⟨by rw [x_fdL, if_neg c1, if_pos c2], h.1⟩) dJ4_floorDiv_29
    · skip
      refine r_lload hC 0 dJ4_floorDiv_22 rfl 24 rfl ?_
      refine r_lconst hC 1 dJ4_floorDiv_24 lc_1 25 rfl ?_
      refine r_lsub hC ((a / b) - 1) dJ4_floorDiv_25  (rfl) 26 rfl ?_
      exact r_lret hC (Nat.le_of_ble_eq_true rfl) (Nat.le_of_ble_eq_true rfl) (fun V9 h => hQ _ _ ⟨by rw [x_fdL, if_neg c1, if_neg c2], h.1⟩) dJ4_floorDiv_26
set_option maxHeartbeats 4000000 in
set_option maxRecDepth 100000 in
theorem metJ4_floorDiv_2 (l : Launch) (G : xG) (hG : xGood G) (a b : Int32) (hb : ¬ b = 0) : xRm l G yJ4_floorDiv_2 (Cond.code yJ4_floorDiv_2 cJ4_floorDiv_2 3 (some .int)) { frames := 0, locals := 0, cells := 0, slots := 0 } [.int a, .int b] [] (some (.int (x_fd a b))) := by
  intro V hV
  refine xMet_ofM RJ4 hG rfl (by decide +kernel) (Nat.le_of_ble_eq_true rfl) fun C hC hQ hX hl hg _ hTab => ?_
  subst hl hg
  refine rn.mono (J := xRo [] V) (fun V9 h => ⟨h, hV⟩) ?_
  show rn C (xRo [] V) 0 0 0 [(0, .int a), (1, .int b)] []
  refine r_iload_n hC 0 dJ4_floorDiv_2_0 rfl 1 rfl ?_
  refine r_iload_n hC 1 dJ4_floorDiv_2_1 rfl 2 rfl ?_
  refine r_idiv hC (a / b) dJ4_floorDiv_2_2 (by assumption) (rfl) 3 rfl ?_
  refine r_istore_n hC 2 [(2, .int (a / b)), (0, .int a), (1, .int b)] dJ4_floorDiv_2_3 rfl (Nat.le_of_ble_eq_true rfl) rfl 4 rfl ?_
  refine r_iload_n hC 1 dJ4_floorDiv_2_4 rfl 5 rfl ?_
  refine r_iload_n hC 2 dJ4_floorDiv_2_5 rfl 6 rfl ?_
  refine r_ixor hC (a ^^^ b) dJ4_floorDiv_2_6  (rfl) 7 rfl ?_
  refine r_ifge hC 21 dJ4_floorDiv_2_7 (by decide) 10 rfl (fun c1 => ?_) (fun c1 => ?_)
  · skip
    refine r_iload_n hC 0 dJ4_floorDiv_2_21 rfl 22 rfl ?_
    exact r_iret hC (Nat.le_of_ble_eq_true rfl) (Nat.le_of_ble_eq_true rfl) (fun V9 h => hQ _ _ ⟨by rw [x_fd, if_pos c1], h.1⟩) dJ4_floorDiv_2_22
  · skip
    refine r_iload_n hC 0 dJ4_floorDiv_2_10 rfl 11 rfl ?_
    refine r_iload_n hC 2 dJ4_floorDiv_2_11 rfl 12 rfl ?_
    refine r_imul hC ((a / b) * b) dJ4_floorDiv_2_12  (rfl) 13 rfl ?_
    refine r_iload_n hC 1 dJ4_floorDiv_2_13 rfl 14 rfl ?_
    refine r_iceq hC 21 dJ4_floorDiv_2_14 (by decide) 17 rfl (fun c2 => ?_) (fun c2 => ?_)
    · skip
      refine r_iload_n hC 0 dJ4_floorDiv_2_21 rfl 22 rfl ?_
      exact r_iret hC (Nat.le_of_ble_eq_true rfl) (Nat.le_of_ble_eq_true rfl) (fun V9 h => hQ _ _ ⟨by rw [x_fd, if_neg c1, if_pos c2], h.1⟩) dJ4_floorDiv_2_22
    · skip
      refine r_iload_n hC 0 dJ4_floorDiv_2_17 rfl 18 rfl ?_
      refine r_iconst hC 1 dJ4_floorDiv_2_18 ic_1 19 rfl ?_
      refine r_isub hC ((a / b) - 1) dJ4_floorDiv_2_19  (rfl) 20 rfl ?_
      exact r_iret hC (Nat.le_of_ble_eq_true rfl) (Nat.le_of_ble_eq_true rfl) (fun V9 h => hQ _ _ ⟨by rw [x_fd, if_neg c1, if_neg c2], h.1⟩) dJ4_floorDiv_2_20
set_option maxHeartbeats 4000000 in
set_option maxRecDepth 100000 in
theorem metX1_inRange (l : Launch) (G : xG) (hG : xGood G) (v lo hi : Int64) : xRm l G yX1_inRange (Cond.code yX1_inRange cX1_inRange 6 (some .boolean)) { frames := 0, locals := 0, cells := 0, slots := 0 } [.long v, .long lo, .long hi] [] (some (.int (bI (m_in v lo hi)))) := by
  intro V hV
  refine xMet_ofT RX1 hG rfl (by decide) (Nat.le_of_ble_eq_true rfl) fun C hC hQ hX hl hg _ hTab => ?_
  subst hl hg
  refine rn.mono (J := xRo [] V) (fun V9 h => ⟨h, hV⟩) ?_
  show rn C (xRo [] V) 0 0 0 [(0, .long v), (2, .long lo), (4, .long hi)] []
  refine r_lload_n hC 1 dX1_inRange_0 rfl 1 rfl ?_
  refine r_lload_n hC 0 dX1_inRange_1 rfl 2 rfl ?_
  refine r_lcgt hC 17 dX1_inRange_2 dX1_inRange_3 (by decide) 6 rfl (fun c1 => ?_) (fun c1 => ?_)
  · skip
    refine r_iconst hC 0 dX1_inRange_17 ic_0 18 rfl ?_
    exact r_zret hC (by decide) (Nat.le_of_ble_eq_true rfl) (Nat.le_of_ble_eq_true rfl) (fun V9 h => hQ _ _ ⟨by simp [m_in, bI, c1], h.1⟩) dX1_inRange_18
  · skip
    refine r_lload_n hC 0 dX1_inRange_6 rfl 7 rfl ?_
    refine r_lload hC 2 dX1_inRange_7 rfl 9 rfl ?_
    refine r_lcgt hC 17 dX1_inRange_9 dX1_inRange_10 (by decide) 13 rfl (fun c2 => ?_) (fun c2 => ?_)
    · skip
      refine r_iconst hC 0 dX1_inRange_17 ic_0 18 rfl ?_
      exact r_zret hC (by decide) (Nat.le_of_ble_eq_true rfl) (Nat.le_of_ble_eq_true rfl) (fun V9 h => hQ _ _ ⟨by simp [m_in, bI, c1, c2], h.1⟩) dX1_inRange_18
    · skip
      refine r_iconst hC 1 dX1_inRange_13 ic_1 14 rfl ?_
      refine r_goto hC 18 dX1_inRange_14 (by decide) ?_
      exact r_zret hC (by decide) (Nat.le_of_ble_eq_true rfl) (Nat.le_of_ble_eq_true rfl) (fun V9 h => hQ _ _ ⟨by simp [m_in, bI, c1, c2], h.1⟩) dX1_inRange_18
set_option maxHeartbeats 4000000 in
set_option maxRecDepth 100000 in
theorem metX1_inRangeB (l : Launch) (G : xG) (hG : xGood G) (v lo hi : Int64) (z : Int32) (hz : bI (m_in v lo hi) = z) : xRm l G yX1_inRange (Cond.code yX1_inRange cX1_inRange 6 (some .boolean)) { frames := 0, locals := 0, cells := 0, slots := 0 } [.long v, .long lo, .long hi] [] (some (.int z)) := by
  intro V hV
  refine xMet_ofT RX1 hG rfl (by decide) (Nat.le_of_ble_eq_true rfl) fun C hC hQ hX hl hg _ hTab => ?_
  subst hl hg
  refine rn.mono (J := xRo [] V) (fun V9 h => ⟨h, hV⟩) ?_
  show rn C (xRo [] V) 0 0 0 [(0, .long v), (2, .long lo), (4, .long hi)] []
  refine r_lload_n hC 1 dX1_inRange_0 rfl 1 rfl ?_
  refine r_lload_n hC 0 dX1_inRange_1 rfl 2 rfl ?_
  refine r_lcgt hC 17 dX1_inRange_2 dX1_inRange_3 (by decide) 6 rfl (fun c1 => ?_) (fun c1 => ?_)
  · skip
    refine r_iconst hC 0 dX1_inRange_17 ic_0 18 rfl ?_
    exact r_zret hC (by decide) (Nat.le_of_ble_eq_true rfl) (Nat.le_of_ble_eq_true rfl) (fun V9 h => hQ _ _ ⟨by rw [← hz]; simp [m_in, bI, c1], h.1⟩) dX1_inRange_18
  · skip
    refine r_lload_n hC 0 dX1_inRange_6 rfl 7 rfl ?_
    refine r_lload hC 2 dX1_inRange_7 rfl 9 rfl ?_
    refine r_lcgt hC 17 dX1_inRange_9 dX1_inRange_10 (by decide) 13 rfl (fun c2 => ?_) (fun c2 => ?_)
    · skip
      refine r_iconst hC 0 dX1_inRange_17 ic_0 18 rfl ?_
      exact r_zret hC (by decide) (Nat.le_of_ble_eq_true rfl) (Nat.le_of_ble_eq_true rfl) (fun V9 h => hQ _ _ ⟨by rw [← hz]; simp [m_in, bI, c1, c2], h.1⟩) dX1_inRange_18
    · skip
      refine r_iconst hC 1 dX1_inRange_13 ic_1 14 rfl ?_
      refine r_goto hC 18 dX1_inRange_14 (by decide) ?_
      exact r_zret hC (by decide) (Nat.le_of_ble_eq_true rfl) (Nat.le_of_ble_eq_true rfl) (fun V9 h => hQ _ _ ⟨by rw [← hz]; simp [m_in, bI, c1, c2], h.1⟩) dX1_inRange_18
set_option maxHeartbeats 4000000 in
set_option maxRecDepth 100000 in
theorem lpX1_distance {C : xC} {I : xV → Prop} {k n : Nat} {rm : Room} (hC : xCtx C RX1 cX1_distance 12 (some .int) rm) (sq : Int64) : ∀ (f a b : Nat), a ≤ b → b ≤ 300000 → b - a < 2 ^ f → rn C I k n 65 [(6, .long (lN (rootN f a b sq)))] [] → rn C I k n 17 [(8, .long (lN b)), (6, .long (lN a)), (4, .long sq)] [] := by
  intro f
  induction f with
  | zero =>
    intro a b hab hb hf kx
    have hba : b = a := by simp at hf; omega
    subst hba
    refine r_lload hC 1 dX1_distance_17 rfl 19 rfl ?_
    refine r_lload hC 0 dX1_distance_19 rfl 21 rfl ?_
    refine r_lcge hC 65 dX1_distance_21 dX1_distance_22 (by decide) 25 rfl (fun _ => ?_) (fun h => absurd (Int64.le_refl _) h)
    refine rn.sub (lv' := [(6, .long (lN b))]) [1] rfl ?_
    exact kx
  | succ f ih =>
    intro a b hab hb hf kx
    refine r_lload hC 1 dX1_distance_17 rfl 19 rfl ?_
    refine r_lload hC 0 dX1_distance_19 rfl 21 rfl ?_
    refine r_lcge hC 65 dX1_distance_21 dX1_distance_22 (by decide) 25 rfl (fun c1 => ?_) (fun c1 => ?_)
    · skip
      have hba : b ≤ a := (lN_le (by omega) (by omega)).mp c1
      rw [rootN_exit hba] at kx
      refine rn.sub (lv' := [(6, .long (lN a))]) [1] rfl ?_
      exact kx
    · skip
      refine r_lload hC 1 dX1_distance_25 rfl 27 rfl ?_
      refine r_lload hC 0 dX1_distance_27 rfl 29 rfl ?_
      refine r_ladd hC (lN (a + b)) dX1_distance_29  (lN_add a b) 30 rfl ?_
      refine r_lconst hC 1 dX1_distance_30 lc_1 31 rfl ?_
      refine r_ladd hC (lN (a + b + 1)) dX1_distance_31  (lN_add (a + b) 1) 32 rfl ?_
      refine r_ldc2 hC q287 dX1_distance_32 35 rfl ?_
      refine r_ldiv hC (lN ((a + b + 1) / 2)) dX1_distance_35 (by decide) (pk_lDiv (a := a + b + 1) (b := 2) (by omega) (by omega) (by omega)) 36 rfl ?_
      refine r_lstore hC 10 [(10, .long (lN ((a + b + 1) / 2))), (8, .long (lN b)), (6, .long (lN a)), (4, .long sq)] dX1_distance_36 (Nat.le_of_ble_eq_true rfl) rfl 38 rfl ?_
      refine r_lload hC 0 dX1_distance_38 rfl 40 rfl ?_
      refine r_lload hC 0 dX1_distance_40 rfl 42 rfl ?_
      refine r_lmul hC (lN (((a + b + 1) / 2) * ((a + b + 1) / 2))) dX1_distance_42  (lN_mul ((a + b + 1) / 2) ((a + b + 1) / 2)) 43 rfl ?_
      refine r_lload hC 3 dX1_distance_43 rfl 45 rfl ?_
      refine r_lcgt hC 56 dX1_distance_45 dX1_distance_46 (by decide) 49 rfl (fun c2 => ?_) (fun c2 => ?_)
      · skip
        refine r_lload hC 0 dX1_distance_56 rfl 58 rfl ?_
        refine r_lconst hC 1 dX1_distance_58 lc_1 59 rfl ?_
        have hlt0 : a < b := Nat.not_le.mp fun h => c1 ((lN_le (by omega) (by omega)).mpr h)
        refine r_lsub hC (lN (((a + b + 1) / 2) - 1)) dX1_distance_59  (lN_sub (a := (a + b + 1) / 2) (b := 1) (by omega)) 60 rfl ?_
        refine r_lstore hC 8 [(8, .long (lN (((a + b + 1) / 2) - 1))), (10, .long (lN ((a + b + 1) / 2))), (6, .long (lN a)), (4, .long sq)] dX1_distance_60 (Nat.le_of_ble_eq_true rfl) rfl 62 rfl ?_
        refine r_goto hC 17 dX1_distance_62 (by decide) ?_
        have hlt : a < b := Nat.not_le.mp fun h => c1 ((lN_le (by omega) (by omega)).mpr h)
        rw [rootN, if_pos hlt, if_pos c2] at kx
        refine rn.sub (lv' := [(8, .long (lN (((a + b + 1) / 2) - 1))), (6, .long (lN a)), (4, .long sq)]) [0, 2, 3] rfl ?_
        exact ih _ _ (by omega) (by omega) (by rw [Nat.pow_succ] at hf; omega) kx
      · skip
        refine r_lload hC 0 dX1_distance_49 rfl 51 rfl ?_
        refine r_lstore hC 6 [(6, .long (lN ((a + b + 1) / 2))), (10, .long (lN ((a + b + 1) / 2))), (8, .long (lN b)), (4, .long sq)] dX1_distance_51 (Nat.le_of_ble_eq_true rfl) rfl 53 rfl ?_
        refine r_goto hC 62 dX1_distance_53 (by decide) ?_
        refine r_goto hC 17 dX1_distance_62 (by decide) ?_
        have hlt : a < b := Nat.not_le.mp fun h => c1 ((lN_le (by omega) (by omega)).mpr h)
        rw [rootN, if_pos hlt, if_neg c2] at kx
        refine rn.sub (lv' := [(8, .long (lN b)), (6, .long (lN ((a + b + 1) / 2))), (4, .long sq)]) [2, 0, 3] rfl ?_
        exact ih _ _ (by omega) (by omega) (by rw [Nat.pow_succ] at hf; omega) kx
set_option maxHeartbeats 4000000 in
set_option maxRecDepth 100000 in
theorem metX1_distance (l : Launch) (G : xG) (hG : xGood G) (dx dy : Int64) : xRm l G yX1_distance (Cond.code yX1_distance cX1_distance 12 (some .int)) { frames := 0, locals := 0, cells := 0, slots := 0 } [.long dx, .long dy] [] (some (.int (nI (awayQ dx dy)))) := by
  intro V hV
  refine xMet_ofT RX1 hG rfl (by decide) (Nat.le_of_ble_eq_true rfl) fun C hC hQ hX hl hg _ hTab => ?_
  subst hl hg
  refine rn.mono (J := xRo [] V) (fun V9 h => ⟨h, hV⟩) ?_
  show rn C (xRo [] V) 0 0 0 [(0, .long dx), (2, .long dy)] []
  refine r_lload_n hC 0 dX1_distance_0 rfl 1 rfl ?_
  refine r_lload_n hC 0 dX1_distance_1 rfl 2 rfl ?_
  refine r_lmul hC (dx * dx) dX1_distance_2  (rfl) 3 rfl ?_
  refine r_lload_n hC 1 dX1_distance_3 rfl 4 rfl ?_
  refine r_lload_n hC 1 dX1_distance_4 rfl 5 rfl ?_
  refine r_lmul hC (dy * dy) dX1_distance_5  (rfl) 6 rfl ?_
  refine r_ladd hC ((dx * dx) + (dy * dy)) dX1_distance_6  (rfl) 7 rfl ?_
  refine r_lstore hC 4 [(4, .long ((dx * dx) + (dy * dy))), (0, .long dx), (2, .long dy)] dX1_distance_7 (Nat.le_of_ble_eq_true rfl) rfl 9 rfl ?_
  refine r_lconst hC 0 dX1_distance_9 lc_0 10 rfl ?_
  refine r_lstore hC 6 [(6, .long 0), (4, .long ((dx * dx) + (dy * dy))), (0, .long dx), (2, .long dy)] dX1_distance_10 (Nat.le_of_ble_eq_true rfl) rfl 12 rfl ?_
  refine r_ldc2 hC q286 dX1_distance_12 15 rfl ?_
  refine r_lstore hC 8 [(8, .long 300000), (6, .long 0), (4, .long ((dx * dx) + (dy * dy))), (0, .long dx), (2, .long dy)] dX1_distance_15 (Nat.le_of_ble_eq_true rfl) rfl 17 rfl ?_
  refine rn.sub (lv' := [(8, .long 300000), (6, .long 0), (4, .long ((dx * dx) + (dy * dy)))]) [0, 1, 2] rfl ?_
  refine lpX1_distance hC _ 19 0 300000 (by omega) (by omega) (by decide) ?_
  refine r_lload hC 0 dX1_distance_65 rfl 67 rfl ?_
  refine r_l2i hC (nI (awayQ dx dy)) dX1_distance_67 (lN_i _) 68 rfl ?_
  exact r_iret hC (Nat.le_of_ble_eq_true rfl) (Nat.le_of_ble_eq_true rfl) (fun V9 h => hQ _ _ ⟨rfl, h.1⟩) dX1_distance_68
def x_gap (a b : Int32) : Int32 := x_max (x_abs a) (x_abs b)
set_option maxHeartbeats 4000000 in
set_option maxRecDepth 100000 in
theorem metX1_gap (l : Launch) (G : xG) (hG : xGood G) (a b : Int32) : xRm l G yX1_gap (Cond.code yX1_gap cX1_gap 2 (some .int)) { frames := 1, locals := 21, cells := 0, slots := 0 } [.int a, .int b] [] (some (.int (x_gap a b))) := by
  intro V hV
  refine xMet_ofT RX1 hG rfl (by decide) (Nat.le_of_ble_eq_true rfl) fun C hC hQ hX hl hg _ hTab => ?_
  subst hl hg
  refine rn.mono (J := xRo [] V) (fun V9 h => ⟨h, hV⟩) ?_
  show rn C (xRo [] V) 0 0 0 [(0, .int a), (1, .int b)] []
  refine r_iload_n hC 0 dX1_gap_0 rfl 1 rfl ?_
  refine xCall.r (r := some (.int (x_abs a))) (r_cS hC [.int a] mSJ4_abs q446 (fun V9 h9 => (metJ4_abs _ _ hG a) V9 xIn.nil) ⟨rfl, rfl⟩ (Nat.le_of_ble_eq_true rfl) (Nat.le_of_ble_eq_true rfl) rfl (Nat.le_of_ble_eq_true rfl) dX1_gap_1) 0 0 4 rfl rfl rfl ?_
  refine r_iload_n hC 1 dX1_gap_4 rfl 5 rfl ?_
  refine xCall.r (r := some (.int (x_abs b))) (r_cS hC [.int b] mSJ4_abs q446 (fun V9 h9 => (metJ4_abs _ _ hG b) V9 xIn.nil) ⟨rfl, rfl⟩ (Nat.le_of_ble_eq_true rfl) (Nat.le_of_ble_eq_true rfl) rfl (Nat.le_of_ble_eq_true rfl) dX1_gap_5) 0 0 8 rfl rfl rfl ?_
  refine xCall.r (r := some (.int (x_max (x_abs a) (x_abs b)))) (r_cS hC [.int (x_abs a), .int (x_abs b)] mSJ4_max q449 (fun V9 h9 => (metJ4_max _ _ hG (x_abs a) (x_abs b)) V9 xIn.nil) ⟨rfl, rfl⟩ (Nat.le_of_ble_eq_true rfl) (Nat.le_of_ble_eq_true rfl) rfl (Nat.le_of_ble_eq_true rfl) dX1_gap_8) 0 0 11 rfl rfl rfl ?_
  exact r_iret hC (Nat.le_of_ble_eq_true rfl) (Nat.le_of_ble_eq_true rfl) (fun V9 h => hQ _ _ ⟨rfl, h.1⟩) dX1_gap_11
