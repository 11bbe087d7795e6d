/-! ===== the reference: codes reckoned out ===== -/
set_option maxRecDepth 100000
def joinQ (v a b : Int32) : Bool := if v = 20 then decide (a < b) else if v = 21 then decide (a = b) else if v = 22 then decide (b < a) else if v = 24 then decide (a + b = 2) else decide (0 < a + b)
def evO (pv : Nat → Int32) : List Int32 → List Int32 → Option (List Int32)
  | [], st => some st
  | v :: L, st =>
    if v = 23 then (match st with
      | a :: s => evO pv L ((1 - a) :: s)
      | [] => none)
    else if v = 20 ∨ v = 21 ∨ v = 22 ∨ v = 24 ∨ v = 25 then (match st with
      | b :: a :: s => evO pv L (bI (joinQ v a b) :: s)
      | _ => none)
    else if 100 ≤ v then evO pv L ((v - 100) :: st)
    else if v = 0 then evO pv L (pv 0 :: st)
    else if v = 1 then evO pv L (pv 1 :: st)
    else if v = 2 then evO pv L (pv 2 :: st)
    else if v = 3 then evO pv L (pv 3 :: st)
    else none
theorem ev_cases {pv : Nat → Int32} {v : Int32} {L st S : List Int32} (h : evO pv (v :: L) st = some S) :
    (v = 23 ∧ ∃ a s, st = a :: s ∧ evO pv L ((1 - a) :: s) = some S) ∨ ((v = 20 ∨ v = 21 ∨ v = 22 ∨ v = 24 ∨ v = 25) ∧ ∃ b a s, st = b :: a :: s ∧ evO pv L (bI (joinQ v a b) :: s) = some S) ∨ (100 ≤ v ∧ evO pv L ((v - 100) :: st) = some S) ∨ (v = 0 ∧ evO pv L (pv 0 :: st) = some S) ∨ (v = 1 ∧ evO pv L (pv 1 :: st) = some S) ∨ (v = 2 ∧ evO pv L (pv 2 :: st) = some S) ∨ (v = 3 ∧ evO pv L (pv 3 :: st) = some S) := by
  rw [evO.eq_def] at h
  dsimp only at h
  split at h
  · rename_i h1
    refine Or.inl ⟨h1, ?_⟩
    cases st with
    | nil => exact absurd h (by simp)
    | cons a s => exact ⟨a, s, rfl, h⟩
  · split at h
    · rename_i h1 h2
      refine Or.inr (Or.inl ⟨h2, ?_⟩)
      match st, h with
      | b :: a :: s, h => exact ⟨b, a, s, rfl, h⟩
    · split at h
      · rename_i h1; exact Or.inr (Or.inr (Or.inl ⟨h1, h⟩))
      · split at h
        · rename_i h1; exact Or.inr (Or.inr (Or.inr (Or.inl ⟨h1, h⟩)))
        · split at h
          · rename_i h1; exact Or.inr (Or.inr (Or.inr (Or.inr (Or.inl ⟨h1, h⟩))))
          · split at h
            · rename_i h1; exact Or.inr (Or.inr (Or.inr (Or.inr (Or.inr (Or.inl ⟨h1, h⟩)))))
            · split at h
              · rename_i h1; exact Or.inr (Or.inr (Or.inr (Or.inr (Or.inr (Or.inr ⟨h1, h⟩)))))
              · exact absurd h (by simp)
def pvQ (r : Nat → Int64) (a k : Nat) : Int32 := if k = 0 then nI a else (r (21 + 3 * a + (k - 1))).toInt32
theorem lsT {co : Nat → Int32} {v : Int32} {Rm : List Int32} {c : Nat} (h : ∀ (k : Nat) (q : Int32), (v :: Rm)[k]? = some q → co (c + k) = q) : co c = v ∧ ∀ (k : Nat) (q : Int32), Rm[k]? = some q → co (c + 1 + k) = q :=
  ⟨h 0 v rfl, fun k q hq => by rw [show c + 1 + k = c + (k + 1) by omega]; exact h (k + 1) q (by simpa using hq)⟩
theorem i100 {v : Int32} (h : 100 ≤ v) : ¬ v = 23 ∧ ¬ v < 100 ∧ bI (m_in v.toInt64 20 25) = 0 := by
  have h1 : (100 : Int) ≤ v.toInt := by have := Int32.le_iff_toInt_le.mp h; exact this
  refine ⟨fun e => by rw [e] at h1; exact absurd h1 (by decide), Int32.not_lt.mpr h, ?_⟩
  have h2 : m_in v.toInt64 20 25 = false := Bool.eq_false_iff.mpr fun hm => by
    have := (in_iff.mp hm).2
    rw [i_lt0] at this
    have e : (25 : Int64).toInt = 25 := rfl
    omega
  rw [h2]; rfl
set_option maxHeartbeats 4000000 in
set_option maxRecDepth 100000 in
theorem metX6_joined20 (l : Launch) (G : xG) (hG : xGood G) (a b : Int32) : xRm l G yX6_joined (Cond.code yX6_joined cX6_joined 3 (some .boolean)) { frames := 0, locals := 0, cells := 0, slots := 0 } [.int 20, .int a, .int b] [] (some (.int (bI (joinQ 20 a b)))) := by
  intro V hV
  refine xMet_of RX6 hG rfl (by decide) (Nat.le_of_ble_eq_true rfl) fun C hC hQ hX hl hg _ => ?_
  subst hl hg
  refine rn.mono (J := xRo [] V) (fun V9 h => ⟨h, hV⟩) ?_
  show rn C (xRo [] V) 0 0 0 [(0, .int 20), (1, .int a), (2, .int b)] []
  refine r_iload_n hC 0 dX6_joined_0 rfl 1 rfl ?_
  refine r_tblIn hC 36 dX6_joined_1 (by decide) (by decide) rfl (by decide) ?_
  refine r_iload_n hC 1 dX6_joined_36 rfl 37 rfl ?_
  refine r_iload_n hC 2 dX6_joined_37 rfl 38 rfl ?_
  refine r_icge hC 45 dX6_joined_38 (by decide) 41 rfl (fun c1 => ?_) (fun c1 => ?_)
  · skip
    refine r_iconst hC 0 dX6_joined_45 ic_0 46 rfl ?_
    exact r_zret hC (by decide) (Nat.le_of_ble_eq_true rfl) (Nat.le_of_ble_eq_true rfl) (fun V9 h => hQ _ _ ⟨by rw [show joinQ 20 a b = false from decide_eq_false (Int32.not_lt.mpr c1)]; rfl, h.1⟩) dX6_joined_46
  · skip
    refine r_iconst hC 1 dX6_joined_41 ic_1 42 rfl ?_
    refine r_goto hC 46 dX6_joined_42 (by decide) ?_
    exact r_zret hC (by decide) (Nat.le_of_ble_eq_true rfl) (Nat.le_of_ble_eq_true rfl) (fun V9 h => hQ _ _ ⟨by rw [show joinQ 20 a b = true from decide_eq_true (Int32.not_le.mp c1)]; rfl, h.1⟩) dX6_joined_46
set_option maxHeartbeats 4000000 in
set_option maxRecDepth 100000 in
theorem metX6_joined21 (l : Launch) (G : xG) (hG : xGood G) (a b : Int32) : xRm l G yX6_joined (Cond.code yX6_joined cX6_joined 3 (some .boolean)) { frames := 0, locals := 0, cells := 0, slots := 0 } [.int 21, .int a, .int b] [] (some (.int (bI (joinQ 21 a b)))) := by
  intro V hV
  refine xMet_of RX6 hG rfl (by decide) (Nat.le_of_ble_eq_true rfl) fun C hC hQ hX hl hg _ => ?_
  subst hl hg
  refine rn.mono (J := xRo [] V) (fun V9 h => ⟨h, hV⟩) ?_
  show rn C (xRo [] V) 0 0 0 [(0, .int 21), (1, .int a), (2, .int b)] []
  refine r_iload_n hC 0 dX6_joined_0 rfl 1 rfl ?_
  refine r_tblIn hC 47 dX6_joined_1 (by decide) (by decide) rfl (by decide) ?_
  refine r_iload_n hC 1 dX6_joined_47 rfl 48 rfl ?_
  refine r_iload_n hC 2 dX6_joined_48 rfl 49 rfl ?_
  refine r_icne hC 56 dX6_joined_49 (by decide) 52 rfl (fun c1 => ?_) (fun c1 => ?_)
  · skip
    refine r_iconst hC 0 dX6_joined_56 ic_0 57 rfl ?_
    exact r_zret hC (by decide) (Nat.le_of_ble_eq_true rfl) (Nat.le_of_ble_eq_true rfl) (fun V9 h => hQ _ _ ⟨by rw [show joinQ 21 a b = false from decide_eq_false (c1)]; rfl, h.1⟩) dX6_joined_57
  · skip
    refine r_iconst hC 1 dX6_joined_52 ic_1 53 rfl ?_
    refine r_goto hC 57 dX6_joined_53 (by decide) ?_
    exact r_zret hC (by decide) (Nat.le_of_ble_eq_true rfl) (Nat.le_of_ble_eq_true rfl) (fun V9 h => hQ _ _ ⟨by rw [show joinQ 21 a b = true from decide_eq_true (c1)]; rfl, h.1⟩) dX6_joined_57
set_option maxHeartbeats 4000000 in
set_option maxRecDepth 100000 in
theorem metX6_joined22 (l : Launch) (G : xG) (hG : xGood G) (a b : Int32) : xRm l G yX6_joined (Cond.code yX6_joined cX6_joined 3 (some .boolean)) { frames := 0, locals := 0, cells := 0, slots := 0 } [.int 22, .int a, .int b] [] (some (.int (bI (joinQ 22 a b)))) := by
  intro V hV
  refine xMet_of RX6 hG rfl (by decide) (Nat.le_of_ble_eq_true rfl) fun C hC hQ hX hl hg _ => ?_
  subst hl hg
  refine rn.mono (J := xRo [] V) (fun V9 h => ⟨h, hV⟩) ?_
  show rn C (xRo [] V) 0 0 0 [(0, .int 22), (1, .int a), (2, .int b)] []
  refine r_iload_n hC 0 dX6_joined_0 rfl 1 rfl ?_
  refine r_tblIn hC 58 dX6_joined_1 (by decide) (by decide) rfl (by decide) ?_
  refine r_iload_n hC 1 dX6_joined_58 rfl 59 rfl ?_
  refine r_iload_n hC 2 dX6_joined_59 rfl 60 rfl ?_
  refine r_icle hC 67 dX6_joined_60 (by decide) 63 rfl (fun c1 => ?_) (fun c1 => ?_)
  · skip
    refine r_iconst hC 0 dX6_joined_67 ic_0 68 rfl ?_
    exact r_zret hC (by decide) (Nat.le_of_ble_eq_true rfl) (Nat.le_of_ble_eq_true rfl) (fun V9 h => hQ _ _ ⟨by rw [show joinQ 22 a b = false from decide_eq_false (Int32.not_lt.mpr c1)]; rfl, h.1⟩) dX6_joined_68
  · skip
    refine r_iconst hC 1 dX6_joined_63 ic_1 64 rfl ?_
    refine r_goto hC 68 dX6_joined_64 (by decide) ?_
    exact r_zret hC (by decide) (Nat.le_of_ble_eq_true rfl) (Nat.le_of_ble_eq_true rfl) (fun V9 h => hQ _ _ ⟨by rw [show joinQ 22 a b = true from decide_eq_true (Int32.not_le.mp c1)]; rfl, h.1⟩) dX6_joined_68
set_option maxHeartbeats 4000000 in
set_option maxRecDepth 100000 in
theorem metX6_joined24 (l : Launch) (G : xG) (hG : xGood G) (a b : Int32) : xRm l G yX6_joined (Cond.code yX6_joined cX6_joined 3 (some .boolean)) { frames := 0, locals := 0, cells := 0, slots := 0 } [.int 24, .int a, .int b] [] (some (.int (bI (joinQ 24 a b)))) := by
  intro V hV
  refine xMet_of RX6 hG rfl (by decide) (Nat.le_of_ble_eq_true rfl) fun C hC hQ hX hl hg _ => ?_
  subst hl hg
  refine rn.mono (J := xRo [] V) (fun V9 h => ⟨h, hV⟩) ?_
  show rn C (xRo [] V) 0 0 0 [(0, .int 24), (1, .int a), (2, .int b)] []
  refine r_iload_n hC 0 dX6_joined_0 rfl 1 rfl ?_
  refine r_tblIn hC 69 dX6_joined_1 (by decide) (by decide) rfl (by decide) ?_
  refine r_iload_n hC 1 dX6_joined_69 rfl 70 rfl ?_
  refine r_iload_n hC 2 dX6_joined_70 rfl 71 rfl ?_
  refine r_iadd hC (a + b) dX6_joined_71  (rfl) 72 rfl ?_
  refine r_iconst hC 2 dX6_joined_72 ic_2 73 rfl ?_
  refine r_icne hC 80 dX6_joined_73 (by decide) 76 rfl (fun c1 => ?_) (fun c1 => ?_)
  · skip
    refine r_iconst hC 0 dX6_joined_80 ic_0 81 rfl ?_
    exact r_zret hC (by decide) (Nat.le_of_ble_eq_true rfl) (Nat.le_of_ble_eq_true rfl) (fun V9 h => hQ _ _ ⟨by rw [show joinQ 24 a b = false from decide_eq_false (c1)]; rfl, h.1⟩) dX6_joined_81
  · skip
    refine r_iconst hC 1 dX6_joined_76 ic_1 77 rfl ?_
    refine r_goto hC 81 dX6_joined_77 (by decide) ?_
    exact r_zret hC (by decide) (Nat.le_of_ble_eq_true rfl) (Nat.le_of_ble_eq_true rfl) (fun V9 h => hQ _ _ ⟨by rw [show joinQ 24 a b = true from decide_eq_true (c1)]; rfl, h.1⟩) dX6_joined_81
set_option maxHeartbeats 4000000 in
set_option maxRecDepth 100000 in
theorem metX6_joined25 (l : Launch) (G : xG) (hG : xGood G) (a b : Int32) : xRm l G yX6_joined (Cond.code yX6_joined cX6_joined 3 (some .boolean)) { frames := 0, locals := 0, cells := 0, slots := 0 } [.int 25, .int a, .int b] [] (some (.int (bI (joinQ 25 a b)))) := by
  intro V hV
  refine xMet_of RX6 hG rfl (by decide) (Nat.le_of_ble_eq_true rfl) fun C hC hQ hX hl hg _ => ?_
  subst hl hg
  refine rn.mono (J := xRo [] V) (fun V9 h => ⟨h, hV⟩) ?_
  show rn C (xRo [] V) 0 0 0 [(0, .int 25), (1, .int a), (2, .int b)] []
  refine r_iload_n hC 0 dX6_joined_0 rfl 1 rfl ?_
  refine r_tblOut hC 82 dX6_joined_1 (by decide) (by decide) ?_
  refine r_iload_n hC 1 dX6_joined_82 rfl 83 rfl ?_
  refine r_iload_n hC 2 dX6_joined_83 rfl 84 rfl ?_
  refine r_iadd hC (a + b) dX6_joined_84  (rfl) 85 rfl ?_
  refine r_ifle hC 92 dX6_joined_85 (by decide) 88 rfl (fun c1 => ?_) (fun c1 => ?_)
  · skip
    refine r_iconst hC 0 dX6_joined_92 ic_0 93 rfl ?_
    exact r_zret hC (by decide) (Nat.le_of_ble_eq_true rfl) (Nat.le_of_ble_eq_true rfl) (fun V9 h => hQ _ _ ⟨by rw [show joinQ 25 a b = false from decide_eq_false (Int32.not_lt.mpr c1)]; rfl, h.1⟩) dX6_joined_93
  · skip
    refine r_iconst hC 1 dX6_joined_88 ic_1 89 rfl ?_
    refine r_goto hC 93 dX6_joined_89 (by decide) ?_
    exact r_zret hC (by decide) (Nat.le_of_ble_eq_true rfl) (Nat.le_of_ble_eq_true rfl) (fun V9 h => hQ _ _ ⟨by rw [show joinQ 25 a b = true from decide_eq_true (Int32.not_le.mp c1)]; rfl, h.1⟩) dX6_joined_93
set_option maxHeartbeats 4000000 in
set_option maxRecDepth 100000 in
theorem lpX6_holds {CC : xC} {F : Nat → Prop} {V0 : xV} (hG : xGood (xGG CC)) (hC : xCtx CC RX6 cX6_holds 5 (some .boolean) { frames := 1, locals := 25, cells := 0, slots := 0 }) (b : Nat → Nat) (i : Nat → Int32) (j : Nat → Int64) (co : Nat → Int32) (r : Nat → Int64) (N ia : Nat) (hN : N ≤ 200) (hia : ia < 30) (h36 : i 36 = nI N) (S : List Int32) (kx : ∀ sk : Nat → Int32, stR S sk → rn CC (xSt F V0 [(b 0, .inr (5, mF b i j)), (b 33, .inl (0, 200, .inl co)), (b 35, .inl (0, 200, .inl sk)), (b 1, .inl (1, 111, .inr (.inl r)))]) 0 0 160 [(0, .ref (b 0))] []) : ∀ (Rm : List Int32) (c : Nat) (st : List Int32) (sk : Nat → Int32), (∀ (k : Nat) (q : Int32), Rm[k]? = some q → co (c + k) = q) → c + Rm.length = N → st.length ≤ c → stR st sk → evO (pvQ r ia) Rm st = some S → rn CC (xSt F V0 [(b 0, .inr (5, mF b i j)), (b 33, .inl (0, 200, .inl co)), (b 35, .inl (0, 200, .inl sk)), (b 1, .inl (1, 111, .inr (.inl r)))]) 0 0 4 [(3, .int (nI c)), (2, .int (nI st.length)), (0, .ref (b 0)), (1, .int (nI ia))] [] := by
  intro Rm
  induction Rm with
  | nil =>
    intro c st sk hco hc hst hs hev
    refine r_iload_n hC 0 dX6_holds_4 rfl 5 rfl ?_
    refine r_aload_n hC 2 dX6_holds_5 rfl 6 rfl ?_
    refine r_get (v := .int (i 36)) hC kX6 36 rfl q2789 (fun _ h => h.get 0 rfl) rfl dX6_holds_6 9 rfl ?_
    refine r_eqi (y := nI N) (h36) ?_
    refine r_icge hC 160 dX6_holds_9 (by decide) 12 rfl (fun _ => ?_) (fun h => absurd (nI_le (by simp only [List.length_nil] at hc; omega) (by omega)) h)
    refine rn.sub (lv' := [(0, .ref (b 0))]) [2] rfl ?_
    exact kx sk (by have := Option.some.inj hev; rw [← this]; exact hs)
  | cons v Rm ih =>
    intro c st sk hco hc hst hs hev
    refine r_iload_n hC 0 dX6_holds_4 rfl 5 rfl ?_
    refine r_aload_n hC 2 dX6_holds_5 rfl 6 rfl ?_
    refine r_get (v := .int (i 36)) hC kX6 36 rfl q2789 (fun _ h => h.get 0 rfl) rfl dX6_holds_6 9 rfl ?_
    refine r_eqi (y := nI N) (h36) ?_
    refine r_icge hC 160 dX6_holds_9 (by decide) 12 rfl (fun h => absurd h (nI_ge (by simp only [List.length_cons] at hc; omega) (by omega))) (fun _ => ?_)
    refine r_aload_n hC 2 dX6_holds_12 rfl 13 rfl ?_
    refine r_get (v := .ref (b 33)) hC kX6 33 rfl q2786 (fun _ h => h.get 0 rfl) rfl dX6_holds_13 16 rfl ?_
    refine r_iload_n hC 0 dX6_holds_16 rfl 17 rfl ?_
    obtain ⟨hv, hr2⟩ := lsT hco
    rcases ev_cases hev with ⟨rfl, a, s, rfl, hev2⟩ | ⟨hv5, b9, a, s, rfl, hev2⟩ | ⟨hv1, hev2⟩ | ⟨rfl, hev2⟩ | ⟨rfl, hev2⟩ | ⟨rfl, hev2⟩ | ⟨rfl, hev2⟩
    · skip
      show rn CC (xSt F V0 [(b 0, .inr (5, mF b i j)), (b 33, .inl (0, 200, .inl co)), (b 35, .inl (0, 200, .inl sk)), (b 1, .inl (1, 111, .inr (.inl r)))]) 0 0 17 [(3, .int (nI c)), (2, .int (nI (s.length + 1))), (0, .ref (b 0)), (1, .int (nI ia))] [.int (nI c), .ref (b 33)]
      refine r_iald hC c (xix_n c (by simp only [List.length_cons] at hc; omega) (Nat.le_of_ble_eq_true rfl)) (fun _ h => h.get 1 rfl) (co c) (rfl) dX6_holds_17 18 rfl ?_
      refine r_eqi (y := 23) (hv) ?_
      refine r_istore hC 4 [(4, .int 23), (3, .int (nI c)), (2, .int (nI (s.length + 1))), (0, .ref (b 0)), (1, .int (nI ia))] dX6_holds_18 (Nat.le_of_ble_eq_true rfl) rfl 20 rfl ?_
      refine r_iload hC 0 dX6_holds_20 rfl 22 rfl ?_
      refine r_bipush hC 23 dX6_holds_22 bp_23 24 rfl ?_
      refine r_icne hC 48 dX6_holds_24 (by decide) 27 rfl (fun h => absurd h (by decide)) (fun _ => ?_)
      refine r_aload_n hC 3 dX6_holds_27 rfl 28 rfl ?_
      refine r_get (v := .ref (b 35)) hC kX6 35 rfl q2788 (fun _ h => h.get 0 rfl) rfl dX6_holds_28 31 rfl ?_
      refine r_iload_n hC 2 dX6_holds_31 rfl 32 rfl ?_
      refine r_iconst hC 1 dX6_holds_32 ic_1 33 rfl ?_
      refine r_isub hC (nI s.length) dX6_holds_33  (pk_sub (a := s.length + 1) (b := 1) (by omega)) 34 rfl ?_
      refine r_iconst hC 1 dX6_holds_34 ic_1 35 rfl ?_
      refine r_aload_n hC 3 dX6_holds_35 rfl 36 rfl ?_
      refine r_get (v := .ref (b 35)) hC kX6 35 rfl q2788 (fun _ h => h.get 0 rfl) rfl dX6_holds_36 39 rfl ?_
      refine r_iload_n hC 2 dX6_holds_39 rfl 40 rfl ?_
      refine r_iconst hC 1 dX6_holds_40 ic_1 41 rfl ?_
      refine r_isub hC (nI s.length) dX6_holds_41  (pk_sub (a := s.length + 1) (b := 1) (by omega)) 42 rfl ?_
      refine r_iald hC s.length (xix_n s.length (by simp only [List.length_cons] at hc hst; omega) (Nat.le_of_ble_eq_true rfl)) (fun _ h => h.get 2 rfl) (sk s.length) (rfl) dX6_holds_42 43 rfl ?_
      refine r_eqi (y := a) (hs.1) ?_
      refine r_isub hC (1 - a) dX6_holds_43  (rfl) 44 rfl ?_
      refine r_iast (J := xSt F V0 [(b 0, .inr (5, mF b i j)), (b 33, .inl (0, 200, .inl co)), (b 35, .inl (0, 200, .inl (va_up sk s.length (1 - a)))), (b 1, .inl (1, 111, .inr (.inl r)))]) hC s.length (xix_n s.length (by simp only [List.length_cons] at hc hst; omega) (Nat.le_of_ble_eq_true rfl)) (fun _ h => h.get 2 rfl) dX6_holds_44 (fun _ h => h.set 2 _ rfl) 45 rfl ?_
      generalize hu1 : va_up sk s.length (1 - a) = u1
      refine r_goto hC 154 dX6_holds_45 (by decide) ?_
      refine r_iinc hC (nI (c + 1)) 3 1 [(3, .int (nI (c + 1))), (4, .int 23), (2, .int (nI (s.length + 1))), (0, .ref (b 0)), (1, .int (nI ia))] dX6_holds_154 rfl (nI_add c 1) (Nat.le_of_ble_eq_true rfl) rfl 157 rfl ?_
      refine r_goto hC 4 dX6_holds_157 (by decide) ?_
      subst hu1
      refine rn.sub (lv' := [(3, .int (nI (c + 1))), (2, .int (nI (s.length + 1))), (0, .ref (b 0)), (1, .int (nI ia))]) [0, 2, 3, 4] rfl ?_
      exact ih (c + 1) ((1 - a) :: s) (va_up sk s.length (1 - a)) hr2 (by simp only [List.length_cons] at hc; omega) (by simp only [List.length_cons] at hst ⊢; omega) ⟨up_same _ _ _, stR_up hs.2 (Nat.le_refl _)⟩ hev2
    · rcases hv5 with rfl | rfl | rfl | rfl | rfl
      · skip
        show rn CC (xSt F V0 [(b 0, .inr (5, mF b i j)), (b 33, .inl (0, 200, .inl co)), (b 35, .inl (0, 200, .inl sk)), (b 1, .inl (1, 111, .inr (.inl r)))]) 0 0 17 [(3, .int (nI c)), (2, .int (nI (s.length + 1 + 1))), (0, .ref (b 0)), (1, .int (nI ia))] [.int (nI c), .ref (b 33)]
        refine r_iald hC c (xix_n c (by simp only [List.length_cons] at hc; omega) (Nat.le_of_ble_eq_true rfl)) (fun _ h => h.get 1 rfl) (co c) (rfl) dX6_holds_17 18 rfl ?_
        refine r_eqi (y := 20) (hv) ?_
        refine r_istore hC 4 [(4, .int 20), (3, .int (nI c)), (2, .int (nI (s.length + 1 + 1))), (0, .ref (b 0)), (1, .int (nI ia))] dX6_holds_18 (Nat.le_of_ble_eq_true rfl) rfl 20 rfl ?_
        refine r_iload hC 0 dX6_holds_20 rfl 22 rfl ?_
        refine r_bipush hC 23 dX6_holds_22 bp_23 24 rfl ?_
        refine r_icne hC 48 dX6_holds_24 (by decide) 27 rfl (fun _ => ?_) (fun h => absurd h (by decide))
        refine r_iload hC 0 dX6_holds_48 rfl 50 rfl ?_
        refine r_i2l hC 20 dX6_holds_50 (by decide) 51 rfl ?_
        refine r_ldc2 hC q3236 dX6_holds_51 54 rfl ?_
        refine r_ldc2 hC q3357 dX6_holds_54 57 rfl ?_
        refine r_invSr hC [.long 20, .long 20, .long 25] (.int 1) mSX6_in q2891 (metX6_inB _ _ hG 20 20 25 1 (by decide)) (fun _ _ => xIn.nil) ⟨rfl, rfl⟩ 0 0 rfl rfl (Nat.le_of_ble_eq_true rfl) (Nat.le_of_ble_eq_true rfl) rfl (Nat.le_of_ble_eq_true rfl) dX6_holds_57 60 rfl ?_
        refine r_ifeq hC 104 dX6_holds_60 (by decide) 63 rfl (fun h => absurd h (by decide)) (fun _ => ?_)
        refine r_iinc hC (nI (s.length + 1)) 2 2 [(2, .int (nI (s.length + 1))), (4, .int 20), (3, .int (nI c)), (0, .ref (b 0)), (1, .int (nI ia))] dX6_holds_63 rfl (pk_m1 _) (Nat.le_of_ble_eq_true rfl) rfl 66 rfl ?_
        refine r_aload_n hC 3 dX6_holds_66 rfl 67 rfl ?_
        refine r_get (v := .ref (b 35)) hC kX6 35 rfl q2788 (fun _ h => h.get 0 rfl) rfl dX6_holds_67 70 rfl ?_
        refine r_iload_n hC 0 dX6_holds_70 rfl 71 rfl ?_
        refine r_iconst hC 1 dX6_holds_71 ic_1 72 rfl ?_
        refine r_isub hC (nI s.length) dX6_holds_72  (pk_sub (a := s.length + 1) (b := 1) (by omega)) 73 rfl ?_
        refine r_iload hC 1 dX6_holds_73 rfl 75 rfl ?_
        refine r_aload_n hC 3 dX6_holds_75 rfl 76 rfl ?_
        refine r_get (v := .ref (b 35)) hC kX6 35 rfl q2788 (fun _ h => h.get 0 rfl) rfl dX6_holds_76 79 rfl ?_
        refine r_iload_n hC 0 dX6_holds_79 rfl 80 rfl ?_
        refine r_iconst hC 1 dX6_holds_80 ic_1 81 rfl ?_
        refine r_isub hC (nI s.length) dX6_holds_81  (pk_sub (a := s.length + 1) (b := 1) (by omega)) 82 rfl ?_
        refine r_iald hC s.length (xix_n s.length (by simp only [List.length_cons] at hc hst; omega) (Nat.le_of_ble_eq_true rfl)) (fun _ h => h.get 2 rfl) (sk s.length) (rfl) dX6_holds_82 83 rfl ?_
        refine r_eqi (y := a) (hs.2.1) ?_
        refine r_aload_n hC 3 dX6_holds_83 rfl 84 rfl ?_
        refine r_get (v := .ref (b 35)) hC kX6 35 rfl q2788 (fun _ h => h.get 0 rfl) rfl dX6_holds_84 87 rfl ?_
        refine r_iload_n hC 0 dX6_holds_87 rfl 88 rfl ?_
        refine r_iald hC (s.length + 1) (xix_n (s.length + 1) (by simp only [List.length_cons] at hc hst; omega) (Nat.le_of_ble_eq_true rfl)) (fun _ h => h.get 2 rfl) (sk (s.length + 1)) (rfl) dX6_holds_88 89 rfl ?_
        refine r_eqi (y := b9) (hs.1) ?_
        rcases Bool.eq_false_or_eq_true (joinQ 20 a b9) with hk2 | hk2
        · skip
          refine r_invSr hC [.int 20, .int a, .int b9] (.int 1) mSX6_joined q3358 (xRm_v (metX6_joined20 _ _ hG a b9) (show _ = some (Value.int 1) by rw [hk2]; rfl)) (fun _ _ => xIn.nil) ⟨rfl, rfl⟩ 0 0 rfl rfl (Nat.le_of_ble_eq_true rfl) (Nat.le_of_ble_eq_true rfl) rfl (Nat.le_of_ble_eq_true rfl) dX6_holds_89 92 rfl ?_
          refine r_ifeq hC 99 dX6_holds_92 (by decide) 95 rfl (fun h => absurd h (by decide)) (fun _ => ?_)
          refine r_iconst hC 1 dX6_holds_95 ic_1 96 rfl ?_
          refine r_goto hC 100 dX6_holds_96 (by decide) ?_
          refine r_iast (J := xSt F V0 [(b 0, .inr (5, mF b i j)), (b 33, .inl (0, 200, .inl co)), (b 35, .inl (0, 200, .inl (va_up sk s.length 1))), (b 1, .inl (1, 111, .inr (.inl r)))]) hC s.length (xix_n s.length (by simp only [List.length_cons] at hc hst; omega) (Nat.le_of_ble_eq_true rfl)) (fun _ h => h.get 2 rfl) dX6_holds_100 (fun _ h => h.set 2 _ rfl) 101 rfl ?_
          generalize hu3 : va_up sk s.length 1 = u3
          refine r_goto hC 154 dX6_holds_101 (by decide) ?_
          refine r_iinc hC (nI (c + 1)) 3 2 [(3, .int (nI (c + 1))), (2, .int (nI (s.length + 1))), (4, .int 20), (0, .ref (b 0)), (1, .int (nI ia))] dX6_holds_154 rfl (nI_add c 1) (Nat.le_of_ble_eq_true rfl) rfl 157 rfl ?_
          refine r_goto hC 4 dX6_holds_157 (by decide) ?_
          subst hu3
          refine rn.sub (lv' := [(3, .int (nI (c + 1))), (2, .int (nI (s.length + 1))), (0, .ref (b 0)), (1, .int (nI ia))]) [0, 1, 3, 4] rfl ?_
          exact ih (c + 1) (1 :: s) (va_up sk s.length 1) hr2 (by simp only [List.length_cons] at hc; omega) (by simp only [List.length_cons] at hst ⊢; omega) ⟨up_same _ _ _, stR_up hs.2.2 (Nat.le_refl _)⟩ (by rw [hk2] at hev2; exact hev2)
        · skip
          refine r_invSr hC [.int 20, .int a, .int b9] (.int 0) mSX6_joined q3358 (xRm_v (metX6_joined20 _ _ hG a b9) (show _ = some (Value.int 0) by rw [hk2]; rfl)) (fun _ _ => xIn.nil) ⟨rfl, rfl⟩ 0 0 rfl rfl (Nat.le_of_ble_eq_true rfl) (Nat.le_of_ble_eq_true rfl) rfl (Nat.le_of_ble_eq_true rfl) dX6_holds_89 92 rfl ?_
          refine r_ifeq hC 99 dX6_holds_92 (by decide) 95 rfl (fun _ => ?_) (fun h => absurd h (by decide))
          refine r_iconst hC 0 dX6_holds_99 ic_0 100 rfl ?_
          refine r_iast (J := xSt F V0 [(b 0, .inr (5, mF b i j)), (b 33, .inl (0, 200, .inl co)), (b 35, .inl (0, 200, .inl (va_up sk s.length 0))), (b 1, .inl (1, 111, .inr (.inl r)))]) hC s.length (xix_n s.length (by simp only [List.length_cons] at hc hst; omega) (Nat.le_of_ble_eq_true rfl)) (fun _ h => h.get 2 rfl) dX6_holds_100 (fun _ h => h.set 2 _ rfl) 101 rfl ?_
          generalize hu4 : va_up sk s.length 0 = u4
          refine r_goto hC 154 dX6_holds_101 (by decide) ?_
          refine r_iinc hC (nI (c + 1)) 3 2 [(3, .int (nI (c + 1))), (2, .int (nI (s.length + 1))), (4, .int 20), (0, .ref (b 0)), (1, .int (nI ia))] dX6_holds_154 rfl (nI_add c 1) (Nat.le_of_ble_eq_true rfl) rfl 157 rfl ?_
          refine r_goto hC 4 dX6_holds_157 (by decide) ?_
          subst hu4
          refine rn.sub (lv' := [(3, .int (nI (c + 1))), (2, .int (nI (s.length + 1))), (0, .ref (b 0)), (1, .int (nI ia))]) [0, 1, 3, 4] rfl ?_
          exact ih (c + 1) (0 :: s) (va_up sk s.length 0) hr2 (by simp only [List.length_cons] at hc; omega) (by simp only [List.length_cons] at hst ⊢; omega) ⟨up_same _ _ _, stR_up hs.2.2 (Nat.le_refl _)⟩ (by rw [hk2] at hev2; exact hev2)
      · skip
        show rn CC (xSt F V0 [(b 0, .inr (5, mF b i j)), (b 33, .inl (0, 200, .inl co)), (b 35, .inl (0, 200, .inl sk)), (b 1, .inl (1, 111, .inr (.inl r)))]) 0 0 17 [(3, .int (nI c)), (2, .int (nI (s.length + 1 + 1))), (0, .ref (b 0)), (1, .int (nI ia))] [.int (nI c), .ref (b 33)]
        refine r_iald hC c (xix_n c (by simp only [List.length_cons] at hc; omega) (Nat.le_of_ble_eq_true rfl)) (fun _ h => h.get 1 rfl) (co c) (rfl) dX6_holds_17 18 rfl ?_
        refine r_eqi (y := 21) (hv) ?_
        refine r_istore hC 4 [(4, .int 21), (3, .int (nI c)), (2, .int (nI (s.length + 1 + 1))), (0, .ref (b 0)), (1, .int (nI ia))] dX6_holds_18 (Nat.le_of_ble_eq_true rfl) rfl 20 rfl ?_
        refine r_iload hC 0 dX6_holds_20 rfl 22 rfl ?_
        refine r_bipush hC 23 dX6_holds_22 bp_23 24 rfl ?_
        refine r_icne hC 48 dX6_holds_24 (by decide) 27 rfl (fun _ => ?_) (fun h => absurd h (by decide))
        refine r_iload hC 0 dX6_holds_48 rfl 50 rfl ?_
        refine r_i2l hC 21 dX6_holds_50 (by decide) 51 rfl ?_
        refine r_ldc2 hC q3236 dX6_holds_51 54 rfl ?_
        refine r_ldc2 hC q3357 dX6_holds_54 57 rfl ?_
        refine r_invSr hC [.long 21, .long 20, .long 25] (.int 1) mSX6_in q2891 (metX6_inB _ _ hG 21 20 25 1 (by decide)) (fun _ _ => xIn.nil) ⟨rfl, rfl⟩ 0 0 rfl rfl (Nat.le_of_ble_eq_true rfl) (Nat.le_of_ble_eq_true rfl) rfl (Nat.le_of_ble_eq_true rfl) dX6_holds_57 60 rfl ?_
        refine r_ifeq hC 104 dX6_holds_60 (by decide) 63 rfl (fun h => absurd h (by decide)) (fun _ => ?_)
        refine r_iinc hC (nI (s.length + 1)) 2 2 [(2, .int (nI (s.length + 1))), (4, .int 21), (3, .int (nI c)), (0, .ref (b 0)), (1, .int (nI ia))] dX6_holds_63 rfl (pk_m1 _) (Nat.le_of_ble_eq_true rfl) rfl 66 rfl ?_
        refine r_aload_n hC 3 dX6_holds_66 rfl 67 rfl ?_
        refine r_get (v := .ref (b 35)) hC kX6 35 rfl q2788 (fun _ h => h.get 0 rfl) rfl dX6_holds_67 70 rfl ?_
        refine r_iload_n hC 0 dX6_holds_70 rfl 71 rfl ?_
        refine r_iconst hC 1 dX6_holds_71 ic_1 72 rfl ?_
        refine r_isub hC (nI s.length) dX6_holds_72  (pk_sub (a := s.length + 1) (b := 1) (by omega)) 73 rfl ?_
        refine r_iload hC 1 dX6_holds_73 rfl 75 rfl ?_
        refine r_aload_n hC 3 dX6_holds_75 rfl 76 rfl ?_
        refine r_get (v := .ref (b 35)) hC kX6 35 rfl q2788 (fun _ h => h.get 0 rfl) rfl dX6_holds_76 79 rfl ?_
        refine r_iload_n hC 0 dX6_holds_79 rfl 80 rfl ?_
        refine r_iconst hC 1 dX6_holds_80 ic_1 81 rfl ?_
        refine r_isub hC (nI s.length) dX6_holds_81  (pk_sub (a := s.length + 1) (b := 1) (by omega)) 82 rfl ?_
        refine r_iald hC s.length (xix_n s.length (by simp only [List.length_cons] at hc hst; omega) (Nat.le_of_ble_eq_true rfl)) (fun _ h => h.get 2 rfl) (sk s.length) (rfl) dX6_holds_82 83 rfl ?_
        refine r_eqi (y := a) (hs.2.1) ?_
        refine r_aload_n hC 3 dX6_holds_83 rfl 84 rfl ?_
        refine r_get (v := .ref (b 35)) hC kX6 35 rfl q2788 (fun _ h => h.get 0 rfl) rfl dX6_holds_84 87 rfl ?_
        refine r_iload_n hC 0 dX6_holds_87 rfl 88 rfl ?_
        refine r_iald hC (s.length + 1) (xix_n (s.length + 1) (by simp only [List.length_cons] at hc hst; omega) (Nat.le_of_ble_eq_true rfl)) (fun _ h => h.get 2 rfl) (sk (s.length + 1)) (rfl) dX6_holds_88 89 rfl ?_
        refine r_eqi (y := b9) (hs.1) ?_
        rcases Bool.eq_false_or_eq_true (joinQ 21 a b9) with hk5 | hk5
        · skip
          refine r_invSr hC [.int 21, .int a, .int b9] (.int 1) mSX6_joined q3358 (xRm_v (metX6_joined21 _ _ hG a b9) (show _ = some (Value.int 1) by rw [hk5]; rfl)) (fun _ _ => xIn.nil) ⟨rfl, rfl⟩ 0 0 rfl rfl (Nat.le_of_ble_eq_true rfl) (Nat.le_of_ble_eq_true rfl) rfl (Nat.le_of_ble_eq_true rfl) dX6_holds_89 92 rfl ?_
          refine r_ifeq hC 99 dX6_holds_92 (by decide) 95 rfl (fun h => absurd h (by decide)) (fun _ => ?_)
          refine r_iconst hC 1 dX6_holds_95 ic_1 96 rfl ?_
          refine r_goto hC 100 dX6_holds_96 (by decide) ?_
          refine r_iast (J := xSt F V0 [(b 0, .inr (5, mF b i j)), (b 33, .inl (0, 200, .inl co)), (b 35, .inl (0, 200, .inl (va_up sk s.length 1))), (b 1, .inl (1, 111, .inr (.inl r)))]) hC s.length (xix_n s.length (by simp only [List.length_cons] at hc hst; omega) (Nat.le_of_ble_eq_true rfl)) (fun _ h => h.get 2 rfl) dX6_holds_100 (fun _ h => h.set 2 _ rfl) 101 rfl ?_
          generalize hu6 : va_up sk s.length 1 = u6
          refine r_goto hC 154 dX6_holds_101 (by decide) ?_
          refine r_iinc hC (nI (c + 1)) 3 2 [(3, .int (nI (c + 1))), (2, .int (nI (s.length + 1))), (4, .int 21), (0, .ref (b 0)), (1, .int (nI ia))] dX6_holds_154 rfl (nI_add c 1) (Nat.le_of_ble_eq_true rfl) rfl 157 rfl ?_
          refine r_goto hC 4 dX6_holds_157 (by decide) ?_
          subst hu6
          refine rn.sub (lv' := [(3, .int (nI (c + 1))), (2, .int (nI (s.length + 1))), (0, .ref (b 0)), (1, .int (nI ia))]) [0, 1, 3, 4] rfl ?_
          exact ih (c + 1) (1 :: s) (va_up sk s.length 1) hr2 (by simp only [List.length_cons] at hc; omega) (by simp only [List.length_cons] at hst ⊢; omega) ⟨up_same _ _ _, stR_up hs.2.2 (Nat.le_refl _)⟩ (by rw [hk5] at hev2; exact hev2)
        · skip
          refine r_invSr hC [.int 21, .int a, .int b9] (.int 0) mSX6_joined q3358 (xRm_v (metX6_joined21 _ _ hG a b9) (show _ = some (Value.int 0) by rw [hk5]; rfl)) (fun _ _ => xIn.nil) ⟨rfl, rfl⟩ 0 0 rfl rfl (Nat.le_of_ble_eq_true rfl) (Nat.le_of_ble_eq_true rfl) rfl (Nat.le_of_ble_eq_true rfl) dX6_holds_89 92 rfl ?_
          refine r_ifeq hC 99 dX6_holds_92 (by decide) 95 rfl (fun _ => ?_) (fun h => absurd h (by decide))
          refine r_iconst hC 0 dX6_holds_99 ic_0 100 rfl ?_
          refine r_iast (J := xSt F V0 [(b 0, .inr (5, mF b i j)), (b 33, .inl (0, 200, .inl co)), (b 35, .inl (0, 200, .inl (va_up sk s.length 0))), (b 1, .inl (1, 111, .inr (.inl r)))]) hC s.length (xix_n s.length (by simp only [List.length_cons] at hc hst; omega) (Nat.le_of_ble_eq_true rfl)) (fun _ h => h.get 2 rfl) dX6_holds_100 (fun _ h => h.set 2 _ rfl) 101 rfl ?_
          generalize hu7 : va_up sk s.length 0 = u7
          refine r_goto hC 154 dX6_holds_101 (by decide) ?_
          refine r_iinc hC (nI (c + 1)) 3 2 [(3, .int (nI (c + 1))), (2, .int (nI (s.length + 1))), (4, .int 21), (0, .ref (b 0)), (1, .int (nI ia))] dX6_holds_154 rfl (nI_add c 1) (Nat.le_of_ble_eq_true rfl) rfl 157 rfl ?_
          refine r_goto hC 4 dX6_holds_157 (by decide) ?_
          subst hu7
          refine rn.sub (lv' := [(3, .int (nI (c + 1))), (2, .int (nI (s.length + 1))), (0, .ref (b 0)), (1, .int (nI ia))]) [0, 1, 3, 4] rfl ?_
          exact ih (c + 1) (0 :: s) (va_up sk s.length 0) hr2 (by simp only [List.length_cons] at hc; omega) (by simp only [List.length_cons] at hst ⊢; omega) ⟨up_same _ _ _, stR_up hs.2.2 (Nat.le_refl _)⟩ (by rw [hk5] at hev2; exact hev2)
      · skip
        show rn CC (xSt F V0 [(b 0, .inr (5, mF b i j)), (b 33, .inl (0, 200, .inl co)), (b 35, .inl (0, 200, .inl sk)), (b 1, .inl (1, 111, .inr (.inl r)))]) 0 0 17 [(3, .int (nI c)), (2, .int (nI (s.length + 1 + 1))), (0, .ref (b 0)), (1, .int (nI ia))] [.int (nI c), .ref (b 33)]
        refine r_iald hC c (xix_n c (by simp only [List.length_cons] at hc; omega) (Nat.le_of_ble_eq_true rfl)) (fun _ h => h.get 1 rfl) (co c) (rfl) dX6_holds_17 18 rfl ?_
        refine r_eqi (y := 22) (hv) ?_
        refine r_istore hC 4 [(4, .int 22), (3, .int (nI c)), (2, .int (nI (s.length + 1 + 1))), (0, .ref (b 0)), (1, .int (nI ia))] dX6_holds_18 (Nat.le_of_ble_eq_true rfl) rfl 20 rfl ?_
        refine r_iload hC 0 dX6_holds_20 rfl 22 rfl ?_
        refine r_bipush hC 23 dX6_holds_22 bp_23 24 rfl ?_
        refine r_icne hC 48 dX6_holds_24 (by decide) 27 rfl (fun _ => ?_) (fun h => absurd h (by decide))
        refine r_iload hC 0 dX6_holds_48 rfl 50 rfl ?_
        refine r_i2l hC 22 dX6_holds_50 (by decide) 51 rfl ?_
        refine r_ldc2 hC q3236 dX6_holds_51 54 rfl ?_
        refine r_ldc2 hC q3357 dX6_holds_54 57 rfl ?_
        refine r_invSr hC [.long 22, .long 20, .long 25] (.int 1) mSX6_in q2891 (metX6_inB _ _ hG 22 20 25 1 (by decide)) (fun _ _ => xIn.nil) ⟨rfl, rfl⟩ 0 0 rfl rfl (Nat.le_of_ble_eq_true rfl) (Nat.le_of_ble_eq_true rfl) rfl (Nat.le_of_ble_eq_true rfl) dX6_holds_57 60 rfl ?_
        refine r_ifeq hC 104 dX6_holds_60 (by decide) 63 rfl (fun h => absurd h (by decide)) (fun _ => ?_)
        refine r_iinc hC (nI (s.length + 1)) 2 2 [(2, .int (nI (s.length + 1))), (4, .int 22), (3, .int (nI c)), (0, .ref (b 0)), (1, .int (nI ia))] dX6_holds_63 rfl (pk_m1 _) (Nat.le_of_ble_eq_true rfl) rfl 66 rfl ?_
        refine r_aload_n hC 3 dX6_holds_66 rfl 67 rfl ?_
        refine r_get (v := .ref (b 35)) hC kX6 35 rfl q2788 (fun _ h => h.get 0 rfl) rfl dX6_holds_67 70 rfl ?_
        refine r_iload_n hC 0 dX6_holds_70 rfl 71 rfl ?_
        refine r_iconst hC 1 dX6_holds_71 ic_1 72 rfl ?_
        refine r_isub hC (nI s.length) dX6_holds_72  (pk_sub (a := s.length + 1) (b := 1) (by omega)) 73 rfl ?_
        refine r_iload hC 1 dX6_holds_73 rfl 75 rfl ?_
        refine r_aload_n hC 3 dX6_holds_75 rfl 76 rfl ?_
        refine r_get (v := .ref (b 35)) hC kX6 35 rfl q2788 (fun _ h => h.get 0 rfl) rfl dX6_holds_76 79 rfl ?_
        refine r_iload_n hC 0 dX6_holds_79 rfl 80 rfl ?_
        refine r_iconst hC 1 dX6_holds_80 ic_1 81 rfl ?_
        refine r_isub hC (nI s.length) dX6_holds_81  (pk_sub (a := s.length + 1) (b := 1) (by omega)) 82 rfl ?_
        refine r_iald hC s.length (xix_n s.length (by simp only [List.length_cons] at hc hst; omega) (Nat.le_of_ble_eq_true rfl)) (fun _ h => h.get 2 rfl) (sk s.length) (rfl) dX6_holds_82 83 rfl ?_
        refine r_eqi (y := a) (hs.2.1) ?_
        refine r_aload_n hC 3 dX6_holds_83 rfl 84 rfl ?_
        refine r_get (v := .ref (b 35)) hC kX6 35 rfl q2788 (fun _ h => h.get 0 rfl) rfl dX6_holds_84 87 rfl ?_
        refine r_iload_n hC 0 dX6_holds_87 rfl 88 rfl ?_
        refine r_iald hC (s.length + 1) (xix_n (s.length + 1) (by simp only [List.length_cons] at hc hst; omega) (Nat.le_of_ble_eq_true rfl)) (fun _ h => h.get 2 rfl) (sk (s.length + 1)) (rfl) dX6_holds_88 89 rfl ?_
        refine r_eqi (y := b9) (hs.1) ?_
        rcases Bool.eq_false_or_eq_true (joinQ 22 a b9) with hk8 | hk8
        · skip
          refine r_invSr hC [.int 22, .int a, .int b9] (.int 1) mSX6_joined q3358 (xRm_v (metX6_joined22 _ _ hG a b9) (show _ = some (Value.int 1) by rw [hk8]; rfl)) (fun _ _ => xIn.nil) ⟨rfl, rfl⟩ 0 0 rfl rfl (Nat.le_of_ble_eq_true rfl) (Nat.le_of_ble_eq_true rfl) rfl (Nat.le_of_ble_eq_true rfl) dX6_holds_89 92 rfl ?_
          refine r_ifeq hC 99 dX6_holds_92 (by decide) 95 rfl (fun h => absurd h (by decide)) (fun _ => ?_)
          refine r_iconst hC 1 dX6_holds_95 ic_1 96 rfl ?_
          refine r_goto hC 100 dX6_holds_96 (by decide) ?_
          refine r_iast (J := xSt F V0 [(b 0, .inr (5, mF b i j)), (b 33, .inl (0, 200, .inl co)), (b 35, .inl (0, 200, .inl (va_up sk s.length 1))), (b 1, .inl (1, 111, .inr (.inl r)))]) hC s.length (xix_n s.length (by simp only [List.length_cons] at hc hst; omega) (Nat.le_of_ble_eq_true rfl)) (fun _ h => h.get 2 rfl) dX6_holds_100 (fun _ h => h.set 2 _ rfl) 101 rfl ?_
          generalize hu9 : va_up sk s.length 1 = u9
          refine r_goto hC 154 dX6_holds_101 (by decide) ?_
          refine r_iinc hC (nI (c + 1)) 3 2 [(3, .int (nI (c + 1))), (2, .int (nI (s.length + 1))), (4, .int 22), (0, .ref (b 0)), (1, .int (nI ia))] dX6_holds_154 rfl (nI_add c 1) (Nat.le_of_ble_eq_true rfl) rfl 157 rfl ?_
          refine r_goto hC 4 dX6_holds_157 (by decide) ?_
          subst hu9
          refine rn.sub (lv' := [(3, .int (nI (c + 1))), (2, .int (nI (s.length + 1))), (0, .ref (b 0)), (1, .int (nI ia))]) [0, 1, 3, 4] rfl ?_
          exact ih (c + 1) (1 :: s) (va_up sk s.length 1) hr2 (by simp only [List.length_cons] at hc; omega) (by simp only [List.length_cons] at hst ⊢; omega) ⟨up_same _ _ _, stR_up hs.2.2 (Nat.le_refl _)⟩ (by rw [hk8] at hev2; exact hev2)
        · skip
          refine r_invSr hC [.int 22, .int a, .int b9] (.int 0) mSX6_joined q3358 (xRm_v (metX6_joined22 _ _ hG a b9) (show _ = some (Value.int 0) by rw [hk8]; rfl)) (fun _ _ => xIn.nil) ⟨rfl, rfl⟩ 0 0 rfl rfl (Nat.le_of_ble_eq_true rfl) (Nat.le_of_ble_eq_true rfl) rfl (Nat.le_of_ble_eq_true rfl) dX6_holds_89 92 rfl ?_
          refine r_ifeq hC 99 dX6_holds_92 (by decide) 95 rfl (fun _ => ?_) (fun h => absurd h (by decide))
          refine r_iconst hC 0 dX6_holds_99 ic_0 100 rfl ?_
          refine r_iast (J := xSt F V0 [(b 0, .inr (5, mF b i j)), (b 33, .inl (0, 200, .inl co)), (b 35, .inl (0, 200, .inl (va_up sk s.length 0))), (b 1, .inl (1, 111, .inr (.inl r)))]) hC s.length (xix_n s.length (by simp only [List.length_cons] at hc hst; omega) (Nat.le_of_ble_eq_true rfl)) (fun _ h => h.get 2 rfl) dX6_holds_100 (fun _ h => h.set 2 _ rfl) 101 rfl ?_
          generalize hu10 : va_up sk s.length 0 = u10
          refine r_goto hC 154 dX6_holds_101 (by decide) ?_
          refine r_iinc hC (nI (c + 1)) 3 2 [(3, .int (nI (c + 1))), (2, .int (nI (s.length + 1))), (4, .int 22), (0, .ref (b 0)), (1, .int (nI ia))] dX6_holds_154 rfl (nI_add c 1) (Nat.le_of_ble_eq_true rfl) rfl 157 rfl ?_
          refine r_goto hC 4 dX6_holds_157 (by decide) ?_
          subst hu10
          refine rn.sub (lv' := [(3, .int (nI (c + 1))), (2, .int (nI (s.length + 1))), (0, .ref (b 0)), (1, .int (nI ia))]) [0, 1, 3, 4] rfl ?_
          exact ih (c + 1) (0 :: s) (va_up sk s.length 0) hr2 (by simp only [List.length_cons] at hc; omega) (by simp only [List.length_cons] at hst ⊢; omega) ⟨up_same _ _ _, stR_up hs.2.2 (Nat.le_refl _)⟩ (by rw [hk8] at hev2; exact hev2)
      · skip
        show rn CC (xSt F V0 [(b 0, .inr (5, mF b i j)), (b 33, .inl (0, 200, .inl co)), (b 35, .inl (0, 200, .inl sk)), (b 1, .inl (1, 111, .inr (.inl r)))]) 0 0 17 [(3, .int (nI c)), (2, .int (nI (s.length + 1 + 1))), (0, .ref (b 0)), (1, .int (nI ia))] [.int (nI c), .ref (b 33)]
        refine r_iald hC c (xix_n c (by simp only [List.length_cons] at hc; omega) (Nat.le_of_ble_eq_true rfl)) (fun _ h => h.get 1 rfl) (co c) (rfl) dX6_holds_17 18 rfl ?_
        refine r_eqi (y := 24) (hv) ?_
        refine r_istore hC 4 [(4, .int 24), (3, .int (nI c)), (2, .int (nI (s.length + 1 + 1))), (0, .ref (b 0)), (1, .int (nI ia))] dX6_holds_18 (Nat.le_of_ble_eq_true rfl) rfl 20 rfl ?_
        refine r_iload hC 0 dX6_holds_20 rfl 22 rfl ?_
        refine r_bipush hC 23 dX6_holds_22 bp_23 24 rfl ?_
        refine r_icne hC 48 dX6_holds_24 (by decide) 27 rfl (fun _ => ?_) (fun h => absurd h (by decide))
        refine r_iload hC 0 dX6_holds_48 rfl 50 rfl ?_
        refine r_i2l hC 24 dX6_holds_50 (by decide) 51 rfl ?_
        refine r_ldc2 hC q3236 dX6_holds_51 54 rfl ?_
        refine r_ldc2 hC q3357 dX6_holds_54 57 rfl ?_
        refine r_invSr hC [.long 24, .long 20, .long 25] (.int 1) mSX6_in q2891 (metX6_inB _ _ hG 24 20 25 1 (by decide)) (fun _ _ => xIn.nil) ⟨rfl, rfl⟩ 0 0 rfl rfl (Nat.le_of_ble_eq_true rfl) (Nat.le_of_ble_eq_true rfl) rfl (Nat.le_of_ble_eq_true rfl) dX6_holds_57 60 rfl ?_
        refine r_ifeq hC 104 dX6_holds_60 (by decide) 63 rfl (fun h => absurd h (by decide)) (fun _ => ?_)
        refine r_iinc hC (nI (s.length + 1)) 2 2 [(2, .int (nI (s.length + 1))), (4, .int 24), (3, .int (nI c)), (0, .ref (b 0)), (1, .int (nI ia))] dX6_holds_63 rfl (pk_m1 _) (Nat.le_of_ble_eq_true rfl) rfl 66 rfl ?_
        refine r_aload_n hC 3 dX6_holds_66 rfl 67 rfl ?_
        refine r_get (v := .ref (b 35)) hC kX6 35 rfl q2788 (fun _ h => h.get 0 rfl) rfl dX6_holds_67 70 rfl ?_
        refine r_iload_n hC 0 dX6_holds_70 rfl 71 rfl ?_
        refine r_iconst hC 1 dX6_holds_71 ic_1 72 rfl ?_
        refine r_isub hC (nI s.length) dX6_holds_72  (pk_sub (a := s.length + 1) (b := 1) (by omega)) 73 rfl ?_
        refine r_iload hC 1 dX6_holds_73 rfl 75 rfl ?_
        refine r_aload_n hC 3 dX6_holds_75 rfl 76 rfl ?_
        refine r_get (v := .ref (b 35)) hC kX6 35 rfl q2788 (fun _ h => h.get 0 rfl) rfl dX6_holds_76 79 rfl ?_
        refine r_iload_n hC 0 dX6_holds_79 rfl 80 rfl ?_
        refine r_iconst hC 1 dX6_holds_80 ic_1 81 rfl ?_
        refine r_isub hC (nI s.length) dX6_holds_81  (pk_sub (a := s.length + 1) (b := 1) (by omega)) 82 rfl ?_
        refine r_iald hC s.length (xix_n s.length (by simp only [List.length_cons] at hc hst; omega) (Nat.le_of_ble_eq_true rfl)) (fun _ h => h.get 2 rfl) (sk s.length) (rfl) dX6_holds_82 83 rfl ?_
        refine r_eqi (y := a) (hs.2.1) ?_
        refine r_aload_n hC 3 dX6_holds_83 rfl 84 rfl ?_
        refine r_get (v := .ref (b 35)) hC kX6 35 rfl q2788 (fun _ h => h.get 0 rfl) rfl dX6_holds_84 87 rfl ?_
        refine r_iload_n hC 0 dX6_holds_87 rfl 88 rfl ?_
        refine r_iald hC (s.length + 1) (xix_n (s.length + 1) (by simp only [List.length_cons] at hc hst; omega) (Nat.le_of_ble_eq_true rfl)) (fun _ h => h.get 2 rfl) (sk (s.length + 1)) (rfl) dX6_holds_88 89 rfl ?_
        refine r_eqi (y := b9) (hs.1) ?_
        rcases Bool.eq_false_or_eq_true (joinQ 24 a b9) with hk11 | hk11
        · skip
          refine r_invSr hC [.int 24, .int a, .int b9] (.int 1) mSX6_joined q3358 (xRm_v (metX6_joined24 _ _ hG a b9) (show _ = some (Value.int 1) by rw [hk11]; rfl)) (fun _ _ => xIn.nil) ⟨rfl, rfl⟩ 0 0 rfl rfl (Nat.le_of_ble_eq_true rfl) (Nat.le_of_ble_eq_true rfl) rfl (Nat.le_of_ble_eq_true rfl) dX6_holds_89 92 rfl ?_
          refine r_ifeq hC 99 dX6_holds_92 (by decide) 95 rfl (fun h => absurd h (by decide)) (fun _ => ?_)
          refine r_iconst hC 1 dX6_holds_95 ic_1 96 rfl ?_
          refine r_goto hC 100 dX6_holds_96 (by decide) ?_
          refine r_iast (J := xSt F V0 [(b 0, .inr (5, mF b i j)), (b 33, .inl (0, 200, .inl co)), (b 35, .inl (0, 200, .inl (va_up sk s.length 1))), (b 1, .inl (1, 111, .inr (.inl r)))]) hC s.length (xix_n s.length (by simp only [List.length_cons] at hc hst; omega) (Nat.le_of_ble_eq_true rfl)) (fun _ h => h.get 2 rfl) dX6_holds_100 (fun _ h => h.set 2 _ rfl) 101 rfl ?_
          generalize hu12 : va_up sk s.length 1 = u12
          refine r_goto hC 154 dX6_holds_101 (by decide) ?_
          refine r_iinc hC (nI (c + 1)) 3 2 [(3, .int (nI (c + 1))), (2, .int (nI (s.length + 1))), (4, .int 24), (0, .ref (b 0)), (1, .int (nI ia))] dX6_holds_154 rfl (nI_add c 1) (Nat.le_of_ble_eq_true rfl) rfl 157 rfl ?_
          refine r_goto hC 4 dX6_holds_157 (by decide) ?_
          subst hu12
          refine rn.sub (lv' := [(3, .int (nI (c + 1))), (2, .int (nI (s.length + 1))), (0, .ref (b 0)), (1, .int (nI ia))]) [0, 1, 3, 4] rfl ?_
          exact ih (c + 1) (1 :: s) (va_up sk s.length 1) hr2 (by simp only [List.length_cons] at hc; omega) (by simp only [List.length_cons] at hst ⊢; omega) ⟨up_same _ _ _, stR_up hs.2.2 (Nat.le_refl _)⟩ (by rw [hk11] at hev2; exact hev2)
        · skip
          refine r_invSr hC [.int 24, .int a, .int b9] (.int 0) mSX6_joined q3358 (xRm_v (metX6_joined24 _ _ hG a b9) (show _ = some (Value.int 0) by rw [hk11]; rfl)) (fun _ _ => xIn.nil) ⟨rfl, rfl⟩ 0 0 rfl rfl (Nat.le_of_ble_eq_true rfl) (Nat.le_of_ble_eq_true rfl) rfl (Nat.le_of_ble_eq_true rfl) dX6_holds_89 92 rfl ?_
          refine r_ifeq hC 99 dX6_holds_92 (by decide) 95 rfl (fun _ => ?_) (fun h => absurd h (by decide))
          refine r_iconst hC 0 dX6_holds_99 ic_0 100 rfl ?_
          refine r_iast (J := xSt F V0 [(b 0, .inr (5, mF b i j)), (b 33, .inl (0, 200, .inl co)), (b 35, .inl (0, 200, .inl (va_up sk s.length 0))), (b 1, .inl (1, 111, .inr (.inl r)))]) hC s.length (xix_n s.length (by simp only [List.length_cons] at hc hst; omega) (Nat.le_of_ble_eq_true rfl)) (fun _ h => h.get 2 rfl) dX6_holds_100 (fun _ h => h.set 2 _ rfl) 101 rfl ?_
          generalize hu13 : va_up sk s.length 0 = u13
          refine r_goto hC 154 dX6_holds_101 (by decide) ?_
          refine r_iinc hC (nI (c + 1)) 3 2 [(3, .int (nI (c + 1))), (2, .int (nI (s.length + 1))), (4, .int 24), (0, .ref (b 0)), (1, .int (nI ia))] dX6_holds_154 rfl (nI_add c 1) (Nat.le_of_ble_eq_true rfl) rfl 157 rfl ?_
          refine r_goto hC 4 dX6_holds_157 (by decide) ?_
          subst hu13
          refine rn.sub (lv' := [(3, .int (nI (c + 1))), (2, .int (nI (s.length + 1))), (0, .ref (b 0)), (1, .int (nI ia))]) [0, 1, 3, 4] rfl ?_
          exact ih (c + 1) (0 :: s) (va_up sk s.length 0) hr2 (by simp only [List.length_cons] at hc; omega) (by simp only [List.length_cons] at hst ⊢; omega) ⟨up_same _ _ _, stR_up hs.2.2 (Nat.le_refl _)⟩ (by rw [hk11] at hev2; exact hev2)
      · skip
        show rn CC (xSt F V0 [(b 0, .inr (5, mF b i j)), (b 33, .inl (0, 200, .inl co)), (b 35, .inl (0, 200, .inl sk)), (b 1, .inl (1, 111, .inr (.inl r)))]) 0 0 17 [(3, .int (nI c)), (2, .int (nI (s.length + 1 + 1))), (0, .ref (b 0)), (1, .int (nI ia))] [.int (nI c), .ref (b 33)]
        refine r_iald hC c (xix_n c (by simp only [List.length_cons] at hc; omega) (Nat.le_of_ble_eq_true rfl)) (fun _ h => h.get 1 rfl) (co c) (rfl) dX6_holds_17 18 rfl ?_
        refine r_eqi (y := 25) (hv) ?_
        refine r_istore hC 4 [(4, .int 25), (3, .int (nI c)), (2, .int (nI (s.length + 1 + 1))), (0, .ref (b 0)), (1, .int (nI ia))] dX6_holds_18 (Nat.le_of_ble_eq_true rfl) rfl 20 rfl ?_
        refine r_iload hC 0 dX6_holds_20 rfl 22 rfl ?_
        refine r_bipush hC 23 dX6_holds_22 bp_23 24 rfl ?_
        refine r_icne hC 48 dX6_holds_24 (by decide) 27 rfl (fun _ => ?_) (fun h => absurd h (by decide))
        refine r_iload hC 0 dX6_holds_48 rfl 50 rfl ?_
        refine r_i2l hC 25 dX6_holds_50 (by decide) 51 rfl ?_
        refine r_ldc2 hC q3236 dX6_holds_51 54 rfl ?_
        refine r_ldc2 hC q3357 dX6_holds_54 57 rfl ?_
        refine r_invSr hC [.long 25, .long 20, .long 25] (.int 1) mSX6_in q2891 (metX6_inB _ _ hG 25 20 25 1 (by decide)) (fun _ _ => xIn.nil) ⟨rfl, rfl⟩ 0 0 rfl rfl (Nat.le_of_ble_eq_true rfl) (Nat.le_of_ble_eq_true rfl) rfl (Nat.le_of_ble_eq_true rfl) dX6_holds_57 60 rfl ?_
        refine r_ifeq hC 104 dX6_holds_60 (by decide) 63 rfl (fun h => absurd h (by decide)) (fun _ => ?_)
        refine r_iinc hC (nI (s.length + 1)) 2 2 [(2, .int (nI (s.length + 1))), (4, .int 25), (3, .int (nI c)), (0, .ref (b 0)), (1, .int (nI ia))] dX6_holds_63 rfl (pk_m1 _) (Nat.le_of_ble_eq_true rfl) rfl 66 rfl ?_
        refine r_aload_n hC 3 dX6_holds_66 rfl 67 rfl ?_
        refine r_get (v := .ref (b 35)) hC kX6 35 rfl q2788 (fun _ h => h.get 0 rfl) rfl dX6_holds_67 70 rfl ?_
        refine r_iload_n hC 0 dX6_holds_70 rfl 71 rfl ?_
        refine r_iconst hC 1 dX6_holds_71 ic_1 72 rfl ?_
        refine r_isub hC (nI s.length) dX6_holds_72  (pk_sub (a := s.length + 1) (b := 1) (by omega)) 73 rfl ?_
        refine r_iload hC 1 dX6_holds_73 rfl 75 rfl ?_
        refine r_aload_n hC 3 dX6_holds_75 rfl 76 rfl ?_
        refine r_get (v := .ref (b 35)) hC kX6 35 rfl q2788 (fun _ h => h.get 0 rfl) rfl dX6_holds_76 79 rfl ?_
        refine r_iload_n hC 0 dX6_holds_79 rfl 80 rfl ?_
        refine r_iconst hC 1 dX6_holds_80 ic_1 81 rfl ?_
        refine r_isub hC (nI s.length) dX6_holds_81  (pk_sub (a := s.length + 1) (b := 1) (by omega)) 82 rfl ?_
        refine r_iald hC s.length (xix_n s.length (by simp only [List.length_cons] at hc hst; omega) (Nat.le_of_ble_eq_true rfl)) (fun _ h => h.get 2 rfl) (sk s.length) (rfl) dX6_holds_82 83 rfl ?_
        refine r_eqi (y := a) (hs.2.1) ?_
        refine r_aload_n hC 3 dX6_holds_83 rfl 84 rfl ?_
        refine r_get (v := .ref (b 35)) hC kX6 35 rfl q2788 (fun _ h => h.get 0 rfl) rfl dX6_holds_84 87 rfl ?_
        refine r_iload_n hC 0 dX6_holds_87 rfl 88 rfl ?_
        refine r_iald hC (s.length + 1) (xix_n (s.length + 1) (by simp only [List.length_cons] at hc hst; omega) (Nat.le_of_ble_eq_true rfl)) (fun _ h => h.get 2 rfl) (sk (s.length + 1)) (rfl) dX6_holds_88 89 rfl ?_
        refine r_eqi (y := b9) (hs.1) ?_
        rcases Bool.eq_false_or_eq_true (joinQ 25 a b9) with hk14 | hk14
        · skip
          refine r_invSr hC [.int 25, .int a, .int b9] (.int 1) mSX6_joined q3358 (xRm_v (metX6_joined25 _ _ hG a b9) (show _ = some (Value.int 1) by rw [hk14]; rfl)) (fun _ _ => xIn.nil) ⟨rfl, rfl⟩ 0 0 rfl rfl (Nat.le_of_ble_eq_true rfl) (Nat.le_of_ble_eq_true rfl) rfl (Nat.le_of_ble_eq_true rfl) dX6_holds_89 92 rfl ?_
          refine r_ifeq hC 99 dX6_holds_92 (by decide) 95 rfl (fun h => absurd h (by decide)) (fun _ => ?_)
          refine r_iconst hC 1 dX6_holds_95 ic_1 96 rfl ?_
          refine r_goto hC 100 dX6_holds_96 (by decide) ?_
          refine r_iast (J := xSt F V0 [(b 0, .inr (5, mF b i j)), (b 33, .inl (0, 200, .inl co)), (b 35, .inl (0, 200, .inl (va_up sk s.length 1))), (b 1, .inl (1, 111, .inr (.inl r)))]) hC s.length (xix_n s.length (by simp only [List.length_cons] at hc hst; omega) (Nat.le_of_ble_eq_true rfl)) (fun _ h => h.get 2 rfl) dX6_holds_100 (fun _ h => h.set 2 _ rfl) 101 rfl ?_
          generalize hu15 : va_up sk s.length 1 = u15
          refine r_goto hC 154 dX6_holds_101 (by decide) ?_
          refine r_iinc hC (nI (c + 1)) 3 2 [(3, .int (nI (c + 1))), (2, .int (nI (s.length + 1))), (4, .int 25), (0, .ref (b 0)), (1, .int (nI ia))] dX6_holds_154 rfl (nI_add c 1) (Nat.le_of_ble_eq_true rfl) rfl 157 rfl ?_
          refine r_goto hC 4 dX6_holds_157 (by decide) ?_
          subst hu15
          refine rn.sub (lv' := [(3, .int (nI (c + 1))), (2, .int (nI (s.length + 1))), (0, .ref (b 0)), (1, .int (nI ia))]) [0, 1, 3, 4] rfl ?_
          exact ih (c + 1) (1 :: s) (va_up sk s.length 1) hr2 (by simp only [List.length_cons] at hc; omega) (by simp only [List.length_cons] at hst ⊢; omega) ⟨up_same _ _ _, stR_up hs.2.2 (Nat.le_refl _)⟩ (by rw [hk14] at hev2; exact hev2)
        · skip
          refine r_invSr hC [.int 25, .int a, .int b9] (.int 0) mSX6_joined q3358 (xRm_v (metX6_joined25 _ _ hG a b9) (show _ = some (Value.int 0) by rw [hk14]; rfl)) (fun _ _ => xIn.nil) ⟨rfl, rfl⟩ 0 0 rfl rfl (Nat.le_of_ble_eq_true rfl) (Nat.le_of_ble_eq_true rfl) rfl (Nat.le_of_ble_eq_true rfl) dX6_holds_89 92 rfl ?_
          refine r_ifeq hC 99 dX6_holds_92 (by decide) 95 rfl (fun _ => ?_) (fun h => absurd h (by decide))
          refine r_iconst hC 0 dX6_holds_99 ic_0 100 rfl ?_
          refine r_iast (J := xSt F V0 [(b 0, .inr (5, mF b i j)), (b 33, .inl (0, 200, .inl co)), (b 35, .inl (0, 200, .inl (va_up sk s.length 0))), (b 1, .inl (1, 111, .inr (.inl r)))]) hC s.length (xix_n s.length (by simp only [List.length_cons] at hc hst; omega) (Nat.le_of_ble_eq_true rfl)) (fun _ h => h.get 2 rfl) dX6_holds_100 (fun _ h => h.set 2 _ rfl) 101 rfl ?_
          generalize hu16 : va_up sk s.length 0 = u16
          refine r_goto hC 154 dX6_holds_101 (by decide) ?_
          refine r_iinc hC (nI (c + 1)) 3 2 [(3, .int (nI (c + 1))), (2, .int (nI (s.length + 1))), (4, .int 25), (0, .ref (b 0)), (1, .int (nI ia))] dX6_holds_154 rfl (nI_add c 1) (Nat.le_of_ble_eq_true rfl) rfl 157 rfl ?_
          refine r_goto hC 4 dX6_holds_157 (by decide) ?_
          subst hu16
          refine rn.sub (lv' := [(3, .int (nI (c + 1))), (2, .int (nI (s.length + 1))), (0, .ref (b 0)), (1, .int (nI ia))]) [0, 1, 3, 4] rfl ?_
          exact ih (c + 1) (0 :: s) (va_up sk s.length 0) hr2 (by simp only [List.length_cons] at hc; omega) (by simp only [List.length_cons] at hst ⊢; omega) ⟨up_same _ _ _, stR_up hs.2.2 (Nat.le_refl _)⟩ (by rw [hk14] at hev2; exact hev2)
    · skip
      show rn CC (xSt F V0 [(b 0, .inr (5, mF b i j)), (b 33, .inl (0, 200, .inl co)), (b 35, .inl (0, 200, .inl sk)), (b 1, .inl (1, 111, .inr (.inl r)))]) 0 0 17 [(3, .int (nI c)), (2, .int (nI st.length)), (0, .ref (b 0)), (1, .int (nI ia))] [.int (nI c), .ref (b 33)]
      refine r_iald hC c (xix_n c (by simp only [List.length_cons] at hc; omega) (Nat.le_of_ble_eq_true rfl)) (fun _ h => h.get 1 rfl) (co c) (rfl) dX6_holds_17 18 rfl ?_
      refine r_eqi (y := v) (hv) ?_
      refine r_istore hC 4 [(4, .int v), (3, .int (nI c)), (2, .int (nI st.length)), (0, .ref (b 0)), (1, .int (nI ia))] dX6_holds_18 (Nat.le_of_ble_eq_true rfl) rfl 20 rfl ?_
      refine r_iload hC 0 dX6_holds_20 rfl 22 rfl ?_
      refine r_bipush hC 23 dX6_holds_22 bp_23 24 rfl ?_
      refine r_icne hC 48 dX6_holds_24 (by decide) 27 rfl (fun _ => ?_) (fun h => absurd h ((i100 hv1).1))
      refine r_iload hC 0 dX6_holds_48 rfl 50 rfl ?_
      refine r_i2l hC v.toInt64 dX6_holds_50 (rfl) 51 rfl ?_
      refine r_ldc2 hC q3236 dX6_holds_51 54 rfl ?_
      refine r_ldc2 hC q3357 dX6_holds_54 57 rfl ?_
      refine r_invSr hC [.long v.toInt64, .long 20, .long 25] (.int 0) mSX6_in q2891 (metX6_inB _ _ hG v.toInt64 20 25 0 ((i100 hv1).2.2)) (fun _ _ => xIn.nil) ⟨rfl, rfl⟩ 0 0 rfl rfl (Nat.le_of_ble_eq_true rfl) (Nat.le_of_ble_eq_true rfl) rfl (Nat.le_of_ble_eq_true rfl) dX6_holds_57 60 rfl ?_
      refine r_ifeq hC 104 dX6_holds_60 (by decide) 63 rfl (fun _ => ?_) (fun h => absurd h (by decide))
      refine r_aload_n hC 3 dX6_holds_104 rfl 105 rfl ?_
      refine r_get (v := .ref (b 35)) hC kX6 35 rfl q2788 (fun _ h => h.get 0 rfl) rfl dX6_holds_105 108 rfl ?_
      refine r_iload_n hC 2 dX6_holds_108 rfl 109 rfl ?_
      refine r_iload hC 0 dX6_holds_109 rfl 111 rfl ?_
      refine r_bipush hC 100 dX6_holds_111 bp_100 113 rfl ?_
      refine r_iclt hC 124 dX6_holds_113 (by decide) 116 rfl (fun h => absurd h ((i100 hv1).2.1)) (fun _ => ?_)
      refine r_iload hC 0 dX6_holds_116 rfl 118 rfl ?_
      refine r_bipush hC 100 dX6_holds_118 bp_100 120 rfl ?_
      refine r_isub hC (v - 100) dX6_holds_120  (rfl) 121 rfl ?_
      refine r_goto hC 150 dX6_holds_121 (by decide) ?_
      refine r_iast (J := xSt F V0 [(b 0, .inr (5, mF b i j)), (b 33, .inl (0, 200, .inl co)), (b 35, .inl (0, 200, .inl (va_up sk st.length (v - 100)))), (b 1, .inl (1, 111, .inr (.inl r)))]) hC st.length (xix_n st.length (by simp only [List.length_cons] at hc hst; omega) (Nat.le_of_ble_eq_true rfl)) (fun _ h => h.get 2 rfl) dX6_holds_150 (fun _ h => h.set 2 _ rfl) 151 rfl ?_
      generalize hu17 : va_up sk st.length (v - 100) = u17
      refine r_iinc hC (nI (st.length + 1)) 2 2 [(2, .int (nI (st.length + 1))), (4, .int v), (3, .int (nI c)), (0, .ref (b 0)), (1, .int (nI ia))] dX6_holds_151 rfl (nI_add st.length 1) (Nat.le_of_ble_eq_true rfl) rfl 154 rfl ?_
      refine r_iinc hC (nI (c + 1)) 3 2 [(3, .int (nI (c + 1))), (2, .int (nI (st.length + 1))), (4, .int v), (0, .ref (b 0)), (1, .int (nI ia))] dX6_holds_154 rfl (nI_add c 1) (Nat.le_of_ble_eq_true rfl) rfl 157 rfl ?_
      refine r_goto hC 4 dX6_holds_157 (by decide) ?_
      subst hu17
      refine rn.sub (lv' := [(3, .int (nI (c + 1))), (2, .int (nI (st.length + 1))), (0, .ref (b 0)), (1, .int (nI ia))]) [0, 1, 3, 4] rfl ?_
      exact ih (c + 1) ((v - 100) :: st) (va_up sk st.length (v - 100)) hr2 (by simp only [List.length_cons] at hc; omega) (by simp only [List.length_cons] at hst ⊢; omega) (stR_push hs) hev2
    · skip
      show rn CC (xSt F V0 [(b 0, .inr (5, mF b i j)), (b 33, .inl (0, 200, .inl co)), (b 35, .inl (0, 200, .inl sk)), (b 1, .inl (1, 111, .inr (.inl r)))]) 0 0 17 [(3, .int (nI c)), (2, .int (nI st.length)), (0, .ref (b 0)), (1, .int (nI ia))] [.int (nI c), .ref (b 33)]
      refine r_iald hC c (xix_n c (by simp only [List.length_cons] at hc; omega) (Nat.le_of_ble_eq_true rfl)) (fun _ h => h.get 1 rfl) (co c) (rfl) dX6_holds_17 18 rfl ?_
      refine r_eqi (y := 0) (hv) ?_
      refine r_istore hC 4 [(4, .int 0), (3, .int (nI c)), (2, .int (nI st.length)), (0, .ref (b 0)), (1, .int (nI ia))] dX6_holds_18 (Nat.le_of_ble_eq_true rfl) rfl 20 rfl ?_
      refine r_iload hC 0 dX6_holds_20 rfl 22 rfl ?_
      refine r_bipush hC 23 dX6_holds_22 bp_23 24 rfl ?_
      refine r_icne hC 48 dX6_holds_24 (by decide) 27 rfl (fun _ => ?_) (fun h => absurd h (by decide))
      refine r_iload hC 0 dX6_holds_48 rfl 50 rfl ?_
      refine r_i2l hC 0 dX6_holds_50 (by decide) 51 rfl ?_
      refine r_ldc2 hC q3236 dX6_holds_51 54 rfl ?_
      refine r_ldc2 hC q3357 dX6_holds_54 57 rfl ?_
      refine r_invSr hC [.long 0, .long 20, .long 25] (.int 0) mSX6_in q2891 (metX6_inB _ _ hG 0 20 25 0 (by decide)) (fun _ _ => xIn.nil) ⟨rfl, rfl⟩ 0 0 rfl rfl (Nat.le_of_ble_eq_true rfl) (Nat.le_of_ble_eq_true rfl) rfl (Nat.le_of_ble_eq_true rfl) dX6_holds_57 60 rfl ?_
      refine r_ifeq hC 104 dX6_holds_60 (by decide) 63 rfl (fun _ => ?_) (fun h => absurd h (by decide))
      refine r_aload_n hC 3 dX6_holds_104 rfl 105 rfl ?_
      refine r_get (v := .ref (b 35)) hC kX6 35 rfl q2788 (fun _ h => h.get 0 rfl) rfl dX6_holds_105 108 rfl ?_
      refine r_iload_n hC 2 dX6_holds_108 rfl 109 rfl ?_
      refine r_iload hC 0 dX6_holds_109 rfl 111 rfl ?_
      refine r_bipush hC 100 dX6_holds_111 bp_100 113 rfl ?_
      refine r_iclt hC 124 dX6_holds_113 (by decide) 116 rfl (fun _ => ?_) (fun h => absurd h (by decide))
      refine r_iload hC 0 dX6_holds_124 rfl 126 rfl ?_
      refine r_ifne hC 133 dX6_holds_126 (by decide) 129 rfl (fun h => absurd h (by decide)) (fun _ => ?_)
      refine r_iload_n hC 4 dX6_holds_129 rfl 130 rfl ?_
      refine r_goto hC 150 dX6_holds_130 (by decide) ?_
      refine r_iast (J := xSt F V0 [(b 0, .inr (5, mF b i j)), (b 33, .inl (0, 200, .inl co)), (b 35, .inl (0, 200, .inl (va_up sk st.length (nI ia)))), (b 1, .inl (1, 111, .inr (.inl r)))]) hC st.length (xix_n st.length (by simp only [List.length_cons] at hc hst; omega) (Nat.le_of_ble_eq_true rfl)) (fun _ h => h.get 2 rfl) dX6_holds_150 (fun _ h => h.set 2 _ rfl) 151 rfl ?_
      generalize hu18 : va_up sk st.length (nI ia) = u18
      refine r_iinc hC (nI (st.length + 1)) 2 2 [(2, .int (nI (st.length + 1))), (4, .int 0), (3, .int (nI c)), (0, .ref (b 0)), (1, .int (nI ia))] dX6_holds_151 rfl (nI_add st.length 1) (Nat.le_of_ble_eq_true rfl) rfl 154 rfl ?_
      refine r_iinc hC (nI (c + 1)) 3 2 [(3, .int (nI (c + 1))), (2, .int (nI (st.length + 1))), (4, .int 0), (0, .ref (b 0)), (1, .int (nI ia))] dX6_holds_154 rfl (nI_add c 1) (Nat.le_of_ble_eq_true rfl) rfl 157 rfl ?_
      refine r_goto hC 4 dX6_holds_157 (by decide) ?_
      subst hu18
      refine rn.sub (lv' := [(3, .int (nI (c + 1))), (2, .int (nI (st.length + 1))), (0, .ref (b 0)), (1, .int (nI ia))]) [0, 1, 3, 4] rfl ?_
      exact ih (c + 1) ((nI ia) :: st) (va_up sk st.length (nI ia)) hr2 (by simp only [List.length_cons] at hc; omega) (by simp only [List.length_cons] at hst ⊢; omega) (stR_push hs) hev2
    · skip
      show rn CC (xSt F V0 [(b 0, .inr (5, mF b i j)), (b 33, .inl (0, 200, .inl co)), (b 35, .inl (0, 200, .inl sk)), (b 1, .inl (1, 111, .inr (.inl r)))]) 0 0 17 [(3, .int (nI c)), (2, .int (nI st.length)), (0, .ref (b 0)), (1, .int (nI ia))] [.int (nI c), .ref (b 33)]
      refine r_iald hC c (xix_n c (by simp only [List.length_cons] at hc; omega) (Nat.le_of_ble_eq_true rfl)) (fun _ h => h.get 1 rfl) (co c) (rfl) dX6_holds_17 18 rfl ?_
      refine r_eqi (y := 1) (hv) ?_
      refine r_istore hC 4 [(4, .int 1), (3, .int (nI c)), (2, .int (nI st.length)), (0, .ref (b 0)), (1, .int (nI ia))] dX6_holds_18 (Nat.le_of_ble_eq_true rfl) rfl 20 rfl ?_
      refine r_iload hC 0 dX6_holds_20 rfl 22 rfl ?_
      refine r_bipush hC 23 dX6_holds_22 bp_23 24 rfl ?_
      refine r_icne hC 48 dX6_holds_24 (by decide) 27 rfl (fun _ => ?_) (fun h => absurd h (by decide))
      refine r_iload hC 0 dX6_holds_48 rfl 50 rfl ?_
      refine r_i2l hC 1 dX6_holds_50 (by decide) 51 rfl ?_
      refine r_ldc2 hC q3236 dX6_holds_51 54 rfl ?_
      refine r_ldc2 hC q3357 dX6_holds_54 57 rfl ?_
      refine r_invSr hC [.long 1, .long 20, .long 25] (.int 0) mSX6_in q2891 (metX6_inB _ _ hG 1 20 25 0 (by decide)) (fun _ _ => xIn.nil) ⟨rfl, rfl⟩ 0 0 rfl rfl (Nat.le_of_ble_eq_true rfl) (Nat.le_of_ble_eq_true rfl) rfl (Nat.le_of_ble_eq_true rfl) dX6_holds_57 60 rfl ?_
      refine r_ifeq hC 104 dX6_holds_60 (by decide) 63 rfl (fun _ => ?_) (fun h => absurd h (by decide))
      refine r_aload_n hC 3 dX6_holds_104 rfl 105 rfl ?_
      refine r_get (v := .ref (b 35)) hC kX6 35 rfl q2788 (fun _ h => h.get 0 rfl) rfl dX6_holds_105 108 rfl ?_
      refine r_iload_n hC 2 dX6_holds_108 rfl 109 rfl ?_
      refine r_iload hC 0 dX6_holds_109 rfl 111 rfl ?_
      refine r_bipush hC 100 dX6_holds_111 bp_100 113 rfl ?_
      refine r_iclt hC 124 dX6_holds_113 (by decide) 116 rfl (fun _ => ?_) (fun h => absurd h (by decide))
      refine r_iload hC 0 dX6_holds_124 rfl 126 rfl ?_
      refine r_ifne hC 133 dX6_holds_126 (by decide) 129 rfl (fun _ => ?_) (fun h => absurd h (by decide))
      refine r_aload_n hC 3 dX6_holds_133 rfl 134 rfl ?_
      refine r_get (v := .ref (b 1)) hC kX6 1 rfl q2754 (fun _ h => h.get 0 rfl) rfl dX6_holds_134 137 rfl ?_
      refine r_bipush hC 21 dX6_holds_137 bp_21 139 rfl ?_
      refine r_iconst hC 3 dX6_holds_139 ic_3 140 rfl ?_
      refine r_iload_n hC 4 dX6_holds_140 rfl 141 rfl ?_
      refine r_imul hC (nI (3 * ia)) dX6_holds_141  (pk_mul 3 ia) 142 rfl ?_
      refine r_iadd hC (nI (21 + 3 * ia)) dX6_holds_142  (nI_add 21 (3 * ia)) 143 rfl ?_
      refine r_iload hC 0 dX6_holds_143 rfl 145 rfl ?_
      refine r_iadd hC (nI (21 + 3 * ia + 1)) dX6_holds_145  (nI_add (21 + 3 * ia) 1) 146 rfl ?_
      refine r_iconst hC 1 dX6_holds_146 ic_1 147 rfl ?_
      refine r_isub hC (nI (21 + 3 * ia + (1 - 1))) dX6_holds_147  (by rw [show (1 : Int32) = nI 1 from rfl, pk_sub (by omega)]; congr 1) 148 rfl ?_
      refine r_lald hC (21 + 3 * ia + (1 - 1)) (xix_n (21 + 3 * ia + (1 - 1)) (by omega) (Nat.le_of_ble_eq_true rfl)) (fun _ h => h.get 3 rfl) (r (21 + 3 * ia + (1 - 1))) (rfl) dX6_holds_148 149 rfl ?_
      refine r_l2i hC (pvQ r ia 1) dX6_holds_149 (rfl) 150 rfl ?_
      refine r_iast (J := xSt F V0 [(b 0, .inr (5, mF b i j)), (b 33, .inl (0, 200, .inl co)), (b 35, .inl (0, 200, .inl (va_up sk st.length (pvQ r ia 1)))), (b 1, .inl (1, 111, .inr (.inl r)))]) hC st.length (xix_n st.length (by simp only [List.length_cons] at hc hst; omega) (Nat.le_of_ble_eq_true rfl)) (fun _ h => h.get 2 rfl) dX6_holds_150 (fun _ h => h.set 2 _ rfl) 151 rfl ?_
      generalize hu19 : va_up sk st.length (pvQ r ia 1) = u19
      refine r_iinc hC (nI (st.length + 1)) 2 2 [(2, .int (nI (st.length + 1))), (4, .int 1), (3, .int (nI c)), (0, .ref (b 0)), (1, .int (nI ia))] dX6_holds_151 rfl (nI_add st.length 1) (Nat.le_of_ble_eq_true rfl) rfl 154 rfl ?_
      refine r_iinc hC (nI (c + 1)) 3 2 [(3, .int (nI (c + 1))), (2, .int (nI (st.length + 1))), (4, .int 1), (0, .ref (b 0)), (1, .int (nI ia))] dX6_holds_154 rfl (nI_add c 1) (Nat.le_of_ble_eq_true rfl) rfl 157 rfl ?_
      refine r_goto hC 4 dX6_holds_157 (by decide) ?_
      subst hu19
      refine rn.sub (lv' := [(3, .int (nI (c + 1))), (2, .int (nI (st.length + 1))), (0, .ref (b 0)), (1, .int (nI ia))]) [0, 1, 3, 4] rfl ?_
      exact ih (c + 1) ((pvQ r ia 1) :: st) (va_up sk st.length (pvQ r ia 1)) hr2 (by simp only [List.length_cons] at hc; omega) (by simp only [List.length_cons] at hst ⊢; omega) (stR_push hs) hev2
    · skip
      show rn CC (xSt F V0 [(b 0, .inr (5, mF b i j)), (b 33, .inl (0, 200, .inl co)), (b 35, .inl (0, 200, .inl sk)), (b 1, .inl (1, 111, .inr (.inl r)))]) 0 0 17 [(3, .int (nI c)), (2, .int (nI st.length)), (0, .ref (b 0)), (1, .int (nI ia))] [.int (nI c), .ref (b 33)]
      refine r_iald hC c (xix_n c (by simp only [List.length_cons] at hc; omega) (Nat.le_of_ble_eq_true rfl)) (fun _ h => h.get 1 rfl) (co c) (rfl) dX6_holds_17 18 rfl ?_
      refine r_eqi (y := 2) (hv) ?_
      refine r_istore hC 4 [(4, .int 2), (3, .int (nI c)), (2, .int (nI st.length)), (0, .ref (b 0)), (1, .int (nI ia))] dX6_holds_18 (Nat.le_of_ble_eq_true rfl) rfl 20 rfl ?_
      refine r_iload hC 0 dX6_holds_20 rfl 22 rfl ?_
      refine r_bipush hC 23 dX6_holds_22 bp_23 24 rfl ?_
      refine r_icne hC 48 dX6_holds_24 (by decide) 27 rfl (fun _ => ?_) (fun h => absurd h (by decide))
      refine r_iload hC 0 dX6_holds_48 rfl 50 rfl ?_
      refine r_i2l hC 2 dX6_holds_50 (by decide) 51 rfl ?_
      refine r_ldc2 hC q3236 dX6_holds_51 54 rfl ?_
      refine r_ldc2 hC q3357 dX6_holds_54 57 rfl ?_
      refine r_invSr hC [.long 2, .long 20, .long 25] (.int 0) mSX6_in q2891 (metX6_inB _ _ hG 2 20 25 0 (by decide)) (fun _ _ => xIn.nil) ⟨rfl, rfl⟩ 0 0 rfl rfl (Nat.le_of_ble_eq_true rfl) (Nat.le_of_ble_eq_true rfl) rfl (Nat.le_of_ble_eq_true rfl) dX6_holds_57 60 rfl ?_
      refine r_ifeq hC 104 dX6_holds_60 (by decide) 63 rfl (fun _ => ?_) (fun h => absurd h (by decide))
      refine r_aload_n hC 3 dX6_holds_104 rfl 105 rfl ?_
      refine r_get (v := .ref (b 35)) hC kX6 35 rfl q2788 (fun _ h => h.get 0 rfl) rfl dX6_holds_105 108 rfl ?_
      refine r_iload_n hC 2 dX6_holds_108 rfl 109 rfl ?_
      refine r_iload hC 0 dX6_holds_109 rfl 111 rfl ?_
      refine r_bipush hC 100 dX6_holds_111 bp_100 113 rfl ?_
      refine r_iclt hC 124 dX6_holds_113 (by decide) 116 rfl (fun _ => ?_) (fun h => absurd h (by decide))
      refine r_iload hC 0 dX6_holds_124 rfl 126 rfl ?_
      refine r_ifne hC 133 dX6_holds_126 (by decide) 129 rfl (fun _ => ?_) (fun h => absurd h (by decide))
      refine r_aload_n hC 3 dX6_holds_133 rfl 134 rfl ?_
      refine r_get (v := .ref (b 1)) hC kX6 1 rfl q2754 (fun _ h => h.get 0 rfl) rfl dX6_holds_134 137 rfl ?_
      refine r_bipush hC 21 dX6_holds_137 bp_21 139 rfl ?_
      refine r_iconst hC 3 dX6_holds_139 ic_3 140 rfl ?_
      refine r_iload_n hC 4 dX6_holds_140 rfl 141 rfl ?_
      refine r_imul hC (nI (3 * ia)) dX6_holds_141  (pk_mul 3 ia) 142 rfl ?_
      refine r_iadd hC (nI (21 + 3 * ia)) dX6_holds_142  (nI_add 21 (3 * ia)) 143 rfl ?_
      refine r_iload hC 0 dX6_holds_143 rfl 145 rfl ?_
      refine r_iadd hC (nI (21 + 3 * ia + 2)) dX6_holds_145  (nI_add (21 + 3 * ia) 2) 146 rfl ?_
      refine r_iconst hC 1 dX6_holds_146 ic_1 147 rfl ?_
      refine r_isub hC (nI (21 + 3 * ia + (2 - 1))) dX6_holds_147  (by rw [show (1 : Int32) = nI 1 from rfl, pk_sub (by omega)]; congr 1) 148 rfl ?_
      refine r_lald hC (21 + 3 * ia + (2 - 1)) (xix_n (21 + 3 * ia + (2 - 1)) (by omega) (Nat.le_of_ble_eq_true rfl)) (fun _ h => h.get 3 rfl) (r (21 + 3 * ia + (2 - 1))) (rfl) dX6_holds_148 149 rfl ?_
      refine r_l2i hC (pvQ r ia 2) dX6_holds_149 (rfl) 150 rfl ?_
      refine r_iast (J := xSt F V0 [(b 0, .inr (5, mF b i j)), (b 33, .inl (0, 200, .inl co)), (b 35, .inl (0, 200, .inl (va_up sk st.length (pvQ r ia 2)))), (b 1, .inl (1, 111, .inr (.inl r)))]) hC st.length (xix_n st.length (by simp only [List.length_cons] at hc hst; omega) (Nat.le_of_ble_eq_true rfl)) (fun _ h => h.get 2 rfl) dX6_holds_150 (fun _ h => h.set 2 _ rfl) 151 rfl ?_
      generalize hu20 : va_up sk st.length (pvQ r ia 2) = u20
      refine r_iinc hC (nI (st.length + 1)) 2 2 [(2, .int (nI (st.length + 1))), (4, .int 2), (3, .int (nI c)), (0, .ref (b 0)), (1, .int (nI ia))] dX6_holds_151 rfl (nI_add st.length 1) (Nat.le_of_ble_eq_true rfl) rfl 154 rfl ?_
      refine r_iinc hC (nI (c + 1)) 3 2 [(3, .int (nI (c + 1))), (2, .int (nI (st.length + 1))), (4, .int 2), (0, .ref (b 0)), (1, .int (nI ia))] dX6_holds_154 rfl (nI_add c 1) (Nat.le_of_ble_eq_true rfl) rfl 157 rfl ?_
      refine r_goto hC 4 dX6_holds_157 (by decide) ?_
      subst hu20
      refine rn.sub (lv' := [(3, .int (nI (c + 1))), (2, .int (nI (st.length + 1))), (0, .ref (b 0)), (1, .int (nI ia))]) [0, 1, 3, 4] rfl ?_
      exact ih (c + 1) ((pvQ r ia 2) :: st) (va_up sk st.length (pvQ r ia 2)) hr2 (by simp only [List.length_cons] at hc; omega) (by simp only [List.length_cons] at hst ⊢; omega) (stR_push hs) hev2
    · skip
      show rn CC (xSt F V0 [(b 0, .inr (5, mF b i j)), (b 33, .inl (0, 200, .inl co)), (b 35, .inl (0, 200, .inl sk)), (b 1, .inl (1, 111, .inr (.inl r)))]) 0 0 17 [(3, .int (nI c)), (2, .int (nI st.length)), (0, .ref (b 0)), (1, .int (nI ia))] [.int (nI c), .ref (b 33)]
      refine r_iald hC c (xix_n c (by simp only [List.length_cons] at hc; omega) (Nat.le_of_ble_eq_true rfl)) (fun _ h => h.get 1 rfl) (co c) (rfl) dX6_holds_17 18 rfl ?_
      refine r_eqi (y := 3) (hv) ?_
      refine r_istore hC 4 [(4, .int 3), (3, .int (nI c)), (2, .int (nI st.length)), (0, .ref (b 0)), (1, .int (nI ia))] dX6_holds_18 (Nat.le_of_ble_eq_true rfl) rfl 20 rfl ?_
      refine r_iload hC 0 dX6_holds_20 rfl 22 rfl ?_
      refine r_bipush hC 23 dX6_holds_22 bp_23 24 rfl ?_
      refine r_icne hC 48 dX6_holds_24 (by decide) 27 rfl (fun _ => ?_) (fun h => absurd h (by decide))
      refine r_iload hC 0 dX6_holds_48 rfl 50 rfl ?_
      refine r_i2l hC 3 dX6_holds_50 (by decide) 51 rfl ?_
      refine r_ldc2 hC q3236 dX6_holds_51 54 rfl ?_
      refine r_ldc2 hC q3357 dX6_holds_54 57 rfl ?_
      refine r_invSr hC [.long 3, .long 20, .long 25] (.int 0) mSX6_in q2891 (metX6_inB _ _ hG 3 20 25 0 (by decide)) (fun _ _ => xIn.nil) ⟨rfl, rfl⟩ 0 0 rfl rfl (Nat.le_of_ble_eq_true rfl) (Nat.le_of_ble_eq_true rfl) rfl (Nat.le_of_ble_eq_true rfl) dX6_holds_57 60 rfl ?_
      refine r_ifeq hC 104 dX6_holds_60 (by decide) 63 rfl (fun _ => ?_) (fun h => absurd h (by decide))
      refine r_aload_n hC 3 dX6_holds_104 rfl 105 rfl ?_
      refine r_get (v := .ref (b 35)) hC kX6 35 rfl q2788 (fun _ h => h.get 0 rfl) rfl dX6_holds_105 108 rfl ?_
      refine r_iload_n hC 2 dX6_holds_108 rfl 109 rfl ?_
      refine r_iload hC 0 dX6_holds_109 rfl 111 rfl ?_
      refine r_bipush hC 100 dX6_holds_111 bp_100 113 rfl ?_
      refine r_iclt hC 124 dX6_holds_113 (by decide) 116 rfl (fun _ => ?_) (fun h => absurd h (by decide))
      refine r_iload hC 0 dX6_holds_124 rfl 126 rfl ?_
      refine r_ifne hC 133 dX6_holds_126 (by decide) 129 rfl (fun _ => ?_) (fun h => absurd h (by decide))
      refine r_aload_n hC 3 dX6_holds_133 rfl 134 rfl ?_
      refine r_get (v := .ref (b 1)) hC kX6 1 rfl q2754 (fun _ h => h.get 0 rfl) rfl dX6_holds_134 137 rfl ?_
      refine r_bipush hC 21 dX6_holds_137 bp_21 139 rfl ?_
      refine r_iconst hC 3 dX6_holds_139 ic_3 140 rfl ?_
      refine r_iload_n hC 4 dX6_holds_140 rfl 141 rfl ?_
      refine r_imul hC (nI (3 * ia)) dX6_holds_141  (pk_mul 3 ia) 142 rfl ?_
      refine r_iadd hC (nI (21 + 3 * ia)) dX6_holds_142  (nI_add 21 (3 * ia)) 143 rfl ?_
      refine r_iload hC 0 dX6_holds_143 rfl 145 rfl ?_
      refine r_iadd hC (nI (21 + 3 * ia + 3)) dX6_holds_145  (nI_add (21 + 3 * ia) 3) 146 rfl ?_
      refine r_iconst hC 1 dX6_holds_146 ic_1 147 rfl ?_
      refine r_isub hC (nI (21 + 3 * ia + (3 - 1))) dX6_holds_147  (by rw [show (1 : Int32) = nI 1 from rfl, pk_sub (by omega)]; congr 1) 148 rfl ?_
      refine r_lald hC (21 + 3 * ia + (3 - 1)) (xix_n (21 + 3 * ia + (3 - 1)) (by omega) (Nat.le_of_ble_eq_true rfl)) (fun _ h => h.get 3 rfl) (r (21 + 3 * ia + (3 - 1))) (rfl) dX6_holds_148 149 rfl ?_
      refine r_l2i hC (pvQ r ia 3) dX6_holds_149 (rfl) 150 rfl ?_
      refine r_iast (J := xSt F V0 [(b 0, .inr (5, mF b i j)), (b 33, .inl (0, 200, .inl co)), (b 35, .inl (0, 200, .inl (va_up sk st.length (pvQ r ia 3)))), (b 1, .inl (1, 111, .inr (.inl r)))]) hC st.length (xix_n st.length (by simp only [List.length_cons] at hc hst; omega) (Nat.le_of_ble_eq_true rfl)) (fun _ h => h.get 2 rfl) dX6_holds_150 (fun _ h => h.set 2 _ rfl) 151 rfl ?_
      generalize hu21 : va_up sk st.length (pvQ r ia 3) = u21
      refine r_iinc hC (nI (st.length + 1)) 2 2 [(2, .int (nI (st.length + 1))), (4, .int 3), (3, .int (nI c)), (0, .ref (b 0)), (1, .int (nI ia))] dX6_holds_151 rfl (nI_add st.length 1) (Nat.le_of_ble_eq_true rfl) rfl 154 rfl ?_
      refine r_iinc hC (nI (c + 1)) 3 2 [(3, .int (nI (c + 1))), (2, .int (nI (st.length + 1))), (4, .int 3), (0, .ref (b 0)), (1, .int (nI ia))] dX6_holds_154 rfl (nI_add c 1) (Nat.le_of_ble_eq_true rfl) rfl 157 rfl ?_
      refine r_goto hC 4 dX6_holds_157 (by decide) ?_
      subst hu21
      refine rn.sub (lv' := [(3, .int (nI (c + 1))), (2, .int (nI (st.length + 1))), (0, .ref (b 0)), (1, .int (nI ia))]) [0, 1, 3, 4] rfl ?_
      exact ih (c + 1) ((pvQ r ia 3) :: st) (va_up sk st.length (pvQ r ia 3)) hr2 (by simp only [List.length_cons] at hc; omega) (by simp only [List.length_cons] at hst ⊢; omega) (stR_push hs) hev2
set_option maxHeartbeats 4000000 in
set_option maxRecDepth 100000 in
theorem metX6_holds (l : Launch) (G : xG) (hG : xGood G) (b : Nat → Nat) (i : Nat → Int32) (j : Nat → Int64) (co sk : Nat → Int32) (r : Nat → Int64) (L : List Int32) (N ia : Nat) (hN : N ≤ 200) (hia : ia < 30) (h36 : i 36 = nI N) (hL : L.length = N) (hl : lsR L co) (v : Int32) (hev : evO (pvQ r ia) L [] = some [v]) : xWm l G yX6_holds (Cond.code yX6_holds cX6_holds 5 (some .boolean)) { frames := 1, locals := 25, cells := 0, slots := 0 } [.ref (b 0), .int (nI ia)] [(b 0, .inr (5, mF b i j)), (b 33, .inl (0, 200, .inl co)), (b 35, .inl (0, 200, .inl sk)), (b 1, .inl (1, 111, .inr (.inl r)))] (fun v9 w' => ∃ sk' : Nat → Int32, v9 = some (.int (bI (decide (v = 1)))) ∧ w' = [(b 0, .inr (5, mF b i j)), (b 33, .inl (0, 200, .inl co)), (b 35, .inl (0, 200, .inl sk')), (b 1, .inl (1, 111, .inr (.inl r)))]) (fun _ _ => False) := by
  intro V hV
  refine xMet_of RX6 hG rfl (by decide) (Nat.le_of_ble_eq_true rfl) fun C hC hQ hX hl hg _ => ?_
  subst hl hg
  obtain ⟨V0, hV0⟩ : ∃ V0, V0 = V := ⟨_, rfl⟩
  obtain ⟨F, hF⟩ : ∃ F, F = xF [(b 0, .inr (5, mF b i j)), (b 33, .inl (0, 200, .inl co)), (b 35, .inl (0, 200, .inl sk)), (b 1, .inl (1, 111, .inr (.inl r)))] := ⟨_, rfl⟩
  refine rn.mono (J := xSt F V0 [(b 0, .inr (5, mF b i j)), (b 33, .inl (0, 200, .inl co)), (b 35, .inl (0, 200, .inl sk)), (b 1, .inl (1, 111, .inr (.inl r)))]) (fun V9 h => by rw [h, hV0, hF]; exact hV.st) ?_
  show rn C (xSt F V0 [(b 0, .inr (5, mF b i j)), (b 33, .inl (0, 200, .inl co)), (b 35, .inl (0, 200, .inl sk)), (b 1, .inl (1, 111, .inr (.inl r)))]) 0 0 0 [(0, .ref (b 0)), (1, .int (nI ia))] []
  refine r_iconst hC 0 dX6_holds_0 ic_0 1 rfl ?_
  refine r_istore_n hC 2 [(2, .int 0), (0, .ref (b 0)), (1, .int (nI ia))] dX6_holds_1 rfl (Nat.le_of_ble_eq_true rfl) rfl 2 rfl ?_
  refine r_iconst hC 0 dX6_holds_2 ic_0 3 rfl ?_
  refine r_istore_n hC 3 [(3, .int 0), (2, .int 0), (0, .ref (b 0)), (1, .int (nI ia))] dX6_holds_3 rfl (Nat.le_of_ble_eq_true rfl) rfl 4 rfl ?_
  refine rn.sub (lv' := [(3, .int 0), (2, .int 0), (0, .ref (b 0)), (1, .int (nI ia))]) [0, 1, 2, 3] rfl ?_
  refine lpX6_holds hG hC b i j co r N ia hN hia h36 [v] (fun sk9 hs9 => ?_) L 0 [] sk (fun k q hq => by rw [Nat.zero_add]; exact hl k q hq) (by omega) (Nat.le_refl 0) trivial hev
  refine r_aload_n hC 0 dX6_holds_160 rfl 161 rfl ?_
  refine r_get (v := .ref (b 35)) hC kX6 35 rfl q2788 (fun _ h => h.get 0 rfl) rfl dX6_holds_161 164 rfl ?_
  refine r_iconst hC 0 dX6_holds_164 ic_0 165 rfl ?_
  refine r_iald hC 0 (xix_n 0 (Nat.le_of_ble_eq_true rfl) (Nat.le_of_ble_eq_true rfl)) (fun _ h => h.get 2 rfl) (sk9 0) (rfl) dX6_holds_165 166 rfl ?_
  refine r_eqi (y := v) (hs9.1) ?_
  refine r_iconst hC 1 dX6_holds_166 ic_1 167 rfl ?_
  refine r_icne hC 174 dX6_holds_167 (by decide) 170 rfl (fun c1 => ?_) (fun c1 => ?_)
  · skip
    refine r_iconst hC 0 dX6_holds_174 ic_0 175 rfl ?_
    exact r_zret hC (by decide) (Nat.le_of_ble_eq_true rfl) (Nat.le_of_ble_eq_true rfl) (fun V9 h => hQ _ _ ⟨[(b 0, .inr (5, mF b i j)), (b 33, .inl (0, 200, .inl co)), (b 35, .inl (0, 200, .inl sk9)), (b 1, .inl (1, 111, .inr (.inl r)))], ⟨_, by rw [show decide (v = 1) = false from decide_eq_false c1]; rfl, rfl⟩, by rw [← hV0, ← hF]; exact h⟩) dX6_holds_175
  · skip
    refine r_iconst hC 1 dX6_holds_170 ic_1 171 rfl ?_
    refine r_goto hC 175 dX6_holds_171 (by decide) ?_
    exact r_zret hC (by decide) (Nat.le_of_ble_eq_true rfl) (Nat.le_of_ble_eq_true rfl) (fun V9 h => hQ _ _ ⟨[(b 0, .inr (5, mF b i j)), (b 33, .inl (0, 200, .inl co)), (b 35, .inl (0, 200, .inl sk9)), (b 1, .inl (1, 111, .inr (.inl r)))], ⟨_, by rw [show decide (v = 1) = true from decide_eq_true c1]; rfl, rfl⟩, by rw [← hV0, ← hF]; exact h⟩) dX6_holds_175
