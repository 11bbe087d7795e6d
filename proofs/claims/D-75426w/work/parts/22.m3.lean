/-! ===== the reference: kicks, drifts, copies, steps ===== -/
set_option maxRecDepth 100000
def tOK (t : Nat → Int64) : Prop := (0 ≤ (t 0).toInt ∧ (t 0).toInt ≤ 1000000000) ∧ (1 ≤ (t 1).toInt ∧ (t 1).toInt ≤ 1000) ∧ (1 ≤ (t 2).toInt ∧ (t 2).toInt ≤ 100) ∧ (0 ≤ (t 3).toInt ∧ (t 3).toInt ≤ 300000) ∧ 1 ≤ (t 4).toInt ∧ (t 4).toInt ≤ 1000000000
def mOK (r : Nat → Int64) : Prop := (1 ≤ (r 6).toInt ∧ (r 6).toInt ≤ 99) ∧ (1 ≤ (r 11).toInt ∧ (r 11).toInt ≤ 99) ∧ 1 ≤ (r 16).toInt ∧ (r 16).toInt ≤ 99
theorem l_ne0 {x : Int64} (h : ¬ x.toInt = 0) : ¬ x = 0 := fun e => h (by rw [e]; rfl)
theorem l_add {x y : Int64} (h1 : -(2 ^ 63) ≤ x.toInt + y.toInt) (h2 : x.toInt + y.toInt < 2 ^ 63) : (x + y).toInt = x.toInt + y.toInt := by
  rw [Int64.toInt_add]
  exact Int.bmod_eq_of_le (by omega) (by omega)
theorem l_sub {x y : Int64} (h1 : -(2 ^ 63) ≤ x.toInt - y.toInt) (h2 : x.toInt - y.toInt < 2 ^ 63) : (x - y).toInt = x.toInt - y.toInt := by
  rw [Int64.toInt_sub]
  exact Int.bmod_eq_of_le (by omega) (by omega)
theorem l_mul {x y : Int64} (h1 : -(2 ^ 63) ≤ x.toInt * y.toInt) (h2 : x.toInt * y.toInt < 2 ^ 63) : (x * y).toInt = x.toInt * y.toInt := by
  rw [Int64.toInt_mul]
  exact Int.bmod_eq_of_le (by omega) (by omega)
theorem reach_in {t r : Nat → Int64} {p : Nat} (ht : tOK t) : 1 ≤ (reachQ t r p).toInt ∧ (reachQ t r p).toInt ≤ 301000 := by
  have h1 : (lN (distQ r p)).toInt = (distQ r p : Int) := lN_toInt (Nat.lt_of_le_of_lt (rootQ_le _) (by decide))
  have h2 : distQ r p ≤ 300000 := rootQ_le _
  obtain ⟨-, ⟨h3, h4⟩, -⟩ := ht
  have h5 : (reachQ t r p).toInt = (lN (distQ r p)).toInt + (t 1).toInt := l_add (by omega) (by omega)
  rw [h5, h1]
  omega
theorem cube_in {x : Int64} (h1 : 1 ≤ x.toInt) (h2 : x.toInt ≤ 301000) : (x * x * x).toInt = x.toInt * x.toInt * x.toInt ∧ 1 ≤ x.toInt * x.toInt * x.toInt ∧ x.toInt * x.toInt * x.toInt ≤ 301000 * 301000 * 301000 := by
  have a1 : 1 * 1 ≤ x.toInt * x.toInt := Int.mul_le_mul h1 h1 (by omega) (by omega)
  have a2 : x.toInt * x.toInt ≤ 301000 * 301000 := Int.mul_le_mul h2 h2 (by omega) (by omega)
  have a3 : 1 * 1 ≤ x.toInt * x.toInt * x.toInt := Int.mul_le_mul a1 h1 (by omega) (by omega)
  have a4 : x.toInt * x.toInt * x.toInt ≤ 301000 * 301000 * 301000 := Int.mul_le_mul a2 h2 (by omega) (by omega)
  have e1 : (x * x).toInt = x.toInt * x.toInt := l_mul (by omega) (by omega)
  have e2 : (x * x * x).toInt = (x * x).toInt * x.toInt := l_mul (by rw [e1]; omega) (by rw [e1]; omega)
  rw [e2, e1]
  exact ⟨rfl, by omega, a4⟩
theorem rowOK_of {t r : Nat → Int64} (ht : tOK t) (hm : mOK r) : rowOK t r := by
  obtain ⟨⟨a1, a2⟩, ⟨b1, b2⟩, c1, c2⟩ := hm
  have dbl : ∀ x : Int64, 1 ≤ x.toInt → x.toInt ≤ 99 → ¬ 2 * x = 0 := by
    intro x h1 h2
    have e2 : (2 : Int64).toInt = 2 := rfl
    have e : (2 * x).toInt = (2 : Int64).toInt * x.toInt := l_mul (by rw [e2]; omega) (by rw [e2]; omega)
    refine l_ne0 ?_
    rw [e, e2]
    omega
  refine ⟨fun p hp => ?_, ⟨dbl _ a1 a2, dbl _ b1 b2, dbl _ c1 c2⟩, ⟨l_ne0 (by omega), l_ne0 (by omega), l_ne0 (by omega)⟩, l_ne0 (by have := ht.2.2.2.2; omega)⟩
  have h := reach_in (r := r) (p := p) ht
  obtain ⟨e, e1, e2⟩ := cube_in h.1 h.2
  exact ⟨l_ne0 (by omega), l_ne0 (by rw [e]; omega)⟩
def gQ (t r : Nat → Int64) (hf bk : Bool) (p x : Nat) : Int64 := match hf, bk with
  | false, false => impQ t r p x
  | false, true => -impQ t r p x
  | true, false => impQ t r p x / 2
  | true, true => -(impQ t r p x / 2)
def kickQ (t r : Nat → Int64) (hf bk : Bool) : Nat → Int64 :=
  va_up (va_up (va_up (va_up (va_up (va_up r 9 (r 9 + gQ t r hf bk 0 0 + gQ t r hf bk 1 0)) 10 (r 10 + gQ t r hf bk 0 1 + gQ t r hf bk 1 1)) 14 (r 14 - gQ t r hf bk 0 0 + gQ t r hf bk 2 0)) 15 (r 15 - gQ t r hf bk 0 1 + gQ t r hf bk 2 1)) 19 (r 19 - gQ t r hf bk 1 0 - gQ t r hf bk 2 0)) 20 (r 20 - gQ t r hf bk 1 1 - gQ t r hf bk 2 1)
def fQ (t r : Nat → Int64) (hf bk : Bool) (k x : Nat) : Int64 := match hf, bk with
  | false, false => m_floored (t 2 * r (6 + 5 * k + (3 + x))) (r (6 + 5 * k))
  | false, true => -m_floored (t 2 * r (6 + 5 * k + (3 + x))) (r (6 + 5 * k))
  | true, false => m_floored (t 2 * r (6 + 5 * k + (3 + x))) (2 * r (6 + 5 * k))
  | true, true => -m_floored (t 2 * r (6 + 5 * k + (3 + x))) (2 * r (6 + 5 * k))
def driftQ (t r : Nat → Int64) (hf bk : Bool) : Nat → Int64 :=
  va_up (va_up (va_up (va_up (va_up (va_up r 7 (r 7 + fQ t r hf bk 0 0)) 8 (r 8 + fQ t r hf bk 0 1)) 12 (r 12 + fQ t r hf bk 1 0)) 13 (r 13 + fQ t r hf bk 1 1)) 17 (r 17 + fQ t r hf bk 2 0)) 18 (r 18 + fQ t r hf bk 2 1)
def isInQ (r : Nat → Int64) : Bool := m_in (r 7) (-100000) 100000 && m_in (r 9) (-1000000000) 1000000000 && m_in (r 8) (-100000) 100000 && m_in (r 10) (-1000000000) 1000000000 && m_in (r 12) (-100000) 100000 && m_in (r 14) (-1000000000) 1000000000 && m_in (r 13) (-100000) 100000 && m_in (r 15) (-1000000000) 1000000000 && m_in (r 17) (-100000) 100000 && m_in (r 19) (-1000000000) 1000000000 && m_in (r 18) (-100000) 100000 && m_in (r 20) (-1000000000) 1000000000
def partQ (sc : Int64) (i : Nat) : Int32 := if sc = 0 then (if i = 0 then 0 else if i = 1 then 1 else -1) else if sc = 1 then (if i = 1 then 0 else 3) else (if i = 1 then 1 else 2)
set_option maxHeartbeats 4000000 in
set_option maxRecDepth 100000 in
theorem kick_eq00 (t r : Nat → Int64) : va_up (va_up (va_up (va_up (va_up (va_up (va_up (va_up (va_up (va_up (va_up (va_up r 9 ((r 9) + (impQ t r 0 0))) 14 ((r 14) - (impQ t r 0 0))) 10 ((r 10) + (impQ t r 0 1))) 15 ((r 15) - (impQ t r 0 1))) 9 (((r 9) + (impQ t r 0 0)) + (impQ t r 1 0))) 19 ((r 19) - (impQ t r 1 0))) 10 (((r 10) + (impQ t r 0 1)) + (impQ t r 1 1))) 20 ((r 20) - (impQ t r 1 1))) 14 (((r 14) - (impQ t r 0 0)) + (impQ t r 2 0))) 19 (((r 19) - (impQ t r 1 0)) - (impQ t r 2 0))) 15 (((r 15) - (impQ t r 0 1)) + (impQ t r 2 1))) 20 (((r 20) - (impQ t r 1 1)) - (impQ t r 2 1)) = kickQ t r false false := by
  funext k
  by_cases h9 : k = 9
  · subst h9; simp [kickQ, gQ, va_up]
  by_cases h10 : k = 10
  · subst h10; simp [kickQ, gQ, va_up]
  by_cases h14 : k = 14
  · subst h14; simp [kickQ, gQ, va_up]
  by_cases h15 : k = 15
  · subst h15; simp [kickQ, gQ, va_up]
  by_cases h19 : k = 19
  · subst h19; simp [kickQ, gQ, va_up]
  by_cases h20 : k = 20
  · subst h20; simp [kickQ, gQ, va_up]
  simp only [kickQ, va_up, h9, h10, h14, h15, h19, h20, if_false]
set_option maxHeartbeats 4000000 in
set_option maxRecDepth 100000 in
theorem metX6_kicks00 (l : Launch) (G : xG) (hG : xGood G) (b : Nat → Nat) (i : Nat → Int32) (j : Nat → Int64) (t : Nat → Int64) (a : Nat) (r : Nat → Int64) (g : Nat → Int64) (hok : rowOK t r) : xWm l G yX6_kicks (Cond.code yX6_kicks cX6_kicks 8 none) { frames := 5, locals := 124, cells := 0, slots := 0 } [.ref (b 0), .ref a, .int 0, .int 0] [(b 0, .inr (5, mF b i j)), (b 7, .inl (1, 5, .inr (.inl t))), (a, .inl (1, 111, .inr (.inl r))), (b 23, .inl (1, 6, .inr (.inl g)))] (fun v w' => ∃ g' : Nat → Int64, v = none ∧ w' = [(b 0, .inr (5, mF b i j)), (b 7, .inl (1, 5, .inr (.inl t))), (a, .inl (1, 111, .inr (.inl (kickQ t r false false)))), (b 23, .inl (1, 6, .inr (.inl g')))]) (fun _ _ => False) := by
  intro V hV
  refine xMet_of RX6 hG rfl (by decide) (Nat.le_of_ble_eq_true rfl) fun C hC hQ hX hl hg _ => ?_
  subst hl hg
  obtain ⟨V0, hV0⟩ : ∃ V0, V0 = V := ⟨_, rfl⟩
  obtain ⟨F, hF⟩ : ∃ F, F = xF [(b 0, .inr (5, mF b i j)), (b 7, .inl (1, 5, .inr (.inl t))), (a, .inl (1, 111, .inr (.inl r))), (b 23, .inl (1, 6, .inr (.inl g)))] := ⟨_, rfl⟩
  refine rn.mono (J := xSt F V0 [(b 0, .inr (5, mF b i j)), (b 7, .inl (1, 5, .inr (.inl t))), (a, .inl (1, 111, .inr (.inl r))), (b 23, .inl (1, 6, .inr (.inl g)))]) (fun V9 h => by rw [h, hV0, hF]; exact hV.st) ?_
  show rn C (xSt F V0 [(b 0, .inr (5, mF b i j)), (b 7, .inl (1, 5, .inr (.inl t))), (a, .inl (1, 111, .inr (.inl r))), (b 23, .inl (1, 6, .inr (.inl g)))]) 0 0 0 [(0, .ref (b 0)), (1, .ref a), (2, .int 0), (3, .int 0)] []
  refine r_iconst hC 0 dX6_kicks_0 ic_0 1 rfl ?_
  refine r_istore hC 4 [(4, .int 0), (0, .ref (b 0)), (1, .ref a), (2, .int 0), (3, .int 0)] dX6_kicks_1 (Nat.le_of_ble_eq_true rfl) rfl 3 rfl ?_
  refine r_iload hC 0 dX6_kicks_3 rfl 5 rfl ?_
  refine r_iconst hC 3 dX6_kicks_5 ic_3 6 rfl ?_
  refine r_icge hC 82 dX6_kicks_6 (by decide) 9 rfl (fun h => absurd h (by decide)) (fun _ => ?_)
  refine r_iconst hC 0 dX6_kicks_9 ic_0 10 rfl ?_
  refine r_istore hC 5 [(5, .int 0), (4, .int 0), (0, .ref (b 0)), (1, .ref a), (2, .int 0), (3, .int 0)] dX6_kicks_10 (Nat.le_of_ble_eq_true rfl) rfl 12 rfl ?_
  refine r_iload hC 0 dX6_kicks_12 rfl 14 rfl ?_
  refine r_iconst hC 2 dX6_kicks_14 ic_2 15 rfl ?_
  refine r_icge hC 76 dX6_kicks_15 (by decide) 18 rfl (fun h => absurd h (by decide)) (fun _ => ?_)
  refine r_aload_n hC 2 dX6_kicks_18 rfl 19 rfl ?_
  refine r_aload_n hC 3 dX6_kicks_19 rfl 20 rfl ?_
  refine r_iload hC 1 dX6_kicks_20 rfl 22 rfl ?_
  refine r_iload hC 0 dX6_kicks_22 rfl 24 rfl ?_
  refine r_invVr hC kX6 (b 0) [.ref a, .int 0, .int 0] (.long (impQ t r 0 0)) mVX6_impulseOf q3014 (fun _ h => h.get 0 rfl) (metX6_impulseOf _ _ hG b _ _ _ a _ 0 0 (Nat.le_of_ble_eq_true rfl) (Nat.le_of_ble_eq_true rfl) (hok)) (fun _ h => h.in.sub [0, 1, 2] rfl rfl) ⟨rfl, rfl⟩ 0 0 rfl rfl (Nat.le_of_ble_eq_true rfl) (Nat.le_of_ble_eq_true rfl) rfl (Nat.le_of_ble_eq_true rfl) dX6_kicks_24 27 rfl ?_
  refine r_lstore hC 6 [(6, .long (impQ t r 0 0)), (5, .int 0), (4, .int 0), (0, .ref (b 0)), (1, .ref a), (2, .int 0), (3, .int 0)] dX6_kicks_27 (Nat.le_of_ble_eq_true rfl) rfl 29 rfl ?_
  refine r_iload_n hC 5 dX6_kicks_29 rfl 30 rfl ?_
  refine r_ifeq hC 42 dX6_kicks_30 (by decide) 33 rfl (fun _ => ?_) (fun h => absurd h (by decide))
  refine r_lload hC 0 dX6_kicks_42 rfl 44 rfl ?_
  refine r_lstore hC 6 [(6, .long (impQ t r 0 0)), (5, .int 0), (4, .int 0), (0, .ref (b 0)), (1, .ref a), (2, .int 0), (3, .int 0)] dX6_kicks_44 (Nat.le_of_ble_eq_true rfl) rfl 46 rfl ?_
  refine r_aload_n hC 3 dX6_kicks_46 rfl 47 rfl ?_
  refine r_get (v := .ref (b 23)) hC kX6 23 rfl q2776 (fun _ h => h.get 0 rfl) rfl dX6_kicks_47 50 rfl ?_
  refine r_iconst hC 2 dX6_kicks_50 ic_2 51 rfl ?_
  refine r_iload hC 2 dX6_kicks_51 rfl 53 rfl ?_
  refine r_imul hC 0 dX6_kicks_53  (by decide) 54 rfl ?_
  refine r_iload hC 1 dX6_kicks_54 rfl 56 rfl ?_
  refine r_iadd hC 0 dX6_kicks_56  (by decide) 57 rfl ?_
  refine r_iload_n hC 6 dX6_kicks_57 rfl 58 rfl ?_
  refine r_ifeq hC 67 dX6_kicks_58 (by decide) 61 rfl (fun _ => ?_) (fun h => absurd h (by decide))
  refine r_lload hC 0 dX6_kicks_67 rfl 69 rfl ?_
  refine r_last (J := xSt F V0 [(b 0, .inr (5, mF b i j)), (b 7, .inl (1, 5, .inr (.inl t))), (a, .inl (1, 111, .inr (.inl r))), (b 23, .inl (1, 6, .inr (.inl (va_up g 0 (impQ t r 0 0)))))]) hC 0 (xix_n 0 (Nat.le_of_ble_eq_true rfl) (Nat.le_of_ble_eq_true rfl)) (fun _ h => h.get 3 rfl) dX6_kicks_69 (fun _ h => h.set 3 _ rfl) 70 rfl ?_
  generalize hu1 : va_up g 0 (impQ t r 0 0) = u1
  refine r_iinc hC 1 5 1 [(5, .int 1), (6, .long (impQ t r 0 0)), (4, .int 0), (0, .ref (b 0)), (1, .ref a), (2, .int 0), (3, .int 0)] dX6_kicks_70 rfl (by decide) (Nat.le_of_ble_eq_true rfl) rfl 73 rfl ?_
  refine r_goto hC 12 dX6_kicks_73 (by decide) ?_
  refine r_iload hC 0 dX6_kicks_12 rfl 14 rfl ?_
  refine r_iconst hC 2 dX6_kicks_14 ic_2 15 rfl ?_
  refine r_icge hC 76 dX6_kicks_15 (by decide) 18 rfl (fun h => absurd h (by decide)) (fun _ => ?_)
  refine r_aload_n hC 3 dX6_kicks_18 rfl 19 rfl ?_
  refine r_aload_n hC 4 dX6_kicks_19 rfl 20 rfl ?_
  refine r_iload hC 2 dX6_kicks_20 rfl 22 rfl ?_
  refine r_iload hC 0 dX6_kicks_22 rfl 24 rfl ?_
  refine r_invVr hC kX6 (b 0) [.ref a, .int 0, .int 1] (.long (impQ t r 0 1)) mVX6_impulseOf q3014 (fun _ h => h.get 0 rfl) (metX6_impulseOf _ _ hG b _ _ _ a _ 0 1 (Nat.le_of_ble_eq_true rfl) (Nat.le_of_ble_eq_true rfl) (hok)) (fun _ h => h.in.sub [0, 1, 2] rfl rfl) ⟨rfl, rfl⟩ 0 0 rfl rfl (Nat.le_of_ble_eq_true rfl) (Nat.le_of_ble_eq_true rfl) rfl (Nat.le_of_ble_eq_true rfl) dX6_kicks_24 27 rfl ?_
  refine r_lstore hC 6 [(6, .long (impQ t r 0 1)), (5, .int 1), (4, .int 0), (0, .ref (b 0)), (1, .ref a), (2, .int 0), (3, .int 0)] dX6_kicks_27 (Nat.le_of_ble_eq_true rfl) rfl 29 rfl ?_
  refine r_iload_n hC 5 dX6_kicks_29 rfl 30 rfl ?_
  refine r_ifeq hC 42 dX6_kicks_30 (by decide) 33 rfl (fun _ => ?_) (fun h => absurd h (by decide))
  refine r_lload hC 0 dX6_kicks_42 rfl 44 rfl ?_
  refine r_lstore hC 6 [(6, .long (impQ t r 0 1)), (5, .int 1), (4, .int 0), (0, .ref (b 0)), (1, .ref a), (2, .int 0), (3, .int 0)] dX6_kicks_44 (Nat.le_of_ble_eq_true rfl) rfl 46 rfl ?_
  refine r_aload_n hC 3 dX6_kicks_46 rfl 47 rfl ?_
  refine r_get (v := .ref (b 23)) hC kX6 23 rfl q2776 (fun _ h => h.get 0 rfl) rfl dX6_kicks_47 50 rfl ?_
  refine r_iconst hC 2 dX6_kicks_50 ic_2 51 rfl ?_
  refine r_iload hC 2 dX6_kicks_51 rfl 53 rfl ?_
  refine r_imul hC 0 dX6_kicks_53  (by decide) 54 rfl ?_
  refine r_iload hC 1 dX6_kicks_54 rfl 56 rfl ?_
  refine r_iadd hC 1 dX6_kicks_56  (by decide) 57 rfl ?_
  refine r_iload_n hC 6 dX6_kicks_57 rfl 58 rfl ?_
  refine r_ifeq hC 67 dX6_kicks_58 (by decide) 61 rfl (fun _ => ?_) (fun h => absurd h (by decide))
  refine r_lload hC 0 dX6_kicks_67 rfl 69 rfl ?_
  refine r_last (J := xSt F V0 [(b 0, .inr (5, mF b i j)), (b 7, .inl (1, 5, .inr (.inl t))), (a, .inl (1, 111, .inr (.inl r))), (b 23, .inl (1, 6, .inr (.inl (va_up u1 1 (impQ t r 0 1)))))]) hC 1 (xix_n 1 (Nat.le_of_ble_eq_true rfl) (Nat.le_of_ble_eq_true rfl)) (fun _ h => h.get 3 rfl) dX6_kicks_69 (fun _ h => h.set 3 _ rfl) 70 rfl ?_
  generalize hu2 : va_up u1 1 (impQ t r 0 1) = u2
  refine r_iinc hC 2 5 1 [(5, .int 2), (6, .long (impQ t r 0 1)), (4, .int 0), (0, .ref (b 0)), (1, .ref a), (2, .int 0), (3, .int 0)] dX6_kicks_70 rfl (by decide) (Nat.le_of_ble_eq_true rfl) rfl 73 rfl ?_
  refine r_goto hC 12 dX6_kicks_73 (by decide) ?_
  refine r_iload hC 0 dX6_kicks_12 rfl 14 rfl ?_
  refine r_iconst hC 2 dX6_kicks_14 ic_2 15 rfl ?_
  refine r_icge hC 76 dX6_kicks_15 (by decide) 18 rfl (fun _ => ?_) (fun h => absurd h (by decide))
  refine r_iinc hC 1 4 2 [(4, .int 1), (5, .int 2), (6, .long (impQ t r 0 1)), (0, .ref (b 0)), (1, .ref a), (2, .int 0), (3, .int 0)] dX6_kicks_76 rfl (by decide) (Nat.le_of_ble_eq_true rfl) rfl 79 rfl ?_
  refine r_goto hC 3 dX6_kicks_79 (by decide) ?_
  refine r_iload hC 0 dX6_kicks_3 rfl 5 rfl ?_
  refine r_iconst hC 3 dX6_kicks_5 ic_3 6 rfl ?_
  refine r_icge hC 82 dX6_kicks_6 (by decide) 9 rfl (fun h => absurd h (by decide)) (fun _ => ?_)
  refine r_iconst hC 0 dX6_kicks_9 ic_0 10 rfl ?_
  refine r_istore hC 5 [(5, .int 0), (4, .int 1), (6, .long (impQ t r 0 1)), (0, .ref (b 0)), (1, .ref a), (2, .int 0), (3, .int 0)] dX6_kicks_10 (Nat.le_of_ble_eq_true rfl) rfl 12 rfl ?_
  refine r_iload hC 0 dX6_kicks_12 rfl 14 rfl ?_
  refine r_iconst hC 2 dX6_kicks_14 ic_2 15 rfl ?_
  refine r_icge hC 76 dX6_kicks_15 (by decide) 18 rfl (fun h => absurd h (by decide)) (fun _ => ?_)
  refine r_aload_n hC 3 dX6_kicks_18 rfl 19 rfl ?_
  refine r_aload_n hC 4 dX6_kicks_19 rfl 20 rfl ?_
  refine r_iload hC 1 dX6_kicks_20 rfl 22 rfl ?_
  refine r_iload hC 0 dX6_kicks_22 rfl 24 rfl ?_
  refine r_invVr hC kX6 (b 0) [.ref a, .int 1, .int 0] (.long (impQ t r 1 0)) mVX6_impulseOf q3014 (fun _ h => h.get 0 rfl) (metX6_impulseOf _ _ hG b _ _ _ a _ 1 0 (Nat.le_of_ble_eq_true rfl) (Nat.le_of_ble_eq_true rfl) (hok)) (fun _ h => h.in.sub [0, 1, 2] rfl rfl) ⟨rfl, rfl⟩ 0 0 rfl rfl (Nat.le_of_ble_eq_true rfl) (Nat.le_of_ble_eq_true rfl) rfl (Nat.le_of_ble_eq_true rfl) dX6_kicks_24 27 rfl ?_
  refine r_lstore hC 6 [(6, .long (impQ t r 1 0)), (5, .int 0), (4, .int 1), (0, .ref (b 0)), (1, .ref a), (2, .int 0), (3, .int 0)] dX6_kicks_27 (Nat.le_of_ble_eq_true rfl) rfl 29 rfl ?_
  refine r_iload_n hC 5 dX6_kicks_29 rfl 30 rfl ?_
  refine r_ifeq hC 42 dX6_kicks_30 (by decide) 33 rfl (fun _ => ?_) (fun h => absurd h (by decide))
  refine r_lload hC 0 dX6_kicks_42 rfl 44 rfl ?_
  refine r_lstore hC 6 [(6, .long (impQ t r 1 0)), (5, .int 0), (4, .int 1), (0, .ref (b 0)), (1, .ref a), (2, .int 0), (3, .int 0)] dX6_kicks_44 (Nat.le_of_ble_eq_true rfl) rfl 46 rfl ?_
  refine r_aload_n hC 3 dX6_kicks_46 rfl 47 rfl ?_
  refine r_get (v := .ref (b 23)) hC kX6 23 rfl q2776 (fun _ h => h.get 0 rfl) rfl dX6_kicks_47 50 rfl ?_
  refine r_iconst hC 2 dX6_kicks_50 ic_2 51 rfl ?_
  refine r_iload hC 2 dX6_kicks_51 rfl 53 rfl ?_
  refine r_imul hC 2 dX6_kicks_53  (by decide) 54 rfl ?_
  refine r_iload hC 1 dX6_kicks_54 rfl 56 rfl ?_
  refine r_iadd hC 2 dX6_kicks_56  (by decide) 57 rfl ?_
  refine r_iload_n hC 6 dX6_kicks_57 rfl 58 rfl ?_
  refine r_ifeq hC 67 dX6_kicks_58 (by decide) 61 rfl (fun _ => ?_) (fun h => absurd h (by decide))
  refine r_lload hC 0 dX6_kicks_67 rfl 69 rfl ?_
  refine r_last (J := xSt F V0 [(b 0, .inr (5, mF b i j)), (b 7, .inl (1, 5, .inr (.inl t))), (a, .inl (1, 111, .inr (.inl r))), (b 23, .inl (1, 6, .inr (.inl (va_up u2 2 (impQ t r 1 0)))))]) hC 2 (xix_n 2 (Nat.le_of_ble_eq_true rfl) (Nat.le_of_ble_eq_true rfl)) (fun _ h => h.get 3 rfl) dX6_kicks_69 (fun _ h => h.set 3 _ rfl) 70 rfl ?_
  generalize hu3 : va_up u2 2 (impQ t r 1 0) = u3
  refine r_iinc hC 1 5 1 [(5, .int 1), (6, .long (impQ t r 1 0)), (4, .int 1), (0, .ref (b 0)), (1, .ref a), (2, .int 0), (3, .int 0)] dX6_kicks_70 rfl (by decide) (Nat.le_of_ble_eq_true rfl) rfl 73 rfl ?_
  refine r_goto hC 12 dX6_kicks_73 (by decide) ?_
  refine r_iload hC 0 dX6_kicks_12 rfl 14 rfl ?_
  refine r_iconst hC 2 dX6_kicks_14 ic_2 15 rfl ?_
  refine r_icge hC 76 dX6_kicks_15 (by decide) 18 rfl (fun h => absurd h (by decide)) (fun _ => ?_)
  refine r_aload_n hC 3 dX6_kicks_18 rfl 19 rfl ?_
  refine r_aload_n hC 4 dX6_kicks_19 rfl 20 rfl ?_
  refine r_iload hC 2 dX6_kicks_20 rfl 22 rfl ?_
  refine r_iload hC 0 dX6_kicks_22 rfl 24 rfl ?_
  refine r_invVr hC kX6 (b 0) [.ref a, .int 1, .int 1] (.long (impQ t r 1 1)) mVX6_impulseOf q3014 (fun _ h => h.get 0 rfl) (metX6_impulseOf _ _ hG b _ _ _ a _ 1 1 (Nat.le_of_ble_eq_true rfl) (Nat.le_of_ble_eq_true rfl) (hok)) (fun _ h => h.in.sub [0, 1, 2] rfl rfl) ⟨rfl, rfl⟩ 0 0 rfl rfl (Nat.le_of_ble_eq_true rfl) (Nat.le_of_ble_eq_true rfl) rfl (Nat.le_of_ble_eq_true rfl) dX6_kicks_24 27 rfl ?_
  refine r_lstore hC 6 [(6, .long (impQ t r 1 1)), (5, .int 1), (4, .int 1), (0, .ref (b 0)), (1, .ref a), (2, .int 0), (3, .int 0)] dX6_kicks_27 (Nat.le_of_ble_eq_true rfl) rfl 29 rfl ?_
  refine r_iload_n hC 5 dX6_kicks_29 rfl 30 rfl ?_
  refine r_ifeq hC 42 dX6_kicks_30 (by decide) 33 rfl (fun _ => ?_) (fun h => absurd h (by decide))
  refine r_lload hC 0 dX6_kicks_42 rfl 44 rfl ?_
  refine r_lstore hC 6 [(6, .long (impQ t r 1 1)), (5, .int 1), (4, .int 1), (0, .ref (b 0)), (1, .ref a), (2, .int 0), (3, .int 0)] dX6_kicks_44 (Nat.le_of_ble_eq_true rfl) rfl 46 rfl ?_
  refine r_aload_n hC 3 dX6_kicks_46 rfl 47 rfl ?_
  refine r_get (v := .ref (b 23)) hC kX6 23 rfl q2776 (fun _ h => h.get 0 rfl) rfl dX6_kicks_47 50 rfl ?_
  refine r_iconst hC 2 dX6_kicks_50 ic_2 51 rfl ?_
  refine r_iload hC 2 dX6_kicks_51 rfl 53 rfl ?_
  refine r_imul hC 2 dX6_kicks_53  (by decide) 54 rfl ?_
  refine r_iload hC 1 dX6_kicks_54 rfl 56 rfl ?_
  refine r_iadd hC 3 dX6_kicks_56  (by decide) 57 rfl ?_
  refine r_iload_n hC 6 dX6_kicks_57 rfl 58 rfl ?_
  refine r_ifeq hC 67 dX6_kicks_58 (by decide) 61 rfl (fun _ => ?_) (fun h => absurd h (by decide))
  refine r_lload hC 0 dX6_kicks_67 rfl 69 rfl ?_
  refine r_last (J := xSt F V0 [(b 0, .inr (5, mF b i j)), (b 7, .inl (1, 5, .inr (.inl t))), (a, .inl (1, 111, .inr (.inl r))), (b 23, .inl (1, 6, .inr (.inl (va_up u3 3 (impQ t r 1 1)))))]) hC 3 (xix_n 3 (Nat.le_of_ble_eq_true rfl) (Nat.le_of_ble_eq_true rfl)) (fun _ h => h.get 3 rfl) dX6_kicks_69 (fun _ h => h.set 3 _ rfl) 70 rfl ?_
  generalize hu4 : va_up u3 3 (impQ t r 1 1) = u4
  refine r_iinc hC 2 5 1 [(5, .int 2), (6, .long (impQ t r 1 1)), (4, .int 1), (0, .ref (b 0)), (1, .ref a), (2, .int 0), (3, .int 0)] dX6_kicks_70 rfl (by decide) (Nat.le_of_ble_eq_true rfl) rfl 73 rfl ?_
  refine r_goto hC 12 dX6_kicks_73 (by decide) ?_
  refine r_iload hC 0 dX6_kicks_12 rfl 14 rfl ?_
  refine r_iconst hC 2 dX6_kicks_14 ic_2 15 rfl ?_
  refine r_icge hC 76 dX6_kicks_15 (by decide) 18 rfl (fun _ => ?_) (fun h => absurd h (by decide))
  refine r_iinc hC 2 4 2 [(4, .int 2), (5, .int 2), (6, .long (impQ t r 1 1)), (0, .ref (b 0)), (1, .ref a), (2, .int 0), (3, .int 0)] dX6_kicks_76 rfl (by decide) (Nat.le_of_ble_eq_true rfl) rfl 79 rfl ?_
  refine r_goto hC 3 dX6_kicks_79 (by decide) ?_
  refine r_iload hC 0 dX6_kicks_3 rfl 5 rfl ?_
  refine r_iconst hC 3 dX6_kicks_5 ic_3 6 rfl ?_
  refine r_icge hC 82 dX6_kicks_6 (by decide) 9 rfl (fun h => absurd h (by decide)) (fun _ => ?_)
  refine r_iconst hC 0 dX6_kicks_9 ic_0 10 rfl ?_
  refine r_istore hC 5 [(5, .int 0), (4, .int 2), (6, .long (impQ t r 1 1)), (0, .ref (b 0)), (1, .ref a), (2, .int 0), (3, .int 0)] dX6_kicks_10 (Nat.le_of_ble_eq_true rfl) rfl 12 rfl ?_
  refine r_iload hC 0 dX6_kicks_12 rfl 14 rfl ?_
  refine r_iconst hC 2 dX6_kicks_14 ic_2 15 rfl ?_
  refine r_icge hC 76 dX6_kicks_15 (by decide) 18 rfl (fun h => absurd h (by decide)) (fun _ => ?_)
  refine r_aload_n hC 3 dX6_kicks_18 rfl 19 rfl ?_
  refine r_aload_n hC 4 dX6_kicks_19 rfl 20 rfl ?_
  refine r_iload hC 1 dX6_kicks_20 rfl 22 rfl ?_
  refine r_iload hC 0 dX6_kicks_22 rfl 24 rfl ?_
  refine r_invVr hC kX6 (b 0) [.ref a, .int 2, .int 0] (.long (impQ t r 2 0)) mVX6_impulseOf q3014 (fun _ h => h.get 0 rfl) (metX6_impulseOf _ _ hG b _ _ _ a _ 2 0 (Nat.le_of_ble_eq_true rfl) (Nat.le_of_ble_eq_true rfl) (hok)) (fun _ h => h.in.sub [0, 1, 2] rfl rfl) ⟨rfl, rfl⟩ 0 0 rfl rfl (Nat.le_of_ble_eq_true rfl) (Nat.le_of_ble_eq_true rfl) rfl (Nat.le_of_ble_eq_true rfl) dX6_kicks_24 27 rfl ?_
  refine r_lstore hC 6 [(6, .long (impQ t r 2 0)), (5, .int 0), (4, .int 2), (0, .ref (b 0)), (1, .ref a), (2, .int 0), (3, .int 0)] dX6_kicks_27 (Nat.le_of_ble_eq_true rfl) rfl 29 rfl ?_
  refine r_iload_n hC 5 dX6_kicks_29 rfl 30 rfl ?_
  refine r_ifeq hC 42 dX6_kicks_30 (by decide) 33 rfl (fun _ => ?_) (fun h => absurd h (by decide))
  refine r_lload hC 0 dX6_kicks_42 rfl 44 rfl ?_
  refine r_lstore hC 6 [(6, .long (impQ t r 2 0)), (5, .int 0), (4, .int 2), (0, .ref (b 0)), (1, .ref a), (2, .int 0), (3, .int 0)] dX6_kicks_44 (Nat.le_of_ble_eq_true rfl) rfl 46 rfl ?_
  refine r_aload_n hC 3 dX6_kicks_46 rfl 47 rfl ?_
  refine r_get (v := .ref (b 23)) hC kX6 23 rfl q2776 (fun _ h => h.get 0 rfl) rfl dX6_kicks_47 50 rfl ?_
  refine r_iconst hC 2 dX6_kicks_50 ic_2 51 rfl ?_
  refine r_iload hC 2 dX6_kicks_51 rfl 53 rfl ?_
  refine r_imul hC 4 dX6_kicks_53  (by decide) 54 rfl ?_
  refine r_iload hC 1 dX6_kicks_54 rfl 56 rfl ?_
  refine r_iadd hC 4 dX6_kicks_56  (by decide) 57 rfl ?_
  refine r_iload_n hC 6 dX6_kicks_57 rfl 58 rfl ?_
  refine r_ifeq hC 67 dX6_kicks_58 (by decide) 61 rfl (fun _ => ?_) (fun h => absurd h (by decide))
  refine r_lload hC 0 dX6_kicks_67 rfl 69 rfl ?_
  refine r_last (J := xSt F V0 [(b 0, .inr (5, mF b i j)), (b 7, .inl (1, 5, .inr (.inl t))), (a, .inl (1, 111, .inr (.inl r))), (b 23, .inl (1, 6, .inr (.inl (va_up u4 4 (impQ t r 2 0)))))]) hC 4 (xix_n 4 (Nat.le_of_ble_eq_true rfl) (Nat.le_of_ble_eq_true rfl)) (fun _ h => h.get 3 rfl) dX6_kicks_69 (fun _ h => h.set 3 _ rfl) 70 rfl ?_
  generalize hu5 : va_up u4 4 (impQ t r 2 0) = u5
  refine r_iinc hC 1 5 1 [(5, .int 1), (6, .long (impQ t r 2 0)), (4, .int 2), (0, .ref (b 0)), (1, .ref a), (2, .int 0), (3, .int 0)] dX6_kicks_70 rfl (by decide) (Nat.le_of_ble_eq_true rfl) rfl 73 rfl ?_
  refine r_goto hC 12 dX6_kicks_73 (by decide) ?_
  refine r_iload hC 0 dX6_kicks_12 rfl 14 rfl ?_
  refine r_iconst hC 2 dX6_kicks_14 ic_2 15 rfl ?_
  refine r_icge hC 76 dX6_kicks_15 (by decide) 18 rfl (fun h => absurd h (by decide)) (fun _ => ?_)
  refine r_aload_n hC 3 dX6_kicks_18 rfl 19 rfl ?_
  refine r_aload_n hC 4 dX6_kicks_19 rfl 20 rfl ?_
  refine r_iload hC 2 dX6_kicks_20 rfl 22 rfl ?_
  refine r_iload hC 0 dX6_kicks_22 rfl 24 rfl ?_
  refine r_invVr hC kX6 (b 0) [.ref a, .int 2, .int 1] (.long (impQ t r 2 1)) mVX6_impulseOf q3014 (fun _ h => h.get 0 rfl) (metX6_impulseOf _ _ hG b _ _ _ a _ 2 1 (Nat.le_of_ble_eq_true rfl) (Nat.le_of_ble_eq_true rfl) (hok)) (fun _ h => h.in.sub [0, 1, 2] rfl rfl) ⟨rfl, rfl⟩ 0 0 rfl rfl (Nat.le_of_ble_eq_true rfl) (Nat.le_of_ble_eq_true rfl) rfl (Nat.le_of_ble_eq_true rfl) dX6_kicks_24 27 rfl ?_
  refine r_lstore hC 6 [(6, .long (impQ t r 2 1)), (5, .int 1), (4, .int 2), (0, .ref (b 0)), (1, .ref a), (2, .int 0), (3, .int 0)] dX6_kicks_27 (Nat.le_of_ble_eq_true rfl) rfl 29 rfl ?_
  refine r_iload_n hC 5 dX6_kicks_29 rfl 30 rfl ?_
  refine r_ifeq hC 42 dX6_kicks_30 (by decide) 33 rfl (fun _ => ?_) (fun h => absurd h (by decide))
  refine r_lload hC 0 dX6_kicks_42 rfl 44 rfl ?_
  refine r_lstore hC 6 [(6, .long (impQ t r 2 1)), (5, .int 1), (4, .int 2), (0, .ref (b 0)), (1, .ref a), (2, .int 0), (3, .int 0)] dX6_kicks_44 (Nat.le_of_ble_eq_true rfl) rfl 46 rfl ?_
  refine r_aload_n hC 3 dX6_kicks_46 rfl 47 rfl ?_
  refine r_get (v := .ref (b 23)) hC kX6 23 rfl q2776 (fun _ h => h.get 0 rfl) rfl dX6_kicks_47 50 rfl ?_
  refine r_iconst hC 2 dX6_kicks_50 ic_2 51 rfl ?_
  refine r_iload hC 2 dX6_kicks_51 rfl 53 rfl ?_
  refine r_imul hC 4 dX6_kicks_53  (by decide) 54 rfl ?_
  refine r_iload hC 1 dX6_kicks_54 rfl 56 rfl ?_
  refine r_iadd hC 5 dX6_kicks_56  (by decide) 57 rfl ?_
  refine r_iload_n hC 6 dX6_kicks_57 rfl 58 rfl ?_
  refine r_ifeq hC 67 dX6_kicks_58 (by decide) 61 rfl (fun _ => ?_) (fun h => absurd h (by decide))
  refine r_lload hC 0 dX6_kicks_67 rfl 69 rfl ?_
  refine r_last (J := xSt F V0 [(b 0, .inr (5, mF b i j)), (b 7, .inl (1, 5, .inr (.inl t))), (a, .inl (1, 111, .inr (.inl r))), (b 23, .inl (1, 6, .inr (.inl (va_up u5 5 (impQ t r 2 1)))))]) hC 5 (xix_n 5 (Nat.le_of_ble_eq_true rfl) (Nat.le_of_ble_eq_true rfl)) (fun _ h => h.get 3 rfl) dX6_kicks_69 (fun _ h => h.set 3 _ rfl) 70 rfl ?_
  generalize hu6 : va_up u5 5 (impQ t r 2 1) = u6
  refine r_iinc hC 2 5 1 [(5, .int 2), (6, .long (impQ t r 2 1)), (4, .int 2), (0, .ref (b 0)), (1, .ref a), (2, .int 0), (3, .int 0)] dX6_kicks_70 rfl (by decide) (Nat.le_of_ble_eq_true rfl) rfl 73 rfl ?_
  refine r_goto hC 12 dX6_kicks_73 (by decide) ?_
  refine r_iload hC 0 dX6_kicks_12 rfl 14 rfl ?_
  refine r_iconst hC 2 dX6_kicks_14 ic_2 15 rfl ?_
  refine r_icge hC 76 dX6_kicks_15 (by decide) 18 rfl (fun _ => ?_) (fun h => absurd h (by decide))
  refine r_iinc hC 3 4 2 [(4, .int 3), (5, .int 2), (6, .long (impQ t r 2 1)), (0, .ref (b 0)), (1, .ref a), (2, .int 0), (3, .int 0)] dX6_kicks_76 rfl (by decide) (Nat.le_of_ble_eq_true rfl) rfl 79 rfl ?_
  refine r_goto hC 3 dX6_kicks_79 (by decide) ?_
  refine r_iload hC 0 dX6_kicks_3 rfl 5 rfl ?_
  refine r_iconst hC 3 dX6_kicks_5 ic_3 6 rfl ?_
  refine r_icge hC 82 dX6_kicks_6 (by decide) 9 rfl (fun _ => ?_) (fun h => absurd h (by decide))
  refine r_iconst hC 0 dX6_kicks_82 ic_0 83 rfl ?_
  refine r_istore hC 4 [(4, .int 0), (5, .int 2), (6, .long (impQ t r 2 1)), (0, .ref (b 0)), (1, .ref a), (2, .int 0), (3, .int 0)] dX6_kicks_83 (Nat.le_of_ble_eq_true rfl) rfl 85 rfl ?_
  refine r_iload hC 0 dX6_kicks_85 rfl 87 rfl ?_
  refine r_iconst hC 3 dX6_kicks_87 ic_3 88 rfl ?_
  refine r_icge hC 170 dX6_kicks_88 (by decide) 91 rfl (fun h => absurd h (by decide)) (fun _ => ?_)
  refine r_iconst hC 0 dX6_kicks_91 ic_0 92 rfl ?_
  refine r_istore hC 5 [(5, .int 0), (4, .int 0), (6, .long (impQ t r 2 1)), (0, .ref (b 0)), (1, .ref a), (2, .int 0), (3, .int 0)] dX6_kicks_92 (Nat.le_of_ble_eq_true rfl) rfl 94 rfl ?_
  refine r_iload hC 0 dX6_kicks_94 rfl 96 rfl ?_
  refine r_iconst hC 2 dX6_kicks_96 ic_2 97 rfl ?_
  refine r_icge hC 164 dX6_kicks_97 (by decide) 100 rfl (fun h => absurd h (by decide)) (fun _ => ?_)
  refine r_aload_n hC 4 dX6_kicks_100 rfl 101 rfl ?_
  refine r_iload hC 1 dX6_kicks_101 rfl 103 rfl ?_
  refine r_invSr hC [.int 0] (.int 0) mSX6_firstOf q2733 (metX6_firstOf _ _ hG 0 (Nat.le_of_ble_eq_true rfl)) (fun _ _ => xIn.nil) ⟨rfl, rfl⟩ 0 0 rfl rfl (Nat.le_of_ble_eq_true rfl) (Nat.le_of_ble_eq_true rfl) rfl (Nat.le_of_ble_eq_true rfl) dX6_kicks_103 106 rfl ?_
  refine r_iconst hC 3 dX6_kicks_106 ic_3 107 rfl ?_
  refine r_iload hC 0 dX6_kicks_107 rfl 109 rfl ?_
  refine r_iadd hC 3 dX6_kicks_109  (by decide) 110 rfl ?_
  refine r_invSr hC [.int 0, .int 3] (.int 9) mSX6_at q2711 (metX6_at _ _ hG 0 3) (fun _ _ => xIn.nil) ⟨rfl, rfl⟩ 0 0 rfl rfl (Nat.le_of_ble_eq_true rfl) (Nat.le_of_ble_eq_true rfl) rfl (Nat.le_of_ble_eq_true rfl) dX6_kicks_110 113 rfl ?_
  refine r_dup2 hC dX6_kicks_113 rfl rfl 114 rfl ?_
  refine r_lald hC 9 (xix_n 9 (Nat.le_of_ble_eq_true rfl) (Nat.le_of_ble_eq_true rfl)) (fun _ h => h.get 2 rfl) (r 9) (rfl) dX6_kicks_114 115 rfl ?_
  refine r_aload_n hC 3 dX6_kicks_115 rfl 116 rfl ?_
  refine r_get (v := .ref (b 23)) hC kX6 23 rfl q2776 (fun _ h => h.get 0 rfl) rfl dX6_kicks_116 119 rfl ?_
  refine r_iconst hC 2 dX6_kicks_119 ic_2 120 rfl ?_
  refine r_iload hC 1 dX6_kicks_120 rfl 122 rfl ?_
  refine r_imul hC 0 dX6_kicks_122  (by decide) 123 rfl ?_
  refine r_iload hC 0 dX6_kicks_123 rfl 125 rfl ?_
  refine r_iadd hC 0 dX6_kicks_125  (by decide) 126 rfl ?_
  refine r_lald hC 0 (xix_n 0 (Nat.le_of_ble_eq_true rfl) (Nat.le_of_ble_eq_true rfl)) (fun _ h => h.get 3 rfl) (impQ t r 0 0) (by rw [← hu6, ← hu5, ← hu4, ← hu3, ← hu2, ← hu1]; rfl) dX6_kicks_126 127 rfl ?_
  refine r_ladd hC ((r 9) + (impQ t r 0 0)) dX6_kicks_127  (rfl) 128 rfl ?_
  refine r_last (J := xSt F V0 [(b 0, .inr (5, mF b i j)), (b 7, .inl (1, 5, .inr (.inl t))), (a, .inl (1, 111, .inr (.inl (va_up r 9 ((r 9) + (impQ t r 0 0)))))), (b 23, .inl (1, 6, .inr (.inl u6)))]) hC 9 (xix_n 9 (Nat.le_of_ble_eq_true rfl) (Nat.le_of_ble_eq_true rfl)) (fun _ h => h.get 2 rfl) dX6_kicks_128 (fun _ h => h.set 2 _ rfl) 129 rfl ?_
  generalize hu7 : va_up r 9 ((r 9) + (impQ t r 0 0)) = u7
  refine r_aload_n hC 4 dX6_kicks_129 rfl 130 rfl ?_
  refine r_iload hC 1 dX6_kicks_130 rfl 132 rfl ?_
  refine r_invSr hC [.int 0] (.int 1) mSX6_secondOf q2736 (metX6_secondOf _ _ hG 0 (Nat.le_of_ble_eq_true rfl)) (fun _ _ => xIn.nil) ⟨rfl, rfl⟩ 0 0 rfl rfl (Nat.le_of_ble_eq_true rfl) (Nat.le_of_ble_eq_true rfl) rfl (Nat.le_of_ble_eq_true rfl) dX6_kicks_132 135 rfl ?_
  refine r_iconst hC 3 dX6_kicks_135 ic_3 136 rfl ?_
  refine r_iload hC 0 dX6_kicks_136 rfl 138 rfl ?_
  refine r_iadd hC 3 dX6_kicks_138  (by decide) 139 rfl ?_
  refine r_invSr hC [.int 1, .int 3] (.int 14) mSX6_at q2711 (metX6_at _ _ hG 1 3) (fun _ _ => xIn.nil) ⟨rfl, rfl⟩ 0 0 rfl rfl (Nat.le_of_ble_eq_true rfl) (Nat.le_of_ble_eq_true rfl) rfl (Nat.le_of_ble_eq_true rfl) dX6_kicks_139 142 rfl ?_
  refine r_dup2 hC dX6_kicks_142 rfl rfl 143 rfl ?_
  refine r_lald hC 14 (xix_n 14 (Nat.le_of_ble_eq_true rfl) (Nat.le_of_ble_eq_true rfl)) (fun _ h => h.get 2 rfl) (r 14) (by rw [← hu7]; rfl) dX6_kicks_143 144 rfl ?_
  refine r_aload_n hC 3 dX6_kicks_144 rfl 145 rfl ?_
  refine r_get (v := .ref (b 23)) hC kX6 23 rfl q2776 (fun _ h => h.get 0 rfl) rfl dX6_kicks_145 148 rfl ?_
  refine r_iconst hC 2 dX6_kicks_148 ic_2 149 rfl ?_
  refine r_iload hC 1 dX6_kicks_149 rfl 151 rfl ?_
  refine r_imul hC 0 dX6_kicks_151  (by decide) 152 rfl ?_
  refine r_iload hC 0 dX6_kicks_152 rfl 154 rfl ?_
  refine r_iadd hC 0 dX6_kicks_154  (by decide) 155 rfl ?_
  refine r_lald hC 0 (xix_n 0 (Nat.le_of_ble_eq_true rfl) (Nat.le_of_ble_eq_true rfl)) (fun _ h => h.get 3 rfl) (impQ t r 0 0) (by rw [← hu6, ← hu5, ← hu4, ← hu3, ← hu2, ← hu1]; rfl) dX6_kicks_155 156 rfl ?_
  refine r_lsub hC ((r 14) - (impQ t r 0 0)) dX6_kicks_156  (rfl) 157 rfl ?_
  refine r_last (J := xSt F V0 [(b 0, .inr (5, mF b i j)), (b 7, .inl (1, 5, .inr (.inl t))), (a, .inl (1, 111, .inr (.inl (va_up u7 14 ((r 14) - (impQ t r 0 0)))))), (b 23, .inl (1, 6, .inr (.inl u6)))]) hC 14 (xix_n 14 (Nat.le_of_ble_eq_true rfl) (Nat.le_of_ble_eq_true rfl)) (fun _ h => h.get 2 rfl) dX6_kicks_157 (fun _ h => h.set 2 _ rfl) 158 rfl ?_
  generalize hu8 : va_up u7 14 ((r 14) - (impQ t r 0 0)) = u8
  refine r_iinc hC 1 5 0 [(5, .int 1), (4, .int 0), (6, .long (impQ t r 2 1)), (0, .ref (b 0)), (1, .ref a), (2, .int 0), (3, .int 0)] dX6_kicks_158 rfl (by decide) (Nat.le_of_ble_eq_true rfl) rfl 161 rfl ?_
  refine r_goto hC 94 dX6_kicks_161 (by decide) ?_
  refine r_iload hC 0 dX6_kicks_94 rfl 96 rfl ?_
  refine r_iconst hC 2 dX6_kicks_96 ic_2 97 rfl ?_
  refine r_icge hC 164 dX6_kicks_97 (by decide) 100 rfl (fun h => absurd h (by decide)) (fun _ => ?_)
  refine r_aload_n hC 4 dX6_kicks_100 rfl 101 rfl ?_
  refine r_iload hC 1 dX6_kicks_101 rfl 103 rfl ?_
  refine r_invSr hC [.int 0] (.int 0) mSX6_firstOf q2733 (metX6_firstOf _ _ hG 0 (Nat.le_of_ble_eq_true rfl)) (fun _ _ => xIn.nil) ⟨rfl, rfl⟩ 0 0 rfl rfl (Nat.le_of_ble_eq_true rfl) (Nat.le_of_ble_eq_true rfl) rfl (Nat.le_of_ble_eq_true rfl) dX6_kicks_103 106 rfl ?_
  refine r_iconst hC 3 dX6_kicks_106 ic_3 107 rfl ?_
  refine r_iload hC 0 dX6_kicks_107 rfl 109 rfl ?_
  refine r_iadd hC 4 dX6_kicks_109  (by decide) 110 rfl ?_
  refine r_invSr hC [.int 0, .int 4] (.int 10) mSX6_at q2711 (metX6_at _ _ hG 0 4) (fun _ _ => xIn.nil) ⟨rfl, rfl⟩ 0 0 rfl rfl (Nat.le_of_ble_eq_true rfl) (Nat.le_of_ble_eq_true rfl) rfl (Nat.le_of_ble_eq_true rfl) dX6_kicks_110 113 rfl ?_
  refine r_dup2 hC dX6_kicks_113 rfl rfl 114 rfl ?_
  refine r_lald hC 10 (xix_n 10 (Nat.le_of_ble_eq_true rfl) (Nat.le_of_ble_eq_true rfl)) (fun _ h => h.get 2 rfl) (r 10) (by rw [← hu8, ← hu7]; rfl) dX6_kicks_114 115 rfl ?_
  refine r_aload_n hC 3 dX6_kicks_115 rfl 116 rfl ?_
  refine r_get (v := .ref (b 23)) hC kX6 23 rfl q2776 (fun _ h => h.get 0 rfl) rfl dX6_kicks_116 119 rfl ?_
  refine r_iconst hC 2 dX6_kicks_119 ic_2 120 rfl ?_
  refine r_iload hC 1 dX6_kicks_120 rfl 122 rfl ?_
  refine r_imul hC 0 dX6_kicks_122  (by decide) 123 rfl ?_
  refine r_iload hC 0 dX6_kicks_123 rfl 125 rfl ?_
  refine r_iadd hC 1 dX6_kicks_125  (by decide) 126 rfl ?_
  refine r_lald hC 1 (xix_n 1 (Nat.le_of_ble_eq_true rfl) (Nat.le_of_ble_eq_true rfl)) (fun _ h => h.get 3 rfl) (impQ t r 0 1) (by rw [← hu6, ← hu5, ← hu4, ← hu3, ← hu2]; rfl) dX6_kicks_126 127 rfl ?_
  refine r_ladd hC ((r 10) + (impQ t r 0 1)) dX6_kicks_127  (rfl) 128 rfl ?_
  refine r_last (J := xSt F V0 [(b 0, .inr (5, mF b i j)), (b 7, .inl (1, 5, .inr (.inl t))), (a, .inl (1, 111, .inr (.inl (va_up u8 10 ((r 10) + (impQ t r 0 1)))))), (b 23, .inl (1, 6, .inr (.inl u6)))]) hC 10 (xix_n 10 (Nat.le_of_ble_eq_true rfl) (Nat.le_of_ble_eq_true rfl)) (fun _ h => h.get 2 rfl) dX6_kicks_128 (fun _ h => h.set 2 _ rfl) 129 rfl ?_
  generalize hu9 : va_up u8 10 ((r 10) + (impQ t r 0 1)) = u9
  refine r_aload_n hC 4 dX6_kicks_129 rfl 130 rfl ?_
  refine r_iload hC 1 dX6_kicks_130 rfl 132 rfl ?_
  refine r_invSr hC [.int 0] (.int 1) mSX6_secondOf q2736 (metX6_secondOf _ _ hG 0 (Nat.le_of_ble_eq_true rfl)) (fun _ _ => xIn.nil) ⟨rfl, rfl⟩ 0 0 rfl rfl (Nat.le_of_ble_eq_true rfl) (Nat.le_of_ble_eq_true rfl) rfl (Nat.le_of_ble_eq_true rfl) dX6_kicks_132 135 rfl ?_
  refine r_iconst hC 3 dX6_kicks_135 ic_3 136 rfl ?_
  refine r_iload hC 0 dX6_kicks_136 rfl 138 rfl ?_
  refine r_iadd hC 4 dX6_kicks_138  (by decide) 139 rfl ?_
  refine r_invSr hC [.int 1, .int 4] (.int 15) mSX6_at q2711 (metX6_at _ _ hG 1 4) (fun _ _ => xIn.nil) ⟨rfl, rfl⟩ 0 0 rfl rfl (Nat.le_of_ble_eq_true rfl) (Nat.le_of_ble_eq_true rfl) rfl (Nat.le_of_ble_eq_true rfl) dX6_kicks_139 142 rfl ?_
  refine r_dup2 hC dX6_kicks_142 rfl rfl 143 rfl ?_
  refine r_lald hC 15 (xix_n 15 (Nat.le_of_ble_eq_true rfl) (Nat.le_of_ble_eq_true rfl)) (fun _ h => h.get 2 rfl) (r 15) (by rw [← hu9, ← hu8, ← hu7]; rfl) dX6_kicks_143 144 rfl ?_
  refine r_aload_n hC 3 dX6_kicks_144 rfl 145 rfl ?_
  refine r_get (v := .ref (b 23)) hC kX6 23 rfl q2776 (fun _ h => h.get 0 rfl) rfl dX6_kicks_145 148 rfl ?_
  refine r_iconst hC 2 dX6_kicks_148 ic_2 149 rfl ?_
  refine r_iload hC 1 dX6_kicks_149 rfl 151 rfl ?_
  refine r_imul hC 0 dX6_kicks_151  (by decide) 152 rfl ?_
  refine r_iload hC 0 dX6_kicks_152 rfl 154 rfl ?_
  refine r_iadd hC 1 dX6_kicks_154  (by decide) 155 rfl ?_
  refine r_lald hC 1 (xix_n 1 (Nat.le_of_ble_eq_true rfl) (Nat.le_of_ble_eq_true rfl)) (fun _ h => h.get 3 rfl) (impQ t r 0 1) (by rw [← hu6, ← hu5, ← hu4, ← hu3, ← hu2]; rfl) dX6_kicks_155 156 rfl ?_
  refine r_lsub hC ((r 15) - (impQ t r 0 1)) dX6_kicks_156  (rfl) 157 rfl ?_
  refine r_last (J := xSt F V0 [(b 0, .inr (5, mF b i j)), (b 7, .inl (1, 5, .inr (.inl t))), (a, .inl (1, 111, .inr (.inl (va_up u9 15 ((r 15) - (impQ t r 0 1)))))), (b 23, .inl (1, 6, .inr (.inl u6)))]) hC 15 (xix_n 15 (Nat.le_of_ble_eq_true rfl) (Nat.le_of_ble_eq_true rfl)) (fun _ h => h.get 2 rfl) dX6_kicks_157 (fun _ h => h.set 2 _ rfl) 158 rfl ?_
  generalize hu10 : va_up u9 15 ((r 15) - (impQ t r 0 1)) = u10
  refine r_iinc hC 2 5 0 [(5, .int 2), (4, .int 0), (6, .long (impQ t r 2 1)), (0, .ref (b 0)), (1, .ref a), (2, .int 0), (3, .int 0)] dX6_kicks_158 rfl (by decide) (Nat.le_of_ble_eq_true rfl) rfl 161 rfl ?_
  refine r_goto hC 94 dX6_kicks_161 (by decide) ?_
  refine r_iload hC 0 dX6_kicks_94 rfl 96 rfl ?_
  refine r_iconst hC 2 dX6_kicks_96 ic_2 97 rfl ?_
  refine r_icge hC 164 dX6_kicks_97 (by decide) 100 rfl (fun _ => ?_) (fun h => absurd h (by decide))
  refine r_iinc hC 1 4 1 [(4, .int 1), (5, .int 2), (6, .long (impQ t r 2 1)), (0, .ref (b 0)), (1, .ref a), (2, .int 0), (3, .int 0)] dX6_kicks_164 rfl (by decide) (Nat.le_of_ble_eq_true rfl) rfl 167 rfl ?_
  refine r_goto hC 85 dX6_kicks_167 (by decide) ?_
  refine r_iload hC 0 dX6_kicks_85 rfl 87 rfl ?_
  refine r_iconst hC 3 dX6_kicks_87 ic_3 88 rfl ?_
  refine r_icge hC 170 dX6_kicks_88 (by decide) 91 rfl (fun h => absurd h (by decide)) (fun _ => ?_)
  refine r_iconst hC 0 dX6_kicks_91 ic_0 92 rfl ?_
  refine r_istore hC 5 [(5, .int 0), (4, .int 1), (6, .long (impQ t r 2 1)), (0, .ref (b 0)), (1, .ref a), (2, .int 0), (3, .int 0)] dX6_kicks_92 (Nat.le_of_ble_eq_true rfl) rfl 94 rfl ?_
  refine r_iload hC 0 dX6_kicks_94 rfl 96 rfl ?_
  refine r_iconst hC 2 dX6_kicks_96 ic_2 97 rfl ?_
  refine r_icge hC 164 dX6_kicks_97 (by decide) 100 rfl (fun h => absurd h (by decide)) (fun _ => ?_)
  refine r_aload_n hC 4 dX6_kicks_100 rfl 101 rfl ?_
  refine r_iload hC 1 dX6_kicks_101 rfl 103 rfl ?_
  refine r_invSr hC [.int 1] (.int 0) mSX6_firstOf q2733 (metX6_firstOf _ _ hG 1 (Nat.le_of_ble_eq_true rfl)) (fun _ _ => xIn.nil) ⟨rfl, rfl⟩ 0 0 rfl rfl (Nat.le_of_ble_eq_true rfl) (Nat.le_of_ble_eq_true rfl) rfl (Nat.le_of_ble_eq_true rfl) dX6_kicks_103 106 rfl ?_
  refine r_iconst hC 3 dX6_kicks_106 ic_3 107 rfl ?_
  refine r_iload hC 0 dX6_kicks_107 rfl 109 rfl ?_
  refine r_iadd hC 3 dX6_kicks_109  (by decide) 110 rfl ?_
  refine r_invSr hC [.int 0, .int 3] (.int 9) mSX6_at q2711 (metX6_at _ _ hG 0 3) (fun _ _ => xIn.nil) ⟨rfl, rfl⟩ 0 0 rfl rfl (Nat.le_of_ble_eq_true rfl) (Nat.le_of_ble_eq_true rfl) rfl (Nat.le_of_ble_eq_true rfl) dX6_kicks_110 113 rfl ?_
  refine r_dup2 hC dX6_kicks_113 rfl rfl 114 rfl ?_
  refine r_lald hC 9 (xix_n 9 (Nat.le_of_ble_eq_true rfl) (Nat.le_of_ble_eq_true rfl)) (fun _ h => h.get 2 rfl) ((r 9) + (impQ t r 0 0)) (by rw [← hu10, ← hu9, ← hu8, ← hu7]; rfl) dX6_kicks_114 115 rfl ?_
  refine r_aload_n hC 3 dX6_kicks_115 rfl 116 rfl ?_
  refine r_get (v := .ref (b 23)) hC kX6 23 rfl q2776 (fun _ h => h.get 0 rfl) rfl dX6_kicks_116 119 rfl ?_
  refine r_iconst hC 2 dX6_kicks_119 ic_2 120 rfl ?_
  refine r_iload hC 1 dX6_kicks_120 rfl 122 rfl ?_
  refine r_imul hC 2 dX6_kicks_122  (by decide) 123 rfl ?_
  refine r_iload hC 0 dX6_kicks_123 rfl 125 rfl ?_
  refine r_iadd hC 2 dX6_kicks_125  (by decide) 126 rfl ?_
  refine r_lald hC 2 (xix_n 2 (Nat.le_of_ble_eq_true rfl) (Nat.le_of_ble_eq_true rfl)) (fun _ h => h.get 3 rfl) (impQ t r 1 0) (by rw [← hu6, ← hu5, ← hu4, ← hu3]; rfl) dX6_kicks_126 127 rfl ?_
  refine r_ladd hC (((r 9) + (impQ t r 0 0)) + (impQ t r 1 0)) dX6_kicks_127  (rfl) 128 rfl ?_
  refine r_last (J := xSt F V0 [(b 0, .inr (5, mF b i j)), (b 7, .inl (1, 5, .inr (.inl t))), (a, .inl (1, 111, .inr (.inl (va_up u10 9 (((r 9) + (impQ t r 0 0)) + (impQ t r 1 0)))))), (b 23, .inl (1, 6, .inr (.inl u6)))]) hC 9 (xix_n 9 (Nat.le_of_ble_eq_true rfl) (Nat.le_of_ble_eq_true rfl)) (fun _ h => h.get 2 rfl) dX6_kicks_128 (fun _ h => h.set 2 _ rfl) 129 rfl ?_
  generalize hu11 : va_up u10 9 (((r 9) + (impQ t r 0 0)) + (impQ t r 1 0)) = u11
  refine r_aload_n hC 4 dX6_kicks_129 rfl 130 rfl ?_
  refine r_iload hC 1 dX6_kicks_130 rfl 132 rfl ?_
  refine r_invSr hC [.int 1] (.int 2) mSX6_secondOf q2736 (metX6_secondOf _ _ hG 1 (Nat.le_of_ble_eq_true rfl)) (fun _ _ => xIn.nil) ⟨rfl, rfl⟩ 0 0 rfl rfl (Nat.le_of_ble_eq_true rfl) (Nat.le_of_ble_eq_true rfl) rfl (Nat.le_of_ble_eq_true rfl) dX6_kicks_132 135 rfl ?_
  refine r_iconst hC 3 dX6_kicks_135 ic_3 136 rfl ?_
  refine r_iload hC 0 dX6_kicks_136 rfl 138 rfl ?_
  refine r_iadd hC 3 dX6_kicks_138  (by decide) 139 rfl ?_
  refine r_invSr hC [.int 2, .int 3] (.int 19) mSX6_at q2711 (metX6_at _ _ hG 2 3) (fun _ _ => xIn.nil) ⟨rfl, rfl⟩ 0 0 rfl rfl (Nat.le_of_ble_eq_true rfl) (Nat.le_of_ble_eq_true rfl) rfl (Nat.le_of_ble_eq_true rfl) dX6_kicks_139 142 rfl ?_
  refine r_dup2 hC dX6_kicks_142 rfl rfl 143 rfl ?_
  refine r_lald hC 19 (xix_n 19 (Nat.le_of_ble_eq_true rfl) (Nat.le_of_ble_eq_true rfl)) (fun _ h => h.get 2 rfl) (r 19) (by rw [← hu11, ← hu10, ← hu9, ← hu8, ← hu7]; rfl) dX6_kicks_143 144 rfl ?_
  refine r_aload_n hC 3 dX6_kicks_144 rfl 145 rfl ?_
  refine r_get (v := .ref (b 23)) hC kX6 23 rfl q2776 (fun _ h => h.get 0 rfl) rfl dX6_kicks_145 148 rfl ?_
  refine r_iconst hC 2 dX6_kicks_148 ic_2 149 rfl ?_
  refine r_iload hC 1 dX6_kicks_149 rfl 151 rfl ?_
  refine r_imul hC 2 dX6_kicks_151  (by decide) 152 rfl ?_
  refine r_iload hC 0 dX6_kicks_152 rfl 154 rfl ?_
  refine r_iadd hC 2 dX6_kicks_154  (by decide) 155 rfl ?_
  refine r_lald hC 2 (xix_n 2 (Nat.le_of_ble_eq_true rfl) (Nat.le_of_ble_eq_true rfl)) (fun _ h => h.get 3 rfl) (impQ t r 1 0) (by rw [← hu6, ← hu5, ← hu4, ← hu3]; rfl) dX6_kicks_155 156 rfl ?_
  refine r_lsub hC ((r 19) - (impQ t r 1 0)) dX6_kicks_156  (rfl) 157 rfl ?_
  refine r_last (J := xSt F V0 [(b 0, .inr (5, mF b i j)), (b 7, .inl (1, 5, .inr (.inl t))), (a, .inl (1, 111, .inr (.inl (va_up u11 19 ((r 19) - (impQ t r 1 0)))))), (b 23, .inl (1, 6, .inr (.inl u6)))]) hC 19 (xix_n 19 (Nat.le_of_ble_eq_true rfl) (Nat.le_of_ble_eq_true rfl)) (fun _ h => h.get 2 rfl) dX6_kicks_157 (fun _ h => h.set 2 _ rfl) 158 rfl ?_
  generalize hu12 : va_up u11 19 ((r 19) - (impQ t r 1 0)) = u12
  refine r_iinc hC 1 5 0 [(5, .int 1), (4, .int 1), (6, .long (impQ t r 2 1)), (0, .ref (b 0)), (1, .ref a), (2, .int 0), (3, .int 0)] dX6_kicks_158 rfl (by decide) (Nat.le_of_ble_eq_true rfl) rfl 161 rfl ?_
  refine r_goto hC 94 dX6_kicks_161 (by decide) ?_
  refine r_iload hC 0 dX6_kicks_94 rfl 96 rfl ?_
  refine r_iconst hC 2 dX6_kicks_96 ic_2 97 rfl ?_
  refine r_icge hC 164 dX6_kicks_97 (by decide) 100 rfl (fun h => absurd h (by decide)) (fun _ => ?_)
  refine r_aload_n hC 4 dX6_kicks_100 rfl 101 rfl ?_
  refine r_iload hC 1 dX6_kicks_101 rfl 103 rfl ?_
  refine r_invSr hC [.int 1] (.int 0) mSX6_firstOf q2733 (metX6_firstOf _ _ hG 1 (Nat.le_of_ble_eq_true rfl)) (fun _ _ => xIn.nil) ⟨rfl, rfl⟩ 0 0 rfl rfl (Nat.le_of_ble_eq_true rfl) (Nat.le_of_ble_eq_true rfl) rfl (Nat.le_of_ble_eq_true rfl) dX6_kicks_103 106 rfl ?_
  refine r_iconst hC 3 dX6_kicks_106 ic_3 107 rfl ?_
  refine r_iload hC 0 dX6_kicks_107 rfl 109 rfl ?_
  refine r_iadd hC 4 dX6_kicks_109  (by decide) 110 rfl ?_
  refine r_invSr hC [.int 0, .int 4] (.int 10) mSX6_at q2711 (metX6_at _ _ hG 0 4) (fun _ _ => xIn.nil) ⟨rfl, rfl⟩ 0 0 rfl rfl (Nat.le_of_ble_eq_true rfl) (Nat.le_of_ble_eq_true rfl) rfl (Nat.le_of_ble_eq_true rfl) dX6_kicks_110 113 rfl ?_
  refine r_dup2 hC dX6_kicks_113 rfl rfl 114 rfl ?_
  refine r_lald hC 10 (xix_n 10 (Nat.le_of_ble_eq_true rfl) (Nat.le_of_ble_eq_true rfl)) (fun _ h => h.get 2 rfl) ((r 10) + (impQ t r 0 1)) (by rw [← hu12, ← hu11, ← hu10, ← hu9]; rfl) dX6_kicks_114 115 rfl ?_
  refine r_aload_n hC 3 dX6_kicks_115 rfl 116 rfl ?_
  refine r_get (v := .ref (b 23)) hC kX6 23 rfl q2776 (fun _ h => h.get 0 rfl) rfl dX6_kicks_116 119 rfl ?_
  refine r_iconst hC 2 dX6_kicks_119 ic_2 120 rfl ?_
  refine r_iload hC 1 dX6_kicks_120 rfl 122 rfl ?_
  refine r_imul hC 2 dX6_kicks_122  (by decide) 123 rfl ?_
  refine r_iload hC 0 dX6_kicks_123 rfl 125 rfl ?_
  refine r_iadd hC 3 dX6_kicks_125  (by decide) 126 rfl ?_
  refine r_lald hC 3 (xix_n 3 (Nat.le_of_ble_eq_true rfl) (Nat.le_of_ble_eq_true rfl)) (fun _ h => h.get 3 rfl) (impQ t r 1 1) (by rw [← hu6, ← hu5, ← hu4]; rfl) dX6_kicks_126 127 rfl ?_
  refine r_ladd hC (((r 10) + (impQ t r 0 1)) + (impQ t r 1 1)) dX6_kicks_127  (rfl) 128 rfl ?_
  refine r_last (J := xSt F V0 [(b 0, .inr (5, mF b i j)), (b 7, .inl (1, 5, .inr (.inl t))), (a, .inl (1, 111, .inr (.inl (va_up u12 10 (((r 10) + (impQ t r 0 1)) + (impQ t r 1 1)))))), (b 23, .inl (1, 6, .inr (.inl u6)))]) hC 10 (xix_n 10 (Nat.le_of_ble_eq_true rfl) (Nat.le_of_ble_eq_true rfl)) (fun _ h => h.get 2 rfl) dX6_kicks_128 (fun _ h => h.set 2 _ rfl) 129 rfl ?_
  generalize hu13 : va_up u12 10 (((r 10) + (impQ t r 0 1)) + (impQ t r 1 1)) = u13
  refine r_aload_n hC 4 dX6_kicks_129 rfl 130 rfl ?_
  refine r_iload hC 1 dX6_kicks_130 rfl 132 rfl ?_
  refine r_invSr hC [.int 1] (.int 2) mSX6_secondOf q2736 (metX6_secondOf _ _ hG 1 (Nat.le_of_ble_eq_true rfl)) (fun _ _ => xIn.nil) ⟨rfl, rfl⟩ 0 0 rfl rfl (Nat.le_of_ble_eq_true rfl) (Nat.le_of_ble_eq_true rfl) rfl (Nat.le_of_ble_eq_true rfl) dX6_kicks_132 135 rfl ?_
  refine r_iconst hC 3 dX6_kicks_135 ic_3 136 rfl ?_
  refine r_iload hC 0 dX6_kicks_136 rfl 138 rfl ?_
  refine r_iadd hC 4 dX6_kicks_138  (by decide) 139 rfl ?_
  refine r_invSr hC [.int 2, .int 4] (.int 20) mSX6_at q2711 (metX6_at _ _ hG 2 4) (fun _ _ => xIn.nil) ⟨rfl, rfl⟩ 0 0 rfl rfl (Nat.le_of_ble_eq_true rfl) (Nat.le_of_ble_eq_true rfl) rfl (Nat.le_of_ble_eq_true rfl) dX6_kicks_139 142 rfl ?_
  refine r_dup2 hC dX6_kicks_142 rfl rfl 143 rfl ?_
  refine r_lald hC 20 (xix_n 20 (Nat.le_of_ble_eq_true rfl) (Nat.le_of_ble_eq_true rfl)) (fun _ h => h.get 2 rfl) (r 20) (by rw [← hu13, ← hu12, ← hu11, ← hu10, ← hu9, ← hu8, ← hu7]; rfl) dX6_kicks_143 144 rfl ?_
  refine r_aload_n hC 3 dX6_kicks_144 rfl 145 rfl ?_
  refine r_get (v := .ref (b 23)) hC kX6 23 rfl q2776 (fun _ h => h.get 0 rfl) rfl dX6_kicks_145 148 rfl ?_
  refine r_iconst hC 2 dX6_kicks_148 ic_2 149 rfl ?_
  refine r_iload hC 1 dX6_kicks_149 rfl 151 rfl ?_
  refine r_imul hC 2 dX6_kicks_151  (by decide) 152 rfl ?_
  refine r_iload hC 0 dX6_kicks_152 rfl 154 rfl ?_
  refine r_iadd hC 3 dX6_kicks_154  (by decide) 155 rfl ?_
  refine r_lald hC 3 (xix_n 3 (Nat.le_of_ble_eq_true rfl) (Nat.le_of_ble_eq_true rfl)) (fun _ h => h.get 3 rfl) (impQ t r 1 1) (by rw [← hu6, ← hu5, ← hu4]; rfl) dX6_kicks_155 156 rfl ?_
  refine r_lsub hC ((r 20) - (impQ t r 1 1)) dX6_kicks_156  (rfl) 157 rfl ?_
  refine r_last (J := xSt F V0 [(b 0, .inr (5, mF b i j)), (b 7, .inl (1, 5, .inr (.inl t))), (a, .inl (1, 111, .inr (.inl (va_up u13 20 ((r 20) - (impQ t r 1 1)))))), (b 23, .inl (1, 6, .inr (.inl u6)))]) hC 20 (xix_n 20 (Nat.le_of_ble_eq_true rfl) (Nat.le_of_ble_eq_true rfl)) (fun _ h => h.get 2 rfl) dX6_kicks_157 (fun _ h => h.set 2 _ rfl) 158 rfl ?_
  generalize hu14 : va_up u13 20 ((r 20) - (impQ t r 1 1)) = u14
  refine r_iinc hC 2 5 0 [(5, .int 2), (4, .int 1), (6, .long (impQ t r 2 1)), (0, .ref (b 0)), (1, .ref a), (2, .int 0), (3, .int 0)] dX6_kicks_158 rfl (by decide) (Nat.le_of_ble_eq_true rfl) rfl 161 rfl ?_
  refine r_goto hC 94 dX6_kicks_161 (by decide) ?_
  refine r_iload hC 0 dX6_kicks_94 rfl 96 rfl ?_
  refine r_iconst hC 2 dX6_kicks_96 ic_2 97 rfl ?_
  refine r_icge hC 164 dX6_kicks_97 (by decide) 100 rfl (fun _ => ?_) (fun h => absurd h (by decide))
  refine r_iinc hC 2 4 1 [(4, .int 2), (5, .int 2), (6, .long (impQ t r 2 1)), (0, .ref (b 0)), (1, .ref a), (2, .int 0), (3, .int 0)] dX6_kicks_164 rfl (by decide) (Nat.le_of_ble_eq_true rfl) rfl 167 rfl ?_
  refine r_goto hC 85 dX6_kicks_167 (by decide) ?_
  refine r_iload hC 0 dX6_kicks_85 rfl 87 rfl ?_
  refine r_iconst hC 3 dX6_kicks_87 ic_3 88 rfl ?_
  refine r_icge hC 170 dX6_kicks_88 (by decide) 91 rfl (fun h => absurd h (by decide)) (fun _ => ?_)
  refine r_iconst hC 0 dX6_kicks_91 ic_0 92 rfl ?_
  refine r_istore hC 5 [(5, .int 0), (4, .int 2), (6, .long (impQ t r 2 1)), (0, .ref (b 0)), (1, .ref a), (2, .int 0), (3, .int 0)] dX6_kicks_92 (Nat.le_of_ble_eq_true rfl) rfl 94 rfl ?_
  refine r_iload hC 0 dX6_kicks_94 rfl 96 rfl ?_
  refine r_iconst hC 2 dX6_kicks_96 ic_2 97 rfl ?_
  refine r_icge hC 164 dX6_kicks_97 (by decide) 100 rfl (fun h => absurd h (by decide)) (fun _ => ?_)
  refine r_aload_n hC 4 dX6_kicks_100 rfl 101 rfl ?_
  refine r_iload hC 1 dX6_kicks_101 rfl 103 rfl ?_
  refine r_invSr hC [.int 2] (.int 1) mSX6_firstOf q2733 (metX6_firstOf _ _ hG 2 (Nat.le_of_ble_eq_true rfl)) (fun _ _ => xIn.nil) ⟨rfl, rfl⟩ 0 0 rfl rfl (Nat.le_of_ble_eq_true rfl) (Nat.le_of_ble_eq_true rfl) rfl (Nat.le_of_ble_eq_true rfl) dX6_kicks_103 106 rfl ?_
  refine r_iconst hC 3 dX6_kicks_106 ic_3 107 rfl ?_
  refine r_iload hC 0 dX6_kicks_107 rfl 109 rfl ?_
  refine r_iadd hC 3 dX6_kicks_109  (by decide) 110 rfl ?_
  refine r_invSr hC [.int 1, .int 3] (.int 14) mSX6_at q2711 (metX6_at _ _ hG 1 3) (fun _ _ => xIn.nil) ⟨rfl, rfl⟩ 0 0 rfl rfl (Nat.le_of_ble_eq_true rfl) (Nat.le_of_ble_eq_true rfl) rfl (Nat.le_of_ble_eq_true rfl) dX6_kicks_110 113 rfl ?_
  refine r_dup2 hC dX6_kicks_113 rfl rfl 114 rfl ?_
  refine r_lald hC 14 (xix_n 14 (Nat.le_of_ble_eq_true rfl) (Nat.le_of_ble_eq_true rfl)) (fun _ h => h.get 2 rfl) ((r 14) - (impQ t r 0 0)) (by rw [← hu14, ← hu13, ← hu12, ← hu11, ← hu10, ← hu9, ← hu8]; rfl) dX6_kicks_114 115 rfl ?_
  refine r_aload_n hC 3 dX6_kicks_115 rfl 116 rfl ?_
  refine r_get (v := .ref (b 23)) hC kX6 23 rfl q2776 (fun _ h => h.get 0 rfl) rfl dX6_kicks_116 119 rfl ?_
  refine r_iconst hC 2 dX6_kicks_119 ic_2 120 rfl ?_
  refine r_iload hC 1 dX6_kicks_120 rfl 122 rfl ?_
  refine r_imul hC 4 dX6_kicks_122  (by decide) 123 rfl ?_
  refine r_iload hC 0 dX6_kicks_123 rfl 125 rfl ?_
  refine r_iadd hC 4 dX6_kicks_125  (by decide) 126 rfl ?_
  refine r_lald hC 4 (xix_n 4 (Nat.le_of_ble_eq_true rfl) (Nat.le_of_ble_eq_true rfl)) (fun _ h => h.get 3 rfl) (impQ t r 2 0) (by rw [← hu6, ← hu5]; rfl) dX6_kicks_126 127 rfl ?_
  refine r_ladd hC (((r 14) - (impQ t r 0 0)) + (impQ t r 2 0)) dX6_kicks_127  (rfl) 128 rfl ?_
  refine r_last (J := xSt F V0 [(b 0, .inr (5, mF b i j)), (b 7, .inl (1, 5, .inr (.inl t))), (a, .inl (1, 111, .inr (.inl (va_up u14 14 (((r 14) - (impQ t r 0 0)) + (impQ t r 2 0)))))), (b 23, .inl (1, 6, .inr (.inl u6)))]) hC 14 (xix_n 14 (Nat.le_of_ble_eq_true rfl) (Nat.le_of_ble_eq_true rfl)) (fun _ h => h.get 2 rfl) dX6_kicks_128 (fun _ h => h.set 2 _ rfl) 129 rfl ?_
  generalize hu15 : va_up u14 14 (((r 14) - (impQ t r 0 0)) + (impQ t r 2 0)) = u15
  refine r_aload_n hC 4 dX6_kicks_129 rfl 130 rfl ?_
  refine r_iload hC 1 dX6_kicks_130 rfl 132 rfl ?_
  refine r_invSr hC [.int 2] (.int 2) mSX6_secondOf q2736 (metX6_secondOf _ _ hG 2 (Nat.le_of_ble_eq_true rfl)) (fun _ _ => xIn.nil) ⟨rfl, rfl⟩ 0 0 rfl rfl (Nat.le_of_ble_eq_true rfl) (Nat.le_of_ble_eq_true rfl) rfl (Nat.le_of_ble_eq_true rfl) dX6_kicks_132 135 rfl ?_
  refine r_iconst hC 3 dX6_kicks_135 ic_3 136 rfl ?_
  refine r_iload hC 0 dX6_kicks_136 rfl 138 rfl ?_
  refine r_iadd hC 3 dX6_kicks_138  (by decide) 139 rfl ?_
  refine r_invSr hC [.int 2, .int 3] (.int 19) mSX6_at q2711 (metX6_at _ _ hG 2 3) (fun _ _ => xIn.nil) ⟨rfl, rfl⟩ 0 0 rfl rfl (Nat.le_of_ble_eq_true rfl) (Nat.le_of_ble_eq_true rfl) rfl (Nat.le_of_ble_eq_true rfl) dX6_kicks_139 142 rfl ?_
  refine r_dup2 hC dX6_kicks_142 rfl rfl 143 rfl ?_
  refine r_lald hC 19 (xix_n 19 (Nat.le_of_ble_eq_true rfl) (Nat.le_of_ble_eq_true rfl)) (fun _ h => h.get 2 rfl) ((r 19) - (impQ t r 1 0)) (by rw [← hu15, ← hu14, ← hu13, ← hu12]; rfl) dX6_kicks_143 144 rfl ?_
  refine r_aload_n hC 3 dX6_kicks_144 rfl 145 rfl ?_
  refine r_get (v := .ref (b 23)) hC kX6 23 rfl q2776 (fun _ h => h.get 0 rfl) rfl dX6_kicks_145 148 rfl ?_
  refine r_iconst hC 2 dX6_kicks_148 ic_2 149 rfl ?_
  refine r_iload hC 1 dX6_kicks_149 rfl 151 rfl ?_
  refine r_imul hC 4 dX6_kicks_151  (by decide) 152 rfl ?_
  refine r_iload hC 0 dX6_kicks_152 rfl 154 rfl ?_
  refine r_iadd hC 4 dX6_kicks_154  (by decide) 155 rfl ?_
  refine r_lald hC 4 (xix_n 4 (Nat.le_of_ble_eq_true rfl) (Nat.le_of_ble_eq_true rfl)) (fun _ h => h.get 3 rfl) (impQ t r 2 0) (by rw [← hu6, ← hu5]; rfl) dX6_kicks_155 156 rfl ?_
  refine r_lsub hC (((r 19) - (impQ t r 1 0)) - (impQ t r 2 0)) dX6_kicks_156  (rfl) 157 rfl ?_
  refine r_last (J := xSt F V0 [(b 0, .inr (5, mF b i j)), (b 7, .inl (1, 5, .inr (.inl t))), (a, .inl (1, 111, .inr (.inl (va_up u15 19 (((r 19) - (impQ t r 1 0)) - (impQ t r 2 0)))))), (b 23, .inl (1, 6, .inr (.inl u6)))]) hC 19 (xix_n 19 (Nat.le_of_ble_eq_true rfl) (Nat.le_of_ble_eq_true rfl)) (fun _ h => h.get 2 rfl) dX6_kicks_157 (fun _ h => h.set 2 _ rfl) 158 rfl ?_
  generalize hu16 : va_up u15 19 (((r 19) - (impQ t r 1 0)) - (impQ t r 2 0)) = u16
  refine r_iinc hC 1 5 0 [(5, .int 1), (4, .int 2), (6, .long (impQ t r 2 1)), (0, .ref (b 0)), (1, .ref a), (2, .int 0), (3, .int 0)] dX6_kicks_158 rfl (by decide) (Nat.le_of_ble_eq_true rfl) rfl 161 rfl ?_
  refine r_goto hC 94 dX6_kicks_161 (by decide) ?_
  refine r_iload hC 0 dX6_kicks_94 rfl 96 rfl ?_
  refine r_iconst hC 2 dX6_kicks_96 ic_2 97 rfl ?_
  refine r_icge hC 164 dX6_kicks_97 (by decide) 100 rfl (fun h => absurd h (by decide)) (fun _ => ?_)
  refine r_aload_n hC 4 dX6_kicks_100 rfl 101 rfl ?_
  refine r_iload hC 1 dX6_kicks_101 rfl 103 rfl ?_
  refine r_invSr hC [.int 2] (.int 1) mSX6_firstOf q2733 (metX6_firstOf _ _ hG 2 (Nat.le_of_ble_eq_true rfl)) (fun _ _ => xIn.nil) ⟨rfl, rfl⟩ 0 0 rfl rfl (Nat.le_of_ble_eq_true rfl) (Nat.le_of_ble_eq_true rfl) rfl (Nat.le_of_ble_eq_true rfl) dX6_kicks_103 106 rfl ?_
  refine r_iconst hC 3 dX6_kicks_106 ic_3 107 rfl ?_
  refine r_iload hC 0 dX6_kicks_107 rfl 109 rfl ?_
  refine r_iadd hC 4 dX6_kicks_109  (by decide) 110 rfl ?_
  refine r_invSr hC [.int 1, .int 4] (.int 15) mSX6_at q2711 (metX6_at _ _ hG 1 4) (fun _ _ => xIn.nil) ⟨rfl, rfl⟩ 0 0 rfl rfl (Nat.le_of_ble_eq_true rfl) (Nat.le_of_ble_eq_true rfl) rfl (Nat.le_of_ble_eq_true rfl) dX6_kicks_110 113 rfl ?_
  refine r_dup2 hC dX6_kicks_113 rfl rfl 114 rfl ?_
  refine r_lald hC 15 (xix_n 15 (Nat.le_of_ble_eq_true rfl) (Nat.le_of_ble_eq_true rfl)) (fun _ h => h.get 2 rfl) ((r 15) - (impQ t r 0 1)) (by rw [← hu16, ← hu15, ← hu14, ← hu13, ← hu12, ← hu11, ← hu10]; rfl) dX6_kicks_114 115 rfl ?_
  refine r_aload_n hC 3 dX6_kicks_115 rfl 116 rfl ?_
  refine r_get (v := .ref (b 23)) hC kX6 23 rfl q2776 (fun _ h => h.get 0 rfl) rfl dX6_kicks_116 119 rfl ?_
  refine r_iconst hC 2 dX6_kicks_119 ic_2 120 rfl ?_
  refine r_iload hC 1 dX6_kicks_120 rfl 122 rfl ?_
  refine r_imul hC 4 dX6_kicks_122  (by decide) 123 rfl ?_
  refine r_iload hC 0 dX6_kicks_123 rfl 125 rfl ?_
  refine r_iadd hC 5 dX6_kicks_125  (by decide) 126 rfl ?_
  refine r_lald hC 5 (xix_n 5 (Nat.le_of_ble_eq_true rfl) (Nat.le_of_ble_eq_true rfl)) (fun _ h => h.get 3 rfl) (impQ t r 2 1) (by rw [← hu6]; rfl) dX6_kicks_126 127 rfl ?_
  refine r_ladd hC (((r 15) - (impQ t r 0 1)) + (impQ t r 2 1)) dX6_kicks_127  (rfl) 128 rfl ?_
  refine r_last (J := xSt F V0 [(b 0, .inr (5, mF b i j)), (b 7, .inl (1, 5, .inr (.inl t))), (a, .inl (1, 111, .inr (.inl (va_up u16 15 (((r 15) - (impQ t r 0 1)) + (impQ t r 2 1)))))), (b 23, .inl (1, 6, .inr (.inl u6)))]) hC 15 (xix_n 15 (Nat.le_of_ble_eq_true rfl) (Nat.le_of_ble_eq_true rfl)) (fun _ h => h.get 2 rfl) dX6_kicks_128 (fun _ h => h.set 2 _ rfl) 129 rfl ?_
  generalize hu17 : va_up u16 15 (((r 15) - (impQ t r 0 1)) + (impQ t r 2 1)) = u17
  refine r_aload_n hC 4 dX6_kicks_129 rfl 130 rfl ?_
  refine r_iload hC 1 dX6_kicks_130 rfl 132 rfl ?_
  refine r_invSr hC [.int 2] (.int 2) mSX6_secondOf q2736 (metX6_secondOf _ _ hG 2 (Nat.le_of_ble_eq_true rfl)) (fun _ _ => xIn.nil) ⟨rfl, rfl⟩ 0 0 rfl rfl (Nat.le_of_ble_eq_true rfl) (Nat.le_of_ble_eq_true rfl) rfl (Nat.le_of_ble_eq_true rfl) dX6_kicks_132 135 rfl ?_
  refine r_iconst hC 3 dX6_kicks_135 ic_3 136 rfl ?_
  refine r_iload hC 0 dX6_kicks_136 rfl 138 rfl ?_
  refine r_iadd hC 4 dX6_kicks_138  (by decide) 139 rfl ?_
  refine r_invSr hC [.int 2, .int 4] (.int 20) mSX6_at q2711 (metX6_at _ _ hG 2 4) (fun _ _ => xIn.nil) ⟨rfl, rfl⟩ 0 0 rfl rfl (Nat.le_of_ble_eq_true rfl) (Nat.le_of_ble_eq_true rfl) rfl (Nat.le_of_ble_eq_true rfl) dX6_kicks_139 142 rfl ?_
  refine r_dup2 hC dX6_kicks_142 rfl rfl 143 rfl ?_
  refine r_lald hC 20 (xix_n 20 (Nat.le_of_ble_eq_true rfl) (Nat.le_of_ble_eq_true rfl)) (fun _ h => h.get 2 rfl) ((r 20) - (impQ t r 1 1)) (by rw [← hu17, ← hu16, ← hu15, ← hu14]; rfl) dX6_kicks_143 144 rfl ?_
  refine r_aload_n hC 3 dX6_kicks_144 rfl 145 rfl ?_
  refine r_get (v := .ref (b 23)) hC kX6 23 rfl q2776 (fun _ h => h.get 0 rfl) rfl dX6_kicks_145 148 rfl ?_
  refine r_iconst hC 2 dX6_kicks_148 ic_2 149 rfl ?_
  refine r_iload hC 1 dX6_kicks_149 rfl 151 rfl ?_
  refine r_imul hC 4 dX6_kicks_151  (by decide) 152 rfl ?_
  refine r_iload hC 0 dX6_kicks_152 rfl 154 rfl ?_
  refine r_iadd hC 5 dX6_kicks_154  (by decide) 155 rfl ?_
  refine r_lald hC 5 (xix_n 5 (Nat.le_of_ble_eq_true rfl) (Nat.le_of_ble_eq_true rfl)) (fun _ h => h.get 3 rfl) (impQ t r 2 1) (by rw [← hu6]; rfl) dX6_kicks_155 156 rfl ?_
  refine r_lsub hC (((r 20) - (impQ t r 1 1)) - (impQ t r 2 1)) dX6_kicks_156  (rfl) 157 rfl ?_
  refine r_last (J := xSt F V0 [(b 0, .inr (5, mF b i j)), (b 7, .inl (1, 5, .inr (.inl t))), (a, .inl (1, 111, .inr (.inl (va_up u17 20 (((r 20) - (impQ t r 1 1)) - (impQ t r 2 1)))))), (b 23, .inl (1, 6, .inr (.inl u6)))]) hC 20 (xix_n 20 (Nat.le_of_ble_eq_true rfl) (Nat.le_of_ble_eq_true rfl)) (fun _ h => h.get 2 rfl) dX6_kicks_157 (fun _ h => h.set 2 _ rfl) 158 rfl ?_
  generalize hu18 : va_up u17 20 (((r 20) - (impQ t r 1 1)) - (impQ t r 2 1)) = u18
  refine r_iinc hC 2 5 0 [(5, .int 2), (4, .int 2), (6, .long (impQ t r 2 1)), (0, .ref (b 0)), (1, .ref a), (2, .int 0), (3, .int 0)] dX6_kicks_158 rfl (by decide) (Nat.le_of_ble_eq_true rfl) rfl 161 rfl ?_
  refine r_goto hC 94 dX6_kicks_161 (by decide) ?_
  refine r_iload hC 0 dX6_kicks_94 rfl 96 rfl ?_
  refine r_iconst hC 2 dX6_kicks_96 ic_2 97 rfl ?_
  refine r_icge hC 164 dX6_kicks_97 (by decide) 100 rfl (fun _ => ?_) (fun h => absurd h (by decide))
  refine r_iinc hC 3 4 1 [(4, .int 3), (5, .int 2), (6, .long (impQ t r 2 1)), (0, .ref (b 0)), (1, .ref a), (2, .int 0), (3, .int 0)] dX6_kicks_164 rfl (by decide) (Nat.le_of_ble_eq_true rfl) rfl 167 rfl ?_
  refine r_goto hC 85 dX6_kicks_167 (by decide) ?_
  refine r_iload hC 0 dX6_kicks_85 rfl 87 rfl ?_
  refine r_iconst hC 3 dX6_kicks_87 ic_3 88 rfl ?_
  refine r_icge hC 170 dX6_kicks_88 (by decide) 91 rfl (fun _ => ?_) (fun h => absurd h (by decide))
  subst hu18
  subst hu17
  subst hu16
  subst hu15
  subst hu14
  subst hu13
  subst hu12
  subst hu11
  subst hu10
  subst hu9
  subst hu8
  subst hu7
  subst hu6
  subst hu5
  subst hu4
  subst hu3
  subst hu2
  subst hu1
  exact r_vret hC (Nat.le_of_ble_eq_true rfl) (Nat.le_of_ble_eq_true rfl) (fun V9 h => hQ _ _ ⟨[(b 0, .inr (5, mF b i j)), (b 7, .inl (1, 5, .inr (.inl t))), (a, .inl (1, 111, .inr (.inl (va_up (va_up (va_up (va_up (va_up (va_up (va_up (va_up (va_up (va_up (va_up (va_up r 9 ((r 9) + (impQ t r 0 0))) 14 ((r 14) - (impQ t r 0 0))) 10 ((r 10) + (impQ t r 0 1))) 15 ((r 15) - (impQ t r 0 1))) 9 (((r 9) + (impQ t r 0 0)) + (impQ t r 1 0))) 19 ((r 19) - (impQ t r 1 0))) 10 (((r 10) + (impQ t r 0 1)) + (impQ t r 1 1))) 20 ((r 20) - (impQ t r 1 1))) 14 (((r 14) - (impQ t r 0 0)) + (impQ t r 2 0))) 19 (((r 19) - (impQ t r 1 0)) - (impQ t r 2 0))) 15 (((r 15) - (impQ t r 0 1)) + (impQ t r 2 1))) 20 (((r 20) - (impQ t r 1 1)) - (impQ t r 2 1)))))), (b 23, .inl (1, 6, .inr (.inl (va_up (va_up (va_up (va_up (va_up (va_up g 0 (impQ t r 0 0)) 1 (impQ t r 0 1)) 2 (impQ t r 1 0)) 3 (impQ t r 1 1)) 4 (impQ t r 2 0)) 5 (impQ t r 2 1)))))], ⟨(va_up (va_up (va_up (va_up (va_up (va_up g 0 (impQ t r 0 0)) 1 (impQ t r 0 1)) 2 (impQ t r 1 0)) 3 (impQ t r 1 1)) 4 (impQ t r 2 0)) 5 (impQ t r 2 1)), rfl, by rw [kick_eq00]⟩, by rw [← hV0, ← hF]; exact h⟩) dX6_kicks_170
set_option maxHeartbeats 4000000 in
set_option maxRecDepth 100000 in
theorem kick_eq01 (t r : Nat → Int64) : va_up (va_up (va_up (va_up (va_up (va_up (va_up (va_up (va_up (va_up (va_up (va_up r 9 ((r 9) + (-(impQ t r 0 0)))) 14 ((r 14) - (-(impQ t r 0 0)))) 10 ((r 10) + (-(impQ t r 0 1)))) 15 ((r 15) - (-(impQ t r 0 1)))) 9 (((r 9) + (-(impQ t r 0 0))) + (-(impQ t r 1 0)))) 19 ((r 19) - (-(impQ t r 1 0)))) 10 (((r 10) + (-(impQ t r 0 1))) + (-(impQ t r 1 1)))) 20 ((r 20) - (-(impQ t r 1 1)))) 14 (((r 14) - (-(impQ t r 0 0))) + (-(impQ t r 2 0)))) 19 (((r 19) - (-(impQ t r 1 0))) - (-(impQ t r 2 0)))) 15 (((r 15) - (-(impQ t r 0 1))) + (-(impQ t r 2 1)))) 20 (((r 20) - (-(impQ t r 1 1))) - (-(impQ t r 2 1))) = kickQ t r false true := by
  funext k
  by_cases h9 : k = 9
  · subst h9; simp [kickQ, gQ, va_up]
  by_cases h10 : k = 10
  · subst h10; simp [kickQ, gQ, va_up]
  by_cases h14 : k = 14
  · subst h14; simp [kickQ, gQ, va_up]
  by_cases h15 : k = 15
  · subst h15; simp [kickQ, gQ, va_up]
  by_cases h19 : k = 19
  · subst h19; simp [kickQ, gQ, va_up]
  by_cases h20 : k = 20
  · subst h20; simp [kickQ, gQ, va_up]
  simp only [kickQ, va_up, h9, h10, h14, h15, h19, h20, if_false]
set_option maxHeartbeats 4000000 in
set_option maxRecDepth 100000 in
theorem metX6_kicks01 (l : Launch) (G : xG) (hG : xGood G) (b : Nat → Nat) (i : Nat → Int32) (j : Nat → Int64) (t : Nat → Int64) (a : Nat) (r : Nat → Int64) (g : Nat → Int64) (hok : rowOK t r) : xWm l G yX6_kicks (Cond.code yX6_kicks cX6_kicks 8 none) { frames := 5, locals := 124, cells := 0, slots := 0 } [.ref (b 0), .ref a, .int 0, .int 1] [(b 0, .inr (5, mF b i j)), (b 7, .inl (1, 5, .inr (.inl t))), (a, .inl (1, 111, .inr (.inl r))), (b 23, .inl (1, 6, .inr (.inl g)))] (fun v w' => ∃ g' : Nat → Int64, v = none ∧ w' = [(b 0, .inr (5, mF b i j)), (b 7, .inl (1, 5, .inr (.inl t))), (a, .inl (1, 111, .inr (.inl (kickQ t r false true)))), (b 23, .inl (1, 6, .inr (.inl g')))]) (fun _ _ => False) := by
  intro V hV
  refine xMet_of RX6 hG rfl (by decide) (Nat.le_of_ble_eq_true rfl) fun C hC hQ hX hl hg _ => ?_
  subst hl hg
  obtain ⟨V0, hV0⟩ : ∃ V0, V0 = V := ⟨_, rfl⟩
  obtain ⟨F, hF⟩ : ∃ F, F = xF [(b 0, .inr (5, mF b i j)), (b 7, .inl (1, 5, .inr (.inl t))), (a, .inl (1, 111, .inr (.inl r))), (b 23, .inl (1, 6, .inr (.inl g)))] := ⟨_, rfl⟩
  refine rn.mono (J := xSt F V0 [(b 0, .inr (5, mF b i j)), (b 7, .inl (1, 5, .inr (.inl t))), (a, .inl (1, 111, .inr (.inl r))), (b 23, .inl (1, 6, .inr (.inl g)))]) (fun V9 h => by rw [h, hV0, hF]; exact hV.st) ?_
  show rn C (xSt F V0 [(b 0, .inr (5, mF b i j)), (b 7, .inl (1, 5, .inr (.inl t))), (a, .inl (1, 111, .inr (.inl r))), (b 23, .inl (1, 6, .inr (.inl g)))]) 0 0 0 [(0, .ref (b 0)), (1, .ref a), (2, .int 0), (3, .int 1)] []
  refine r_iconst hC 0 dX6_kicks_0 ic_0 1 rfl ?_
  refine r_istore hC 4 [(4, .int 0), (0, .ref (b 0)), (1, .ref a), (2, .int 0), (3, .int 1)] dX6_kicks_1 (Nat.le_of_ble_eq_true rfl) rfl 3 rfl ?_
  refine r_iload hC 0 dX6_kicks_3 rfl 5 rfl ?_
  refine r_iconst hC 3 dX6_kicks_5 ic_3 6 rfl ?_
  refine r_icge hC 82 dX6_kicks_6 (by decide) 9 rfl (fun h => absurd h (by decide)) (fun _ => ?_)
  refine r_iconst hC 0 dX6_kicks_9 ic_0 10 rfl ?_
  refine r_istore hC 5 [(5, .int 0), (4, .int 0), (0, .ref (b 0)), (1, .ref a), (2, .int 0), (3, .int 1)] dX6_kicks_10 (Nat.le_of_ble_eq_true rfl) rfl 12 rfl ?_
  refine r_iload hC 0 dX6_kicks_12 rfl 14 rfl ?_
  refine r_iconst hC 2 dX6_kicks_14 ic_2 15 rfl ?_
  refine r_icge hC 76 dX6_kicks_15 (by decide) 18 rfl (fun h => absurd h (by decide)) (fun _ => ?_)
  refine r_aload_n hC 2 dX6_kicks_18 rfl 19 rfl ?_
  refine r_aload_n hC 3 dX6_kicks_19 rfl 20 rfl ?_
  refine r_iload hC 1 dX6_kicks_20 rfl 22 rfl ?_
  refine r_iload hC 0 dX6_kicks_22 rfl 24 rfl ?_
  refine r_invVr hC kX6 (b 0) [.ref a, .int 0, .int 0] (.long (impQ t r 0 0)) mVX6_impulseOf q3014 (fun _ h => h.get 0 rfl) (metX6_impulseOf _ _ hG b _ _ _ a _ 0 0 (Nat.le_of_ble_eq_true rfl) (Nat.le_of_ble_eq_true rfl) (hok)) (fun _ h => h.in.sub [0, 1, 2] rfl rfl) ⟨rfl, rfl⟩ 0 0 rfl rfl (Nat.le_of_ble_eq_true rfl) (Nat.le_of_ble_eq_true rfl) rfl (Nat.le_of_ble_eq_true rfl) dX6_kicks_24 27 rfl ?_
  refine r_lstore hC 6 [(6, .long (impQ t r 0 0)), (5, .int 0), (4, .int 0), (0, .ref (b 0)), (1, .ref a), (2, .int 0), (3, .int 1)] dX6_kicks_27 (Nat.le_of_ble_eq_true rfl) rfl 29 rfl ?_
  refine r_iload_n hC 5 dX6_kicks_29 rfl 30 rfl ?_
  refine r_ifeq hC 42 dX6_kicks_30 (by decide) 33 rfl (fun _ => ?_) (fun h => absurd h (by decide))
  refine r_lload hC 0 dX6_kicks_42 rfl 44 rfl ?_
  refine r_lstore hC 6 [(6, .long (impQ t r 0 0)), (5, .int 0), (4, .int 0), (0, .ref (b 0)), (1, .ref a), (2, .int 0), (3, .int 1)] dX6_kicks_44 (Nat.le_of_ble_eq_true rfl) rfl 46 rfl ?_
  refine r_aload_n hC 3 dX6_kicks_46 rfl 47 rfl ?_
  refine r_get (v := .ref (b 23)) hC kX6 23 rfl q2776 (fun _ h => h.get 0 rfl) rfl dX6_kicks_47 50 rfl ?_
  refine r_iconst hC 2 dX6_kicks_50 ic_2 51 rfl ?_
  refine r_iload hC 2 dX6_kicks_51 rfl 53 rfl ?_
  refine r_imul hC 0 dX6_kicks_53  (by decide) 54 rfl ?_
  refine r_iload hC 1 dX6_kicks_54 rfl 56 rfl ?_
  refine r_iadd hC 0 dX6_kicks_56  (by decide) 57 rfl ?_
  refine r_iload_n hC 6 dX6_kicks_57 rfl 58 rfl ?_
  refine r_ifeq hC 67 dX6_kicks_58 (by decide) 61 rfl (fun h => absurd h (by decide)) (fun _ => ?_)
  refine r_lload hC 0 dX6_kicks_61 rfl 63 rfl ?_
  refine r_lneg hC (-(impQ t r 0 0)) dX6_kicks_63 (rfl) 64 rfl ?_
  refine r_goto hC 69 dX6_kicks_64 (by decide) ?_
  refine r_last (J := xSt F V0 [(b 0, .inr (5, mF b i j)), (b 7, .inl (1, 5, .inr (.inl t))), (a, .inl (1, 111, .inr (.inl r))), (b 23, .inl (1, 6, .inr (.inl (va_up g 0 (-(impQ t r 0 0))))))]) hC 0 (xix_n 0 (Nat.le_of_ble_eq_true rfl) (Nat.le_of_ble_eq_true rfl)) (fun _ h => h.get 3 rfl) dX6_kicks_69 (fun _ h => h.set 3 _ rfl) 70 rfl ?_
  generalize hu1 : va_up g 0 (-(impQ t r 0 0)) = u1
  refine r_iinc hC 1 5 1 [(5, .int 1), (6, .long (impQ t r 0 0)), (4, .int 0), (0, .ref (b 0)), (1, .ref a), (2, .int 0), (3, .int 1)] dX6_kicks_70 rfl (by decide) (Nat.le_of_ble_eq_true rfl) rfl 73 rfl ?_
  refine r_goto hC 12 dX6_kicks_73 (by decide) ?_
  refine r_iload hC 0 dX6_kicks_12 rfl 14 rfl ?_
  refine r_iconst hC 2 dX6_kicks_14 ic_2 15 rfl ?_
  refine r_icge hC 76 dX6_kicks_15 (by decide) 18 rfl (fun h => absurd h (by decide)) (fun _ => ?_)
  refine r_aload_n hC 3 dX6_kicks_18 rfl 19 rfl ?_
  refine r_aload_n hC 4 dX6_kicks_19 rfl 20 rfl ?_
  refine r_iload hC 2 dX6_kicks_20 rfl 22 rfl ?_
  refine r_iload hC 0 dX6_kicks_22 rfl 24 rfl ?_
  refine r_invVr hC kX6 (b 0) [.ref a, .int 0, .int 1] (.long (impQ t r 0 1)) mVX6_impulseOf q3014 (fun _ h => h.get 0 rfl) (metX6_impulseOf _ _ hG b _ _ _ a _ 0 1 (Nat.le_of_ble_eq_true rfl) (Nat.le_of_ble_eq_true rfl) (hok)) (fun _ h => h.in.sub [0, 1, 2] rfl rfl) ⟨rfl, rfl⟩ 0 0 rfl rfl (Nat.le_of_ble_eq_true rfl) (Nat.le_of_ble_eq_true rfl) rfl (Nat.le_of_ble_eq_true rfl) dX6_kicks_24 27 rfl ?_
  refine r_lstore hC 6 [(6, .long (impQ t r 0 1)), (5, .int 1), (4, .int 0), (0, .ref (b 0)), (1, .ref a), (2, .int 0), (3, .int 1)] dX6_kicks_27 (Nat.le_of_ble_eq_true rfl) rfl 29 rfl ?_
  refine r_iload_n hC 5 dX6_kicks_29 rfl 30 rfl ?_
  refine r_ifeq hC 42 dX6_kicks_30 (by decide) 33 rfl (fun _ => ?_) (fun h => absurd h (by decide))
  refine r_lload hC 0 dX6_kicks_42 rfl 44 rfl ?_
  refine r_lstore hC 6 [(6, .long (impQ t r 0 1)), (5, .int 1), (4, .int 0), (0, .ref (b 0)), (1, .ref a), (2, .int 0), (3, .int 1)] dX6_kicks_44 (Nat.le_of_ble_eq_true rfl) rfl 46 rfl ?_
  refine r_aload_n hC 3 dX6_kicks_46 rfl 47 rfl ?_
  refine r_get (v := .ref (b 23)) hC kX6 23 rfl q2776 (fun _ h => h.get 0 rfl) rfl dX6_kicks_47 50 rfl ?_
  refine r_iconst hC 2 dX6_kicks_50 ic_2 51 rfl ?_
  refine r_iload hC 2 dX6_kicks_51 rfl 53 rfl ?_
  refine r_imul hC 0 dX6_kicks_53  (by decide) 54 rfl ?_
  refine r_iload hC 1 dX6_kicks_54 rfl 56 rfl ?_
  refine r_iadd hC 1 dX6_kicks_56  (by decide) 57 rfl ?_
  refine r_iload_n hC 6 dX6_kicks_57 rfl 58 rfl ?_
  refine r_ifeq hC 67 dX6_kicks_58 (by decide) 61 rfl (fun h => absurd h (by decide)) (fun _ => ?_)
  refine r_lload hC 0 dX6_kicks_61 rfl 63 rfl ?_
  refine r_lneg hC (-(impQ t r 0 1)) dX6_kicks_63 (rfl) 64 rfl ?_
  refine r_goto hC 69 dX6_kicks_64 (by decide) ?_
  refine r_last (J := xSt F V0 [(b 0, .inr (5, mF b i j)), (b 7, .inl (1, 5, .inr (.inl t))), (a, .inl (1, 111, .inr (.inl r))), (b 23, .inl (1, 6, .inr (.inl (va_up u1 1 (-(impQ t r 0 1))))))]) hC 1 (xix_n 1 (Nat.le_of_ble_eq_true rfl) (Nat.le_of_ble_eq_true rfl)) (fun _ h => h.get 3 rfl) dX6_kicks_69 (fun _ h => h.set 3 _ rfl) 70 rfl ?_
  generalize hu2 : va_up u1 1 (-(impQ t r 0 1)) = u2
  refine r_iinc hC 2 5 1 [(5, .int 2), (6, .long (impQ t r 0 1)), (4, .int 0), (0, .ref (b 0)), (1, .ref a), (2, .int 0), (3, .int 1)] dX6_kicks_70 rfl (by decide) (Nat.le_of_ble_eq_true rfl) rfl 73 rfl ?_
  refine r_goto hC 12 dX6_kicks_73 (by decide) ?_
  refine r_iload hC 0 dX6_kicks_12 rfl 14 rfl ?_
  refine r_iconst hC 2 dX6_kicks_14 ic_2 15 rfl ?_
  refine r_icge hC 76 dX6_kicks_15 (by decide) 18 rfl (fun _ => ?_) (fun h => absurd h (by decide))
  refine r_iinc hC 1 4 2 [(4, .int 1), (5, .int 2), (6, .long (impQ t r 0 1)), (0, .ref (b 0)), (1, .ref a), (2, .int 0), (3, .int 1)] dX6_kicks_76 rfl (by decide) (Nat.le_of_ble_eq_true rfl) rfl 79 rfl ?_
  refine r_goto hC 3 dX6_kicks_79 (by decide) ?_
  refine r_iload hC 0 dX6_kicks_3 rfl 5 rfl ?_
  refine r_iconst hC 3 dX6_kicks_5 ic_3 6 rfl ?_
  refine r_icge hC 82 dX6_kicks_6 (by decide) 9 rfl (fun h => absurd h (by decide)) (fun _ => ?_)
  refine r_iconst hC 0 dX6_kicks_9 ic_0 10 rfl ?_
  refine r_istore hC 5 [(5, .int 0), (4, .int 1), (6, .long (impQ t r 0 1)), (0, .ref (b 0)), (1, .ref a), (2, .int 0), (3, .int 1)] dX6_kicks_10 (Nat.le_of_ble_eq_true rfl) rfl 12 rfl ?_
  refine r_iload hC 0 dX6_kicks_12 rfl 14 rfl ?_
  refine r_iconst hC 2 dX6_kicks_14 ic_2 15 rfl ?_
  refine r_icge hC 76 dX6_kicks_15 (by decide) 18 rfl (fun h => absurd h (by decide)) (fun _ => ?_)
  refine r_aload_n hC 3 dX6_kicks_18 rfl 19 rfl ?_
  refine r_aload_n hC 4 dX6_kicks_19 rfl 20 rfl ?_
  refine r_iload hC 1 dX6_kicks_20 rfl 22 rfl ?_
  refine r_iload hC 0 dX6_kicks_22 rfl 24 rfl ?_
  refine r_invVr hC kX6 (b 0) [.ref a, .int 1, .int 0] (.long (impQ t r 1 0)) mVX6_impulseOf q3014 (fun _ h => h.get 0 rfl) (metX6_impulseOf _ _ hG b _ _ _ a _ 1 0 (Nat.le_of_ble_eq_true rfl) (Nat.le_of_ble_eq_true rfl) (hok)) (fun _ h => h.in.sub [0, 1, 2] rfl rfl) ⟨rfl, rfl⟩ 0 0 rfl rfl (Nat.le_of_ble_eq_true rfl) (Nat.le_of_ble_eq_true rfl) rfl (Nat.le_of_ble_eq_true rfl) dX6_kicks_24 27 rfl ?_
  refine r_lstore hC 6 [(6, .long (impQ t r 1 0)), (5, .int 0), (4, .int 1), (0, .ref (b 0)), (1, .ref a), (2, .int 0), (3, .int 1)] dX6_kicks_27 (Nat.le_of_ble_eq_true rfl) rfl 29 rfl ?_
  refine r_iload_n hC 5 dX6_kicks_29 rfl 30 rfl ?_
  refine r_ifeq hC 42 dX6_kicks_30 (by decide) 33 rfl (fun _ => ?_) (fun h => absurd h (by decide))
  refine r_lload hC 0 dX6_kicks_42 rfl 44 rfl ?_
  refine r_lstore hC 6 [(6, .long (impQ t r 1 0)), (5, .int 0), (4, .int 1), (0, .ref (b 0)), (1, .ref a), (2, .int 0), (3, .int 1)] dX6_kicks_44 (Nat.le_of_ble_eq_true rfl) rfl 46 rfl ?_
  refine r_aload_n hC 3 dX6_kicks_46 rfl 47 rfl ?_
  refine r_get (v := .ref (b 23)) hC kX6 23 rfl q2776 (fun _ h => h.get 0 rfl) rfl dX6_kicks_47 50 rfl ?_
  refine r_iconst hC 2 dX6_kicks_50 ic_2 51 rfl ?_
  refine r_iload hC 2 dX6_kicks_51 rfl 53 rfl ?_
  refine r_imul hC 2 dX6_kicks_53  (by decide) 54 rfl ?_
  refine r_iload hC 1 dX6_kicks_54 rfl 56 rfl ?_
  refine r_iadd hC 2 dX6_kicks_56  (by decide) 57 rfl ?_
  refine r_iload_n hC 6 dX6_kicks_57 rfl 58 rfl ?_
  refine r_ifeq hC 67 dX6_kicks_58 (by decide) 61 rfl (fun h => absurd h (by decide)) (fun _ => ?_)
  refine r_lload hC 0 dX6_kicks_61 rfl 63 rfl ?_
  refine r_lneg hC (-(impQ t r 1 0)) dX6_kicks_63 (rfl) 64 rfl ?_
  refine r_goto hC 69 dX6_kicks_64 (by decide) ?_
  refine r_last (J := xSt F V0 [(b 0, .inr (5, mF b i j)), (b 7, .inl (1, 5, .inr (.inl t))), (a, .inl (1, 111, .inr (.inl r))), (b 23, .inl (1, 6, .inr (.inl (va_up u2 2 (-(impQ t r 1 0))))))]) hC 2 (xix_n 2 (Nat.le_of_ble_eq_true rfl) (Nat.le_of_ble_eq_true rfl)) (fun _ h => h.get 3 rfl) dX6_kicks_69 (fun _ h => h.set 3 _ rfl) 70 rfl ?_
  generalize hu3 : va_up u2 2 (-(impQ t r 1 0)) = u3
  refine r_iinc hC 1 5 1 [(5, .int 1), (6, .long (impQ t r 1 0)), (4, .int 1), (0, .ref (b 0)), (1, .ref a), (2, .int 0), (3, .int 1)] dX6_kicks_70 rfl (by decide) (Nat.le_of_ble_eq_true rfl) rfl 73 rfl ?_
  refine r_goto hC 12 dX6_kicks_73 (by decide) ?_
  refine r_iload hC 0 dX6_kicks_12 rfl 14 rfl ?_
  refine r_iconst hC 2 dX6_kicks_14 ic_2 15 rfl ?_
  refine r_icge hC 76 dX6_kicks_15 (by decide) 18 rfl (fun h => absurd h (by decide)) (fun _ => ?_)
  refine r_aload_n hC 3 dX6_kicks_18 rfl 19 rfl ?_
  refine r_aload_n hC 4 dX6_kicks_19 rfl 20 rfl ?_
  refine r_iload hC 2 dX6_kicks_20 rfl 22 rfl ?_
  refine r_iload hC 0 dX6_kicks_22 rfl 24 rfl ?_
  refine r_invVr hC kX6 (b 0) [.ref a, .int 1, .int 1] (.long (impQ t r 1 1)) mVX6_impulseOf q3014 (fun _ h => h.get 0 rfl) (metX6_impulseOf _ _ hG b _ _ _ a _ 1 1 (Nat.le_of_ble_eq_true rfl) (Nat.le_of_ble_eq_true rfl) (hok)) (fun _ h => h.in.sub [0, 1, 2] rfl rfl) ⟨rfl, rfl⟩ 0 0 rfl rfl (Nat.le_of_ble_eq_true rfl) (Nat.le_of_ble_eq_true rfl) rfl (Nat.le_of_ble_eq_true rfl) dX6_kicks_24 27 rfl ?_
  refine r_lstore hC 6 [(6, .long (impQ t r 1 1)), (5, .int 1), (4, .int 1), (0, .ref (b 0)), (1, .ref a), (2, .int 0), (3, .int 1)] dX6_kicks_27 (Nat.le_of_ble_eq_true rfl) rfl 29 rfl ?_
  refine r_iload_n hC 5 dX6_kicks_29 rfl 30 rfl ?_
  refine r_ifeq hC 42 dX6_kicks_30 (by decide) 33 rfl (fun _ => ?_) (fun h => absurd h (by decide))
  refine r_lload hC 0 dX6_kicks_42 rfl 44 rfl ?_
  refine r_lstore hC 6 [(6, .long (impQ t r 1 1)), (5, .int 1), (4, .int 1), (0, .ref (b 0)), (1, .ref a), (2, .int 0), (3, .int 1)] dX6_kicks_44 (Nat.le_of_ble_eq_true rfl) rfl 46 rfl ?_
  refine r_aload_n hC 3 dX6_kicks_46 rfl 47 rfl ?_
  refine r_get (v := .ref (b 23)) hC kX6 23 rfl q2776 (fun _ h => h.get 0 rfl) rfl dX6_kicks_47 50 rfl ?_
  refine r_iconst hC 2 dX6_kicks_50 ic_2 51 rfl ?_
  refine r_iload hC 2 dX6_kicks_51 rfl 53 rfl ?_
  refine r_imul hC 2 dX6_kicks_53  (by decide) 54 rfl ?_
  refine r_iload hC 1 dX6_kicks_54 rfl 56 rfl ?_
  refine r_iadd hC 3 dX6_kicks_56  (by decide) 57 rfl ?_
  refine r_iload_n hC 6 dX6_kicks_57 rfl 58 rfl ?_
  refine r_ifeq hC 67 dX6_kicks_58 (by decide) 61 rfl (fun h => absurd h (by decide)) (fun _ => ?_)
  refine r_lload hC 0 dX6_kicks_61 rfl 63 rfl ?_
  refine r_lneg hC (-(impQ t r 1 1)) dX6_kicks_63 (rfl) 64 rfl ?_
  refine r_goto hC 69 dX6_kicks_64 (by decide) ?_
  refine r_last (J := xSt F V0 [(b 0, .inr (5, mF b i j)), (b 7, .inl (1, 5, .inr (.inl t))), (a, .inl (1, 111, .inr (.inl r))), (b 23, .inl (1, 6, .inr (.inl (va_up u3 3 (-(impQ t r 1 1))))))]) hC 3 (xix_n 3 (Nat.le_of_ble_eq_true rfl) (Nat.le_of_ble_eq_true rfl)) (fun _ h => h.get 3 rfl) dX6_kicks_69 (fun _ h => h.set 3 _ rfl) 70 rfl ?_
  generalize hu4 : va_up u3 3 (-(impQ t r 1 1)) = u4
  refine r_iinc hC 2 5 1 [(5, .int 2), (6, .long (impQ t r 1 1)), (4, .int 1), (0, .ref (b 0)), (1, .ref a), (2, .int 0), (3, .int 1)] dX6_kicks_70 rfl (by decide) (Nat.le_of_ble_eq_true rfl) rfl 73 rfl ?_
  refine r_goto hC 12 dX6_kicks_73 (by decide) ?_
  refine r_iload hC 0 dX6_kicks_12 rfl 14 rfl ?_
  refine r_iconst hC 2 dX6_kicks_14 ic_2 15 rfl ?_
  refine r_icge hC 76 dX6_kicks_15 (by decide) 18 rfl (fun _ => ?_) (fun h => absurd h (by decide))
  refine r_iinc hC 2 4 2 [(4, .int 2), (5, .int 2), (6, .long (impQ t r 1 1)), (0, .ref (b 0)), (1, .ref a), (2, .int 0), (3, .int 1)] dX6_kicks_76 rfl (by decide) (Nat.le_of_ble_eq_true rfl) rfl 79 rfl ?_
  refine r_goto hC 3 dX6_kicks_79 (by decide) ?_
  refine r_iload hC 0 dX6_kicks_3 rfl 5 rfl ?_
  refine r_iconst hC 3 dX6_kicks_5 ic_3 6 rfl ?_
  refine r_icge hC 82 dX6_kicks_6 (by decide) 9 rfl (fun h => absurd h (by decide)) (fun _ => ?_)
  refine r_iconst hC 0 dX6_kicks_9 ic_0 10 rfl ?_
  refine r_istore hC 5 [(5, .int 0), (4, .int 2), (6, .long (impQ t r 1 1)), (0, .ref (b 0)), (1, .ref a), (2, .int 0), (3, .int 1)] dX6_kicks_10 (Nat.le_of_ble_eq_true rfl) rfl 12 rfl ?_
  refine r_iload hC 0 dX6_kicks_12 rfl 14 rfl ?_
  refine r_iconst hC 2 dX6_kicks_14 ic_2 15 rfl ?_
  refine r_icge hC 76 dX6_kicks_15 (by decide) 18 rfl (fun h => absurd h (by decide)) (fun _ => ?_)
  refine r_aload_n hC 3 dX6_kicks_18 rfl 19 rfl ?_
  refine r_aload_n hC 4 dX6_kicks_19 rfl 20 rfl ?_
  refine r_iload hC 1 dX6_kicks_20 rfl 22 rfl ?_
  refine r_iload hC 0 dX6_kicks_22 rfl 24 rfl ?_
  refine r_invVr hC kX6 (b 0) [.ref a, .int 2, .int 0] (.long (impQ t r 2 0)) mVX6_impulseOf q3014 (fun _ h => h.get 0 rfl) (metX6_impulseOf _ _ hG b _ _ _ a _ 2 0 (Nat.le_of_ble_eq_true rfl) (Nat.le_of_ble_eq_true rfl) (hok)) (fun _ h => h.in.sub [0, 1, 2] rfl rfl) ⟨rfl, rfl⟩ 0 0 rfl rfl (Nat.le_of_ble_eq_true rfl) (Nat.le_of_ble_eq_true rfl) rfl (Nat.le_of_ble_eq_true rfl) dX6_kicks_24 27 rfl ?_
  refine r_lstore hC 6 [(6, .long (impQ t r 2 0)), (5, .int 0), (4, .int 2), (0, .ref (b 0)), (1, .ref a), (2, .int 0), (3, .int 1)] dX6_kicks_27 (Nat.le_of_ble_eq_true rfl) rfl 29 rfl ?_
  refine r_iload_n hC 5 dX6_kicks_29 rfl 30 rfl ?_
  refine r_ifeq hC 42 dX6_kicks_30 (by decide) 33 rfl (fun _ => ?_) (fun h => absurd h (by decide))
  refine r_lload hC 0 dX6_kicks_42 rfl 44 rfl ?_
  refine r_lstore hC 6 [(6, .long (impQ t r 2 0)), (5, .int 0), (4, .int 2), (0, .ref (b 0)), (1, .ref a), (2, .int 0), (3, .int 1)] dX6_kicks_44 (Nat.le_of_ble_eq_true rfl) rfl 46 rfl ?_
  refine r_aload_n hC 3 dX6_kicks_46 rfl 47 rfl ?_
  refine r_get (v := .ref (b 23)) hC kX6 23 rfl q2776 (fun _ h => h.get 0 rfl) rfl dX6_kicks_47 50 rfl ?_
  refine r_iconst hC 2 dX6_kicks_50 ic_2 51 rfl ?_
  refine r_iload hC 2 dX6_kicks_51 rfl 53 rfl ?_
  refine r_imul hC 4 dX6_kicks_53  (by decide) 54 rfl ?_
  refine r_iload hC 1 dX6_kicks_54 rfl 56 rfl ?_
  refine r_iadd hC 4 dX6_kicks_56  (by decide) 57 rfl ?_
  refine r_iload_n hC 6 dX6_kicks_57 rfl 58 rfl ?_
  refine r_ifeq hC 67 dX6_kicks_58 (by decide) 61 rfl (fun h => absurd h (by decide)) (fun _ => ?_)
  refine r_lload hC 0 dX6_kicks_61 rfl 63 rfl ?_
  refine r_lneg hC (-(impQ t r 2 0)) dX6_kicks_63 (rfl) 64 rfl ?_
  refine r_goto hC 69 dX6_kicks_64 (by decide) ?_
  refine r_last (J := xSt F V0 [(b 0, .inr (5, mF b i j)), (b 7, .inl (1, 5, .inr (.inl t))), (a, .inl (1, 111, .inr (.inl r))), (b 23, .inl (1, 6, .inr (.inl (va_up u4 4 (-(impQ t r 2 0))))))]) hC 4 (xix_n 4 (Nat.le_of_ble_eq_true rfl) (Nat.le_of_ble_eq_true rfl)) (fun _ h => h.get 3 rfl) dX6_kicks_69 (fun _ h => h.set 3 _ rfl) 70 rfl ?_
  generalize hu5 : va_up u4 4 (-(impQ t r 2 0)) = u5
  refine r_iinc hC 1 5 1 [(5, .int 1), (6, .long (impQ t r 2 0)), (4, .int 2), (0, .ref (b 0)), (1, .ref a), (2, .int 0), (3, .int 1)] dX6_kicks_70 rfl (by decide) (Nat.le_of_ble_eq_true rfl) rfl 73 rfl ?_
  refine r_goto hC 12 dX6_kicks_73 (by decide) ?_
  refine r_iload hC 0 dX6_kicks_12 rfl 14 rfl ?_
  refine r_iconst hC 2 dX6_kicks_14 ic_2 15 rfl ?_
  refine r_icge hC 76 dX6_kicks_15 (by decide) 18 rfl (fun h => absurd h (by decide)) (fun _ => ?_)
  refine r_aload_n hC 3 dX6_kicks_18 rfl 19 rfl ?_
  refine r_aload_n hC 4 dX6_kicks_19 rfl 20 rfl ?_
  refine r_iload hC 2 dX6_kicks_20 rfl 22 rfl ?_
  refine r_iload hC 0 dX6_kicks_22 rfl 24 rfl ?_
  refine r_invVr hC kX6 (b 0) [.ref a, .int 2, .int 1] (.long (impQ t r 2 1)) mVX6_impulseOf q3014 (fun _ h => h.get 0 rfl) (metX6_impulseOf _ _ hG b _ _ _ a _ 2 1 (Nat.le_of_ble_eq_true rfl) (Nat.le_of_ble_eq_true rfl) (hok)) (fun _ h => h.in.sub [0, 1, 2] rfl rfl) ⟨rfl, rfl⟩ 0 0 rfl rfl (Nat.le_of_ble_eq_true rfl) (Nat.le_of_ble_eq_true rfl) rfl (Nat.le_of_ble_eq_true rfl) dX6_kicks_24 27 rfl ?_
  refine r_lstore hC 6 [(6, .long (impQ t r 2 1)), (5, .int 1), (4, .int 2), (0, .ref (b 0)), (1, .ref a), (2, .int 0), (3, .int 1)] dX6_kicks_27 (Nat.le_of_ble_eq_true rfl) rfl 29 rfl ?_
  refine r_iload_n hC 5 dX6_kicks_29 rfl 30 rfl ?_
  refine r_ifeq hC 42 dX6_kicks_30 (by decide) 33 rfl (fun _ => ?_) (fun h => absurd h (by decide))
  refine r_lload hC 0 dX6_kicks_42 rfl 44 rfl ?_
  refine r_lstore hC 6 [(6, .long (impQ t r 2 1)), (5, .int 1), (4, .int 2), (0, .ref (b 0)), (1, .ref a), (2, .int 0), (3, .int 1)] dX6_kicks_44 (Nat.le_of_ble_eq_true rfl) rfl 46 rfl ?_
  refine r_aload_n hC 3 dX6_kicks_46 rfl 47 rfl ?_
  refine r_get (v := .ref (b 23)) hC kX6 23 rfl q2776 (fun _ h => h.get 0 rfl) rfl dX6_kicks_47 50 rfl ?_
  refine r_iconst hC 2 dX6_kicks_50 ic_2 51 rfl ?_
  refine r_iload hC 2 dX6_kicks_51 rfl 53 rfl ?_
  refine r_imul hC 4 dX6_kicks_53  (by decide) 54 rfl ?_
  refine r_iload hC 1 dX6_kicks_54 rfl 56 rfl ?_
  refine r_iadd hC 5 dX6_kicks_56  (by decide) 57 rfl ?_
  refine r_iload_n hC 6 dX6_kicks_57 rfl 58 rfl ?_
  refine r_ifeq hC 67 dX6_kicks_58 (by decide) 61 rfl (fun h => absurd h (by decide)) (fun _ => ?_)
  refine r_lload hC 0 dX6_kicks_61 rfl 63 rfl ?_
  refine r_lneg hC (-(impQ t r 2 1)) dX6_kicks_63 (rfl) 64 rfl ?_
  refine r_goto hC 69 dX6_kicks_64 (by decide) ?_
  refine r_last (J := xSt F V0 [(b 0, .inr (5, mF b i j)), (b 7, .inl (1, 5, .inr (.inl t))), (a, .inl (1, 111, .inr (.inl r))), (b 23, .inl (1, 6, .inr (.inl (va_up u5 5 (-(impQ t r 2 1))))))]) hC 5 (xix_n 5 (Nat.le_of_ble_eq_true rfl) (Nat.le_of_ble_eq_true rfl)) (fun _ h => h.get 3 rfl) dX6_kicks_69 (fun _ h => h.set 3 _ rfl) 70 rfl ?_
  generalize hu6 : va_up u5 5 (-(impQ t r 2 1)) = u6
  refine r_iinc hC 2 5 1 [(5, .int 2), (6, .long (impQ t r 2 1)), (4, .int 2), (0, .ref (b 0)), (1, .ref a), (2, .int 0), (3, .int 1)] dX6_kicks_70 rfl (by decide) (Nat.le_of_ble_eq_true rfl) rfl 73 rfl ?_
  refine r_goto hC 12 dX6_kicks_73 (by decide) ?_
  refine r_iload hC 0 dX6_kicks_12 rfl 14 rfl ?_
  refine r_iconst hC 2 dX6_kicks_14 ic_2 15 rfl ?_
  refine r_icge hC 76 dX6_kicks_15 (by decide) 18 rfl (fun _ => ?_) (fun h => absurd h (by decide))
  refine r_iinc hC 3 4 2 [(4, .int 3), (5, .int 2), (6, .long (impQ t r 2 1)), (0, .ref (b 0)), (1, .ref a), (2, .int 0), (3, .int 1)] dX6_kicks_76 rfl (by decide) (Nat.le_of_ble_eq_true rfl) rfl 79 rfl ?_
  refine r_goto hC 3 dX6_kicks_79 (by decide) ?_
  refine r_iload hC 0 dX6_kicks_3 rfl 5 rfl ?_
  refine r_iconst hC 3 dX6_kicks_5 ic_3 6 rfl ?_
  refine r_icge hC 82 dX6_kicks_6 (by decide) 9 rfl (fun _ => ?_) (fun h => absurd h (by decide))
  refine r_iconst hC 0 dX6_kicks_82 ic_0 83 rfl ?_
  refine r_istore hC 4 [(4, .int 0), (5, .int 2), (6, .long (impQ t r 2 1)), (0, .ref (b 0)), (1, .ref a), (2, .int 0), (3, .int 1)] dX6_kicks_83 (Nat.le_of_ble_eq_true rfl) rfl 85 rfl ?_
  refine r_iload hC 0 dX6_kicks_85 rfl 87 rfl ?_
  refine r_iconst hC 3 dX6_kicks_87 ic_3 88 rfl ?_
  refine r_icge hC 170 dX6_kicks_88 (by decide) 91 rfl (fun h => absurd h (by decide)) (fun _ => ?_)
  refine r_iconst hC 0 dX6_kicks_91 ic_0 92 rfl ?_
  refine r_istore hC 5 [(5, .int 0), (4, .int 0), (6, .long (impQ t r 2 1)), (0, .ref (b 0)), (1, .ref a), (2, .int 0), (3, .int 1)] dX6_kicks_92 (Nat.le_of_ble_eq_true rfl) rfl 94 rfl ?_
  refine r_iload hC 0 dX6_kicks_94 rfl 96 rfl ?_
  refine r_iconst hC 2 dX6_kicks_96 ic_2 97 rfl ?_
  refine r_icge hC 164 dX6_kicks_97 (by decide) 100 rfl (fun h => absurd h (by decide)) (fun _ => ?_)
  refine r_aload_n hC 4 dX6_kicks_100 rfl 101 rfl ?_
  refine r_iload hC 1 dX6_kicks_101 rfl 103 rfl ?_
  refine r_invSr hC [.int 0] (.int 0) mSX6_firstOf q2733 (metX6_firstOf _ _ hG 0 (Nat.le_of_ble_eq_true rfl)) (fun _ _ => xIn.nil) ⟨rfl, rfl⟩ 0 0 rfl rfl (Nat.le_of_ble_eq_true rfl) (Nat.le_of_ble_eq_true rfl) rfl (Nat.le_of_ble_eq_true rfl) dX6_kicks_103 106 rfl ?_
  refine r_iconst hC 3 dX6_kicks_106 ic_3 107 rfl ?_
  refine r_iload hC 0 dX6_kicks_107 rfl 109 rfl ?_
  refine r_iadd hC 3 dX6_kicks_109  (by decide) 110 rfl ?_
  refine r_invSr hC [.int 0, .int 3] (.int 9) mSX6_at q2711 (metX6_at _ _ hG 0 3) (fun _ _ => xIn.nil) ⟨rfl, rfl⟩ 0 0 rfl rfl (Nat.le_of_ble_eq_true rfl) (Nat.le_of_ble_eq_true rfl) rfl (Nat.le_of_ble_eq_true rfl) dX6_kicks_110 113 rfl ?_
  refine r_dup2 hC dX6_kicks_113 rfl rfl 114 rfl ?_
  refine r_lald hC 9 (xix_n 9 (Nat.le_of_ble_eq_true rfl) (Nat.le_of_ble_eq_true rfl)) (fun _ h => h.get 2 rfl) (r 9) (rfl) dX6_kicks_114 115 rfl ?_
  refine r_aload_n hC 3 dX6_kicks_115 rfl 116 rfl ?_
  refine r_get (v := .ref (b 23)) hC kX6 23 rfl q2776 (fun _ h => h.get 0 rfl) rfl dX6_kicks_116 119 rfl ?_
  refine r_iconst hC 2 dX6_kicks_119 ic_2 120 rfl ?_
  refine r_iload hC 1 dX6_kicks_120 rfl 122 rfl ?_
  refine r_imul hC 0 dX6_kicks_122  (by decide) 123 rfl ?_
  refine r_iload hC 0 dX6_kicks_123 rfl 125 rfl ?_
  refine r_iadd hC 0 dX6_kicks_125  (by decide) 126 rfl ?_
  refine r_lald hC 0 (xix_n 0 (Nat.le_of_ble_eq_true rfl) (Nat.le_of_ble_eq_true rfl)) (fun _ h => h.get 3 rfl) (-(impQ t r 0 0)) (by rw [← hu6, ← hu5, ← hu4, ← hu3, ← hu2, ← hu1]; rfl) dX6_kicks_126 127 rfl ?_
  refine r_ladd hC ((r 9) + (-(impQ t r 0 0))) dX6_kicks_127  (rfl) 128 rfl ?_
  refine r_last (J := xSt F V0 [(b 0, .inr (5, mF b i j)), (b 7, .inl (1, 5, .inr (.inl t))), (a, .inl (1, 111, .inr (.inl (va_up r 9 ((r 9) + (-(impQ t r 0 0))))))), (b 23, .inl (1, 6, .inr (.inl u6)))]) hC 9 (xix_n 9 (Nat.le_of_ble_eq_true rfl) (Nat.le_of_ble_eq_true rfl)) (fun _ h => h.get 2 rfl) dX6_kicks_128 (fun _ h => h.set 2 _ rfl) 129 rfl ?_
  generalize hu7 : va_up r 9 ((r 9) + (-(impQ t r 0 0))) = u7
  refine r_aload_n hC 4 dX6_kicks_129 rfl 130 rfl ?_
  refine r_iload hC 1 dX6_kicks_130 rfl 132 rfl ?_
  refine r_invSr hC [.int 0] (.int 1) mSX6_secondOf q2736 (metX6_secondOf _ _ hG 0 (Nat.le_of_ble_eq_true rfl)) (fun _ _ => xIn.nil) ⟨rfl, rfl⟩ 0 0 rfl rfl (Nat.le_of_ble_eq_true rfl) (Nat.le_of_ble_eq_true rfl) rfl (Nat.le_of_ble_eq_true rfl) dX6_kicks_132 135 rfl ?_
  refine r_iconst hC 3 dX6_kicks_135 ic_3 136 rfl ?_
  refine r_iload hC 0 dX6_kicks_136 rfl 138 rfl ?_
  refine r_iadd hC 3 dX6_kicks_138  (by decide) 139 rfl ?_
  refine r_invSr hC [.int 1, .int 3] (.int 14) mSX6_at q2711 (metX6_at _ _ hG 1 3) (fun _ _ => xIn.nil) ⟨rfl, rfl⟩ 0 0 rfl rfl (Nat.le_of_ble_eq_true rfl) (Nat.le_of_ble_eq_true rfl) rfl (Nat.le_of_ble_eq_true rfl) dX6_kicks_139 142 rfl ?_
  refine r_dup2 hC dX6_kicks_142 rfl rfl 143 rfl ?_
  refine r_lald hC 14 (xix_n 14 (Nat.le_of_ble_eq_true rfl) (Nat.le_of_ble_eq_true rfl)) (fun _ h => h.get 2 rfl) (r 14) (by rw [← hu7]; rfl) dX6_kicks_143 144 rfl ?_
  refine r_aload_n hC 3 dX6_kicks_144 rfl 145 rfl ?_
  refine r_get (v := .ref (b 23)) hC kX6 23 rfl q2776 (fun _ h => h.get 0 rfl) rfl dX6_kicks_145 148 rfl ?_
  refine r_iconst hC 2 dX6_kicks_148 ic_2 149 rfl ?_
  refine r_iload hC 1 dX6_kicks_149 rfl 151 rfl ?_
  refine r_imul hC 0 dX6_kicks_151  (by decide) 152 rfl ?_
  refine r_iload hC 0 dX6_kicks_152 rfl 154 rfl ?_
  refine r_iadd hC 0 dX6_kicks_154  (by decide) 155 rfl ?_
  refine r_lald hC 0 (xix_n 0 (Nat.le_of_ble_eq_true rfl) (Nat.le_of_ble_eq_true rfl)) (fun _ h => h.get 3 rfl) (-(impQ t r 0 0)) (by rw [← hu6, ← hu5, ← hu4, ← hu3, ← hu2, ← hu1]; rfl) dX6_kicks_155 156 rfl ?_
  refine r_lsub hC ((r 14) - (-(impQ t r 0 0))) dX6_kicks_156  (rfl) 157 rfl ?_
  refine r_last (J := xSt F V0 [(b 0, .inr (5, mF b i j)), (b 7, .inl (1, 5, .inr (.inl t))), (a, .inl (1, 111, .inr (.inl (va_up u7 14 ((r 14) - (-(impQ t r 0 0))))))), (b 23, .inl (1, 6, .inr (.inl u6)))]) hC 14 (xix_n 14 (Nat.le_of_ble_eq_true rfl) (Nat.le_of_ble_eq_true rfl)) (fun _ h => h.get 2 rfl) dX6_kicks_157 (fun _ h => h.set 2 _ rfl) 158 rfl ?_
  generalize hu8 : va_up u7 14 ((r 14) - (-(impQ t r 0 0))) = u8
  refine r_iinc hC 1 5 0 [(5, .int 1), (4, .int 0), (6, .long (impQ t r 2 1)), (0, .ref (b 0)), (1, .ref a), (2, .int 0), (3, .int 1)] dX6_kicks_158 rfl (by decide) (Nat.le_of_ble_eq_true rfl) rfl 161 rfl ?_
  refine r_goto hC 94 dX6_kicks_161 (by decide) ?_
  refine r_iload hC 0 dX6_kicks_94 rfl 96 rfl ?_
  refine r_iconst hC 2 dX6_kicks_96 ic_2 97 rfl ?_
  refine r_icge hC 164 dX6_kicks_97 (by decide) 100 rfl (fun h => absurd h (by decide)) (fun _ => ?_)
  refine r_aload_n hC 4 dX6_kicks_100 rfl 101 rfl ?_
  refine r_iload hC 1 dX6_kicks_101 rfl 103 rfl ?_
  refine r_invSr hC [.int 0] (.int 0) mSX6_firstOf q2733 (metX6_firstOf _ _ hG 0 (Nat.le_of_ble_eq_true rfl)) (fun _ _ => xIn.nil) ⟨rfl, rfl⟩ 0 0 rfl rfl (Nat.le_of_ble_eq_true rfl) (Nat.le_of_ble_eq_true rfl) rfl (Nat.le_of_ble_eq_true rfl) dX6_kicks_103 106 rfl ?_
  refine r_iconst hC 3 dX6_kicks_106 ic_3 107 rfl ?_
  refine r_iload hC 0 dX6_kicks_107 rfl 109 rfl ?_
  refine r_iadd hC 4 dX6_kicks_109  (by decide) 110 rfl ?_
  refine r_invSr hC [.int 0, .int 4] (.int 10) mSX6_at q2711 (metX6_at _ _ hG 0 4) (fun _ _ => xIn.nil) ⟨rfl, rfl⟩ 0 0 rfl rfl (Nat.le_of_ble_eq_true rfl) (Nat.le_of_ble_eq_true rfl) rfl (Nat.le_of_ble_eq_true rfl) dX6_kicks_110 113 rfl ?_
  refine r_dup2 hC dX6_kicks_113 rfl rfl 114 rfl ?_
  refine r_lald hC 10 (xix_n 10 (Nat.le_of_ble_eq_true rfl) (Nat.le_of_ble_eq_true rfl)) (fun _ h => h.get 2 rfl) (r 10) (by rw [← hu8, ← hu7]; rfl) dX6_kicks_114 115 rfl ?_
  refine r_aload_n hC 3 dX6_kicks_115 rfl 116 rfl ?_
  refine r_get (v := .ref (b 23)) hC kX6 23 rfl q2776 (fun _ h => h.get 0 rfl) rfl dX6_kicks_116 119 rfl ?_
  refine r_iconst hC 2 dX6_kicks_119 ic_2 120 rfl ?_
  refine r_iload hC 1 dX6_kicks_120 rfl 122 rfl ?_
  refine r_imul hC 0 dX6_kicks_122  (by decide) 123 rfl ?_
  refine r_iload hC 0 dX6_kicks_123 rfl 125 rfl ?_
  refine r_iadd hC 1 dX6_kicks_125  (by decide) 126 rfl ?_
  refine r_lald hC 1 (xix_n 1 (Nat.le_of_ble_eq_true rfl) (Nat.le_of_ble_eq_true rfl)) (fun _ h => h.get 3 rfl) (-(impQ t r 0 1)) (by rw [← hu6, ← hu5, ← hu4, ← hu3, ← hu2]; rfl) dX6_kicks_126 127 rfl ?_
  refine r_ladd hC ((r 10) + (-(impQ t r 0 1))) dX6_kicks_127  (rfl) 128 rfl ?_
  refine r_last (J := xSt F V0 [(b 0, .inr (5, mF b i j)), (b 7, .inl (1, 5, .inr (.inl t))), (a, .inl (1, 111, .inr (.inl (va_up u8 10 ((r 10) + (-(impQ t r 0 1))))))), (b 23, .inl (1, 6, .inr (.inl u6)))]) hC 10 (xix_n 10 (Nat.le_of_ble_eq_true rfl) (Nat.le_of_ble_eq_true rfl)) (fun _ h => h.get 2 rfl) dX6_kicks_128 (fun _ h => h.set 2 _ rfl) 129 rfl ?_
  generalize hu9 : va_up u8 10 ((r 10) + (-(impQ t r 0 1))) = u9
  refine r_aload_n hC 4 dX6_kicks_129 rfl 130 rfl ?_
  refine r_iload hC 1 dX6_kicks_130 rfl 132 rfl ?_
  refine r_invSr hC [.int 0] (.int 1) mSX6_secondOf q2736 (metX6_secondOf _ _ hG 0 (Nat.le_of_ble_eq_true rfl)) (fun _ _ => xIn.nil) ⟨rfl, rfl⟩ 0 0 rfl rfl (Nat.le_of_ble_eq_true rfl) (Nat.le_of_ble_eq_true rfl) rfl (Nat.le_of_ble_eq_true rfl) dX6_kicks_132 135 rfl ?_
  refine r_iconst hC 3 dX6_kicks_135 ic_3 136 rfl ?_
  refine r_iload hC 0 dX6_kicks_136 rfl 138 rfl ?_
  refine r_iadd hC 4 dX6_kicks_138  (by decide) 139 rfl ?_
  refine r_invSr hC [.int 1, .int 4] (.int 15) mSX6_at q2711 (metX6_at _ _ hG 1 4) (fun _ _ => xIn.nil) ⟨rfl, rfl⟩ 0 0 rfl rfl (Nat.le_of_ble_eq_true rfl) (Nat.le_of_ble_eq_true rfl) rfl (Nat.le_of_ble_eq_true rfl) dX6_kicks_139 142 rfl ?_
  refine r_dup2 hC dX6_kicks_142 rfl rfl 143 rfl ?_
  refine r_lald hC 15 (xix_n 15 (Nat.le_of_ble_eq_true rfl) (Nat.le_of_ble_eq_true rfl)) (fun _ h => h.get 2 rfl) (r 15) (by rw [← hu9, ← hu8, ← hu7]; rfl) dX6_kicks_143 144 rfl ?_
  refine r_aload_n hC 3 dX6_kicks_144 rfl 145 rfl ?_
  refine r_get (v := .ref (b 23)) hC kX6 23 rfl q2776 (fun _ h => h.get 0 rfl) rfl dX6_kicks_145 148 rfl ?_
  refine r_iconst hC 2 dX6_kicks_148 ic_2 149 rfl ?_
  refine r_iload hC 1 dX6_kicks_149 rfl 151 rfl ?_
  refine r_imul hC 0 dX6_kicks_151  (by decide) 152 rfl ?_
  refine r_iload hC 0 dX6_kicks_152 rfl 154 rfl ?_
  refine r_iadd hC 1 dX6_kicks_154  (by decide) 155 rfl ?_
  refine r_lald hC 1 (xix_n 1 (Nat.le_of_ble_eq_true rfl) (Nat.le_of_ble_eq_true rfl)) (fun _ h => h.get 3 rfl) (-(impQ t r 0 1)) (by rw [← hu6, ← hu5, ← hu4, ← hu3, ← hu2]; rfl) dX6_kicks_155 156 rfl ?_
  refine r_lsub hC ((r 15) - (-(impQ t r 0 1))) dX6_kicks_156  (rfl) 157 rfl ?_
  refine r_last (J := xSt F V0 [(b 0, .inr (5, mF b i j)), (b 7, .inl (1, 5, .inr (.inl t))), (a, .inl (1, 111, .inr (.inl (va_up u9 15 ((r 15) - (-(impQ t r 0 1))))))), (b 23, .inl (1, 6, .inr (.inl u6)))]) hC 15 (xix_n 15 (Nat.le_of_ble_eq_true rfl) (Nat.le_of_ble_eq_true rfl)) (fun _ h => h.get 2 rfl) dX6_kicks_157 (fun _ h => h.set 2 _ rfl) 158 rfl ?_
  generalize hu10 : va_up u9 15 ((r 15) - (-(impQ t r 0 1))) = u10
  refine r_iinc hC 2 5 0 [(5, .int 2), (4, .int 0), (6, .long (impQ t r 2 1)), (0, .ref (b 0)), (1, .ref a), (2, .int 0), (3, .int 1)] dX6_kicks_158 rfl (by decide) (Nat.le_of_ble_eq_true rfl) rfl 161 rfl ?_
  refine r_goto hC 94 dX6_kicks_161 (by decide) ?_
  refine r_iload hC 0 dX6_kicks_94 rfl 96 rfl ?_
  refine r_iconst hC 2 dX6_kicks_96 ic_2 97 rfl ?_
  refine r_icge hC 164 dX6_kicks_97 (by decide) 100 rfl (fun _ => ?_) (fun h => absurd h (by decide))
  refine r_iinc hC 1 4 1 [(4, .int 1), (5, .int 2), (6, .long (impQ t r 2 1)), (0, .ref (b 0)), (1, .ref a), (2, .int 0), (3, .int 1)] dX6_kicks_164 rfl (by decide) (Nat.le_of_ble_eq_true rfl) rfl 167 rfl ?_
  refine r_goto hC 85 dX6_kicks_167 (by decide) ?_
  refine r_iload hC 0 dX6_kicks_85 rfl 87 rfl ?_
  refine r_iconst hC 3 dX6_kicks_87 ic_3 88 rfl ?_
  refine r_icge hC 170 dX6_kicks_88 (by decide) 91 rfl (fun h => absurd h (by decide)) (fun _ => ?_)
  refine r_iconst hC 0 dX6_kicks_91 ic_0 92 rfl ?_
  refine r_istore hC 5 [(5, .int 0), (4, .int 1), (6, .long (impQ t r 2 1)), (0, .ref (b 0)), (1, .ref a), (2, .int 0), (3, .int 1)] dX6_kicks_92 (Nat.le_of_ble_eq_true rfl) rfl 94 rfl ?_
  refine r_iload hC 0 dX6_kicks_94 rfl 96 rfl ?_
  refine r_iconst hC 2 dX6_kicks_96 ic_2 97 rfl ?_
  refine r_icge hC 164 dX6_kicks_97 (by decide) 100 rfl (fun h => absurd h (by decide)) (fun _ => ?_)
  refine r_aload_n hC 4 dX6_kicks_100 rfl 101 rfl ?_
  refine r_iload hC 1 dX6_kicks_101 rfl 103 rfl ?_
  refine r_invSr hC [.int 1] (.int 0) mSX6_firstOf q2733 (metX6_firstOf _ _ hG 1 (Nat.le_of_ble_eq_true rfl)) (fun _ _ => xIn.nil) ⟨rfl, rfl⟩ 0 0 rfl rfl (Nat.le_of_ble_eq_true rfl) (Nat.le_of_ble_eq_true rfl) rfl (Nat.le_of_ble_eq_true rfl) dX6_kicks_103 106 rfl ?_
  refine r_iconst hC 3 dX6_kicks_106 ic_3 107 rfl ?_
  refine r_iload hC 0 dX6_kicks_107 rfl 109 rfl ?_
  refine r_iadd hC 3 dX6_kicks_109  (by decide) 110 rfl ?_
  refine r_invSr hC [.int 0, .int 3] (.int 9) mSX6_at q2711 (metX6_at _ _ hG 0 3) (fun _ _ => xIn.nil) ⟨rfl, rfl⟩ 0 0 rfl rfl (Nat.le_of_ble_eq_true rfl) (Nat.le_of_ble_eq_true rfl) rfl (Nat.le_of_ble_eq_true rfl) dX6_kicks_110 113 rfl ?_
  refine r_dup2 hC dX6_kicks_113 rfl rfl 114 rfl ?_
  refine r_lald hC 9 (xix_n 9 (Nat.le_of_ble_eq_true rfl) (Nat.le_of_ble_eq_true rfl)) (fun _ h => h.get 2 rfl) ((r 9) + (-(impQ t r 0 0))) (by rw [← hu10, ← hu9, ← hu8, ← hu7]; rfl) dX6_kicks_114 115 rfl ?_
  refine r_aload_n hC 3 dX6_kicks_115 rfl 116 rfl ?_
  refine r_get (v := .ref (b 23)) hC kX6 23 rfl q2776 (fun _ h => h.get 0 rfl) rfl dX6_kicks_116 119 rfl ?_
  refine r_iconst hC 2 dX6_kicks_119 ic_2 120 rfl ?_
  refine r_iload hC 1 dX6_kicks_120 rfl 122 rfl ?_
  refine r_imul hC 2 dX6_kicks_122  (by decide) 123 rfl ?_
  refine r_iload hC 0 dX6_kicks_123 rfl 125 rfl ?_
  refine r_iadd hC 2 dX6_kicks_125  (by decide) 126 rfl ?_
  refine r_lald hC 2 (xix_n 2 (Nat.le_of_ble_eq_true rfl) (Nat.le_of_ble_eq_true rfl)) (fun _ h => h.get 3 rfl) (-(impQ t r 1 0)) (by rw [← hu6, ← hu5, ← hu4, ← hu3]; rfl) dX6_kicks_126 127 rfl ?_
  refine r_ladd hC (((r 9) + (-(impQ t r 0 0))) + (-(impQ t r 1 0))) dX6_kicks_127  (rfl) 128 rfl ?_
  refine r_last (J := xSt F V0 [(b 0, .inr (5, mF b i j)), (b 7, .inl (1, 5, .inr (.inl t))), (a, .inl (1, 111, .inr (.inl (va_up u10 9 (((r 9) + (-(impQ t r 0 0))) + (-(impQ t r 1 0))))))), (b 23, .inl (1, 6, .inr (.inl u6)))]) hC 9 (xix_n 9 (Nat.le_of_ble_eq_true rfl) (Nat.le_of_ble_eq_true rfl)) (fun _ h => h.get 2 rfl) dX6_kicks_128 (fun _ h => h.set 2 _ rfl) 129 rfl ?_
  generalize hu11 : va_up u10 9 (((r 9) + (-(impQ t r 0 0))) + (-(impQ t r 1 0))) = u11
  refine r_aload_n hC 4 dX6_kicks_129 rfl 130 rfl ?_
  refine r_iload hC 1 dX6_kicks_130 rfl 132 rfl ?_
  refine r_invSr hC [.int 1] (.int 2) mSX6_secondOf q2736 (metX6_secondOf _ _ hG 1 (Nat.le_of_ble_eq_true rfl)) (fun _ _ => xIn.nil) ⟨rfl, rfl⟩ 0 0 rfl rfl (Nat.le_of_ble_eq_true rfl) (Nat.le_of_ble_eq_true rfl) rfl (Nat.le_of_ble_eq_true rfl) dX6_kicks_132 135 rfl ?_
  refine r_iconst hC 3 dX6_kicks_135 ic_3 136 rfl ?_
  refine r_iload hC 0 dX6_kicks_136 rfl 138 rfl ?_
  refine r_iadd hC 3 dX6_kicks_138  (by decide) 139 rfl ?_
  refine r_invSr hC [.int 2, .int 3] (.int 19) mSX6_at q2711 (metX6_at _ _ hG 2 3) (fun _ _ => xIn.nil) ⟨rfl, rfl⟩ 0 0 rfl rfl (Nat.le_of_ble_eq_true rfl) (Nat.le_of_ble_eq_true rfl) rfl (Nat.le_of_ble_eq_true rfl) dX6_kicks_139 142 rfl ?_
  refine r_dup2 hC dX6_kicks_142 rfl rfl 143 rfl ?_
  refine r_lald hC 19 (xix_n 19 (Nat.le_of_ble_eq_true rfl) (Nat.le_of_ble_eq_true rfl)) (fun _ h => h.get 2 rfl) (r 19) (by rw [← hu11, ← hu10, ← hu9, ← hu8, ← hu7]; rfl) dX6_kicks_143 144 rfl ?_
  refine r_aload_n hC 3 dX6_kicks_144 rfl 145 rfl ?_
  refine r_get (v := .ref (b 23)) hC kX6 23 rfl q2776 (fun _ h => h.get 0 rfl) rfl dX6_kicks_145 148 rfl ?_
  refine r_iconst hC 2 dX6_kicks_148 ic_2 149 rfl ?_
  refine r_iload hC 1 dX6_kicks_149 rfl 151 rfl ?_
  refine r_imul hC 2 dX6_kicks_151  (by decide) 152 rfl ?_
  refine r_iload hC 0 dX6_kicks_152 rfl 154 rfl ?_
  refine r_iadd hC 2 dX6_kicks_154  (by decide) 155 rfl ?_
  refine r_lald hC 2 (xix_n 2 (Nat.le_of_ble_eq_true rfl) (Nat.le_of_ble_eq_true rfl)) (fun _ h => h.get 3 rfl) (-(impQ t r 1 0)) (by rw [← hu6, ← hu5, ← hu4, ← hu3]; rfl) dX6_kicks_155 156 rfl ?_
  refine r_lsub hC ((r 19) - (-(impQ t r 1 0))) dX6_kicks_156  (rfl) 157 rfl ?_
  refine r_last (J := xSt F V0 [(b 0, .inr (5, mF b i j)), (b 7, .inl (1, 5, .inr (.inl t))), (a, .inl (1, 111, .inr (.inl (va_up u11 19 ((r 19) - (-(impQ t r 1 0))))))), (b 23, .inl (1, 6, .inr (.inl u6)))]) hC 19 (xix_n 19 (Nat.le_of_ble_eq_true rfl) (Nat.le_of_ble_eq_true rfl)) (fun _ h => h.get 2 rfl) dX6_kicks_157 (fun _ h => h.set 2 _ rfl) 158 rfl ?_
  generalize hu12 : va_up u11 19 ((r 19) - (-(impQ t r 1 0))) = u12
  refine r_iinc hC 1 5 0 [(5, .int 1), (4, .int 1), (6, .long (impQ t r 2 1)), (0, .ref (b 0)), (1, .ref a), (2, .int 0), (3, .int 1)] dX6_kicks_158 rfl (by decide) (Nat.le_of_ble_eq_true rfl) rfl 161 rfl ?_
  refine r_goto hC 94 dX6_kicks_161 (by decide) ?_
  refine r_iload hC 0 dX6_kicks_94 rfl 96 rfl ?_
  refine r_iconst hC 2 dX6_kicks_96 ic_2 97 rfl ?_
  refine r_icge hC 164 dX6_kicks_97 (by decide) 100 rfl (fun h => absurd h (by decide)) (fun _ => ?_)
  refine r_aload_n hC 4 dX6_kicks_100 rfl 101 rfl ?_
  refine r_iload hC 1 dX6_kicks_101 rfl 103 rfl ?_
  refine r_invSr hC [.int 1] (.int 0) mSX6_firstOf q2733 (metX6_firstOf _ _ hG 1 (Nat.le_of_ble_eq_true rfl)) (fun _ _ => xIn.nil) ⟨rfl, rfl⟩ 0 0 rfl rfl (Nat.le_of_ble_eq_true rfl) (Nat.le_of_ble_eq_true rfl) rfl (Nat.le_of_ble_eq_true rfl) dX6_kicks_103 106 rfl ?_
  refine r_iconst hC 3 dX6_kicks_106 ic_3 107 rfl ?_
  refine r_iload hC 0 dX6_kicks_107 rfl 109 rfl ?_
  refine r_iadd hC 4 dX6_kicks_109  (by decide) 110 rfl ?_
  refine r_invSr hC [.int 0, .int 4] (.int 10) mSX6_at q2711 (metX6_at _ _ hG 0 4) (fun _ _ => xIn.nil) ⟨rfl, rfl⟩ 0 0 rfl rfl (Nat.le_of_ble_eq_true rfl) (Nat.le_of_ble_eq_true rfl) rfl (Nat.le_of_ble_eq_true rfl) dX6_kicks_110 113 rfl ?_
  refine r_dup2 hC dX6_kicks_113 rfl rfl 114 rfl ?_
  refine r_lald hC 10 (xix_n 10 (Nat.le_of_ble_eq_true rfl) (Nat.le_of_ble_eq_true rfl)) (fun _ h => h.get 2 rfl) ((r 10) + (-(impQ t r 0 1))) (by rw [← hu12, ← hu11, ← hu10, ← hu9]; rfl) dX6_kicks_114 115 rfl ?_
  refine r_aload_n hC 3 dX6_kicks_115 rfl 116 rfl ?_
  refine r_get (v := .ref (b 23)) hC kX6 23 rfl q2776 (fun _ h => h.get 0 rfl) rfl dX6_kicks_116 119 rfl ?_
  refine r_iconst hC 2 dX6_kicks_119 ic_2 120 rfl ?_
  refine r_iload hC 1 dX6_kicks_120 rfl 122 rfl ?_
  refine r_imul hC 2 dX6_kicks_122  (by decide) 123 rfl ?_
  refine r_iload hC 0 dX6_kicks_123 rfl 125 rfl ?_
  refine r_iadd hC 3 dX6_kicks_125  (by decide) 126 rfl ?_
  refine r_lald hC 3 (xix_n 3 (Nat.le_of_ble_eq_true rfl) (Nat.le_of_ble_eq_true rfl)) (fun _ h => h.get 3 rfl) (-(impQ t r 1 1)) (by rw [← hu6, ← hu5, ← hu4]; rfl) dX6_kicks_126 127 rfl ?_
  refine r_ladd hC (((r 10) + (-(impQ t r 0 1))) + (-(impQ t r 1 1))) dX6_kicks_127  (rfl) 128 rfl ?_
  refine r_last (J := xSt F V0 [(b 0, .inr (5, mF b i j)), (b 7, .inl (1, 5, .inr (.inl t))), (a, .inl (1, 111, .inr (.inl (va_up u12 10 (((r 10) + (-(impQ t r 0 1))) + (-(impQ t r 1 1))))))), (b 23, .inl (1, 6, .inr (.inl u6)))]) hC 10 (xix_n 10 (Nat.le_of_ble_eq_true rfl) (Nat.le_of_ble_eq_true rfl)) (fun _ h => h.get 2 rfl) dX6_kicks_128 (fun _ h => h.set 2 _ rfl) 129 rfl ?_
  generalize hu13 : va_up u12 10 (((r 10) + (-(impQ t r 0 1))) + (-(impQ t r 1 1))) = u13
  refine r_aload_n hC 4 dX6_kicks_129 rfl 130 rfl ?_
  refine r_iload hC 1 dX6_kicks_130 rfl 132 rfl ?_
  refine r_invSr hC [.int 1] (.int 2) mSX6_secondOf q2736 (metX6_secondOf _ _ hG 1 (Nat.le_of_ble_eq_true rfl)) (fun _ _ => xIn.nil) ⟨rfl, rfl⟩ 0 0 rfl rfl (Nat.le_of_ble_eq_true rfl) (Nat.le_of_ble_eq_true rfl) rfl (Nat.le_of_ble_eq_true rfl) dX6_kicks_132 135 rfl ?_
  refine r_iconst hC 3 dX6_kicks_135 ic_3 136 rfl ?_
  refine r_iload hC 0 dX6_kicks_136 rfl 138 rfl ?_
  refine r_iadd hC 4 dX6_kicks_138  (by decide) 139 rfl ?_
  refine r_invSr hC [.int 2, .int 4] (.int 20) mSX6_at q2711 (metX6_at _ _ hG 2 4) (fun _ _ => xIn.nil) ⟨rfl, rfl⟩ 0 0 rfl rfl (Nat.le_of_ble_eq_true rfl) (Nat.le_of_ble_eq_true rfl) rfl (Nat.le_of_ble_eq_true rfl) dX6_kicks_139 142 rfl ?_
  refine r_dup2 hC dX6_kicks_142 rfl rfl 143 rfl ?_
  refine r_lald hC 20 (xix_n 20 (Nat.le_of_ble_eq_true rfl) (Nat.le_of_ble_eq_true rfl)) (fun _ h => h.get 2 rfl) (r 20) (by rw [← hu13, ← hu12, ← hu11, ← hu10, ← hu9, ← hu8, ← hu7]; rfl) dX6_kicks_143 144 rfl ?_
  refine r_aload_n hC 3 dX6_kicks_144 rfl 145 rfl ?_
  refine r_get (v := .ref (b 23)) hC kX6 23 rfl q2776 (fun _ h => h.get 0 rfl) rfl dX6_kicks_145 148 rfl ?_
  refine r_iconst hC 2 dX6_kicks_148 ic_2 149 rfl ?_
  refine r_iload hC 1 dX6_kicks_149 rfl 151 rfl ?_
  refine r_imul hC 2 dX6_kicks_151  (by decide) 152 rfl ?_
  refine r_iload hC 0 dX6_kicks_152 rfl 154 rfl ?_
  refine r_iadd hC 3 dX6_kicks_154  (by decide) 155 rfl ?_
  refine r_lald hC 3 (xix_n 3 (Nat.le_of_ble_eq_true rfl) (Nat.le_of_ble_eq_true rfl)) (fun _ h => h.get 3 rfl) (-(impQ t r 1 1)) (by rw [← hu6, ← hu5, ← hu4]; rfl) dX6_kicks_155 156 rfl ?_
  refine r_lsub hC ((r 20) - (-(impQ t r 1 1))) dX6_kicks_156  (rfl) 157 rfl ?_
  refine r_last (J := xSt F V0 [(b 0, .inr (5, mF b i j)), (b 7, .inl (1, 5, .inr (.inl t))), (a, .inl (1, 111, .inr (.inl (va_up u13 20 ((r 20) - (-(impQ t r 1 1))))))), (b 23, .inl (1, 6, .inr (.inl u6)))]) hC 20 (xix_n 20 (Nat.le_of_ble_eq_true rfl) (Nat.le_of_ble_eq_true rfl)) (fun _ h => h.get 2 rfl) dX6_kicks_157 (fun _ h => h.set 2 _ rfl) 158 rfl ?_
  generalize hu14 : va_up u13 20 ((r 20) - (-(impQ t r 1 1))) = u14
  refine r_iinc hC 2 5 0 [(5, .int 2), (4, .int 1), (6, .long (impQ t r 2 1)), (0, .ref (b 0)), (1, .ref a), (2, .int 0), (3, .int 1)] dX6_kicks_158 rfl (by decide) (Nat.le_of_ble_eq_true rfl) rfl 161 rfl ?_
  refine r_goto hC 94 dX6_kicks_161 (by decide) ?_
  refine r_iload hC 0 dX6_kicks_94 rfl 96 rfl ?_
  refine r_iconst hC 2 dX6_kicks_96 ic_2 97 rfl ?_
  refine r_icge hC 164 dX6_kicks_97 (by decide) 100 rfl (fun _ => ?_) (fun h => absurd h (by decide))
  refine r_iinc hC 2 4 1 [(4, .int 2), (5, .int 2), (6, .long (impQ t r 2 1)), (0, .ref (b 0)), (1, .ref a), (2, .int 0), (3, .int 1)] dX6_kicks_164 rfl (by decide) (Nat.le_of_ble_eq_true rfl) rfl 167 rfl ?_
  refine r_goto hC 85 dX6_kicks_167 (by decide) ?_
  refine r_iload hC 0 dX6_kicks_85 rfl 87 rfl ?_
  refine r_iconst hC 3 dX6_kicks_87 ic_3 88 rfl ?_
  refine r_icge hC 170 dX6_kicks_88 (by decide) 91 rfl (fun h => absurd h (by decide)) (fun _ => ?_)
  refine r_iconst hC 0 dX6_kicks_91 ic_0 92 rfl ?_
  refine r_istore hC 5 [(5, .int 0), (4, .int 2), (6, .long (impQ t r 2 1)), (0, .ref (b 0)), (1, .ref a), (2, .int 0), (3, .int 1)] dX6_kicks_92 (Nat.le_of_ble_eq_true rfl) rfl 94 rfl ?_
  refine r_iload hC 0 dX6_kicks_94 rfl 96 rfl ?_
  refine r_iconst hC 2 dX6_kicks_96 ic_2 97 rfl ?_
  refine r_icge hC 164 dX6_kicks_97 (by decide) 100 rfl (fun h => absurd h (by decide)) (fun _ => ?_)
  refine r_aload_n hC 4 dX6_kicks_100 rfl 101 rfl ?_
  refine r_iload hC 1 dX6_kicks_101 rfl 103 rfl ?_
  refine r_invSr hC [.int 2] (.int 1) mSX6_firstOf q2733 (metX6_firstOf _ _ hG 2 (Nat.le_of_ble_eq_true rfl)) (fun _ _ => xIn.nil) ⟨rfl, rfl⟩ 0 0 rfl rfl (Nat.le_of_ble_eq_true rfl) (Nat.le_of_ble_eq_true rfl) rfl (Nat.le_of_ble_eq_true rfl) dX6_kicks_103 106 rfl ?_
  refine r_iconst hC 3 dX6_kicks_106 ic_3 107 rfl ?_
  refine r_iload hC 0 dX6_kicks_107 rfl 109 rfl ?_
  refine r_iadd hC 3 dX6_kicks_109  (by decide) 110 rfl ?_
  refine r_invSr hC [.int 1, .int 3] (.int 14) mSX6_at q2711 (metX6_at _ _ hG 1 3) (fun _ _ => xIn.nil) ⟨rfl, rfl⟩ 0 0 rfl rfl (Nat.le_of_ble_eq_true rfl) (Nat.le_of_ble_eq_true rfl) rfl (Nat.le_of_ble_eq_true rfl) dX6_kicks_110 113 rfl ?_
  refine r_dup2 hC dX6_kicks_113 rfl rfl 114 rfl ?_
  refine r_lald hC 14 (xix_n 14 (Nat.le_of_ble_eq_true rfl) (Nat.le_of_ble_eq_true rfl)) (fun _ h => h.get 2 rfl) ((r 14) - (-(impQ t r 0 0))) (by rw [← hu14, ← hu13, ← hu12, ← hu11, ← hu10, ← hu9, ← hu8]; rfl) dX6_kicks_114 115 rfl ?_
  refine r_aload_n hC 3 dX6_kicks_115 rfl 116 rfl ?_
  refine r_get (v := .ref (b 23)) hC kX6 23 rfl q2776 (fun _ h => h.get 0 rfl) rfl dX6_kicks_116 119 rfl ?_
  refine r_iconst hC 2 dX6_kicks_119 ic_2 120 rfl ?_
  refine r_iload hC 1 dX6_kicks_120 rfl 122 rfl ?_
  refine r_imul hC 4 dX6_kicks_122  (by decide) 123 rfl ?_
  refine r_iload hC 0 dX6_kicks_123 rfl 125 rfl ?_
  refine r_iadd hC 4 dX6_kicks_125  (by decide) 126 rfl ?_
  refine r_lald hC 4 (xix_n 4 (Nat.le_of_ble_eq_true rfl) (Nat.le_of_ble_eq_true rfl)) (fun _ h => h.get 3 rfl) (-(impQ t r 2 0)) (by rw [← hu6, ← hu5]; rfl) dX6_kicks_126 127 rfl ?_
  refine r_ladd hC (((r 14) - (-(impQ t r 0 0))) + (-(impQ t r 2 0))) dX6_kicks_127  (rfl) 128 rfl ?_
  refine r_last (J := xSt F V0 [(b 0, .inr (5, mF b i j)), (b 7, .inl (1, 5, .inr (.inl t))), (a, .inl (1, 111, .inr (.inl (va_up u14 14 (((r 14) - (-(impQ t r 0 0))) + (-(impQ t r 2 0))))))), (b 23, .inl (1, 6, .inr (.inl u6)))]) hC 14 (xix_n 14 (Nat.le_of_ble_eq_true rfl) (Nat.le_of_ble_eq_true rfl)) (fun _ h => h.get 2 rfl) dX6_kicks_128 (fun _ h => h.set 2 _ rfl) 129 rfl ?_
  generalize hu15 : va_up u14 14 (((r 14) - (-(impQ t r 0 0))) + (-(impQ t r 2 0))) = u15
  refine r_aload_n hC 4 dX6_kicks_129 rfl 130 rfl ?_
  refine r_iload hC 1 dX6_kicks_130 rfl 132 rfl ?_
  refine r_invSr hC [.int 2] (.int 2) mSX6_secondOf q2736 (metX6_secondOf _ _ hG 2 (Nat.le_of_ble_eq_true rfl)) (fun _ _ => xIn.nil) ⟨rfl, rfl⟩ 0 0 rfl rfl (Nat.le_of_ble_eq_true rfl) (Nat.le_of_ble_eq_true rfl) rfl (Nat.le_of_ble_eq_true rfl) dX6_kicks_132 135 rfl ?_
  refine r_iconst hC 3 dX6_kicks_135 ic_3 136 rfl ?_
  refine r_iload hC 0 dX6_kicks_136 rfl 138 rfl ?_
  refine r_iadd hC 3 dX6_kicks_138  (by decide) 139 rfl ?_
  refine r_invSr hC [.int 2, .int 3] (.int 19) mSX6_at q2711 (metX6_at _ _ hG 2 3) (fun _ _ => xIn.nil) ⟨rfl, rfl⟩ 0 0 rfl rfl (Nat.le_of_ble_eq_true rfl) (Nat.le_of_ble_eq_true rfl) rfl (Nat.le_of_ble_eq_true rfl) dX6_kicks_139 142 rfl ?_
  refine r_dup2 hC dX6_kicks_142 rfl rfl 143 rfl ?_
  refine r_lald hC 19 (xix_n 19 (Nat.le_of_ble_eq_true rfl) (Nat.le_of_ble_eq_true rfl)) (fun _ h => h.get 2 rfl) ((r 19) - (-(impQ t r 1 0))) (by rw [← hu15, ← hu14, ← hu13, ← hu12]; rfl) dX6_kicks_143 144 rfl ?_
  refine r_aload_n hC 3 dX6_kicks_144 rfl 145 rfl ?_
  refine r_get (v := .ref (b 23)) hC kX6 23 rfl q2776 (fun _ h => h.get 0 rfl) rfl dX6_kicks_145 148 rfl ?_
  refine r_iconst hC 2 dX6_kicks_148 ic_2 149 rfl ?_
  refine r_iload hC 1 dX6_kicks_149 rfl 151 rfl ?_
  refine r_imul hC 4 dX6_kicks_151  (by decide) 152 rfl ?_
  refine r_iload hC 0 dX6_kicks_152 rfl 154 rfl ?_
  refine r_iadd hC 4 dX6_kicks_154  (by decide) 155 rfl ?_
  refine r_lald hC 4 (xix_n 4 (Nat.le_of_ble_eq_true rfl) (Nat.le_of_ble_eq_true rfl)) (fun _ h => h.get 3 rfl) (-(impQ t r 2 0)) (by rw [← hu6, ← hu5]; rfl) dX6_kicks_155 156 rfl ?_
  refine r_lsub hC (((r 19) - (-(impQ t r 1 0))) - (-(impQ t r 2 0))) dX6_kicks_156  (rfl) 157 rfl ?_
  refine r_last (J := xSt F V0 [(b 0, .inr (5, mF b i j)), (b 7, .inl (1, 5, .inr (.inl t))), (a, .inl (1, 111, .inr (.inl (va_up u15 19 (((r 19) - (-(impQ t r 1 0))) - (-(impQ t r 2 0))))))), (b 23, .inl (1, 6, .inr (.inl u6)))]) hC 19 (xix_n 19 (Nat.le_of_ble_eq_true rfl) (Nat.le_of_ble_eq_true rfl)) (fun _ h => h.get 2 rfl) dX6_kicks_157 (fun _ h => h.set 2 _ rfl) 158 rfl ?_
  generalize hu16 : va_up u15 19 (((r 19) - (-(impQ t r 1 0))) - (-(impQ t r 2 0))) = u16
  refine r_iinc hC 1 5 0 [(5, .int 1), (4, .int 2), (6, .long (impQ t r 2 1)), (0, .ref (b 0)), (1, .ref a), (2, .int 0), (3, .int 1)] dX6_kicks_158 rfl (by decide) (Nat.le_of_ble_eq_true rfl) rfl 161 rfl ?_
  refine r_goto hC 94 dX6_kicks_161 (by decide) ?_
  refine r_iload hC 0 dX6_kicks_94 rfl 96 rfl ?_
  refine r_iconst hC 2 dX6_kicks_96 ic_2 97 rfl ?_
  refine r_icge hC 164 dX6_kicks_97 (by decide) 100 rfl (fun h => absurd h (by decide)) (fun _ => ?_)
  refine r_aload_n hC 4 dX6_kicks_100 rfl 101 rfl ?_
  refine r_iload hC 1 dX6_kicks_101 rfl 103 rfl ?_
  refine r_invSr hC [.int 2] (.int 1) mSX6_firstOf q2733 (metX6_firstOf _ _ hG 2 (Nat.le_of_ble_eq_true rfl)) (fun _ _ => xIn.nil) ⟨rfl, rfl⟩ 0 0 rfl rfl (Nat.le_of_ble_eq_true rfl) (Nat.le_of_ble_eq_true rfl) rfl (Nat.le_of_ble_eq_true rfl) dX6_kicks_103 106 rfl ?_
  refine r_iconst hC 3 dX6_kicks_106 ic_3 107 rfl ?_
  refine r_iload hC 0 dX6_kicks_107 rfl 109 rfl ?_
  refine r_iadd hC 4 dX6_kicks_109  (by decide) 110 rfl ?_
  refine r_invSr hC [.int 1, .int 4] (.int 15) mSX6_at q2711 (metX6_at _ _ hG 1 4) (fun _ _ => xIn.nil) ⟨rfl, rfl⟩ 0 0 rfl rfl (Nat.le_of_ble_eq_true rfl) (Nat.le_of_ble_eq_true rfl) rfl (Nat.le_of_ble_eq_true rfl) dX6_kicks_110 113 rfl ?_
  refine r_dup2 hC dX6_kicks_113 rfl rfl 114 rfl ?_
  refine r_lald hC 15 (xix_n 15 (Nat.le_of_ble_eq_true rfl) (Nat.le_of_ble_eq_true rfl)) (fun _ h => h.get 2 rfl) ((r 15) - (-(impQ t r 0 1))) (by rw [← hu16, ← hu15, ← hu14, ← hu13, ← hu12, ← hu11, ← hu10]; rfl) dX6_kicks_114 115 rfl ?_
  refine r_aload_n hC 3 dX6_kicks_115 rfl 116 rfl ?_
  refine r_get (v := .ref (b 23)) hC kX6 23 rfl q2776 (fun _ h => h.get 0 rfl) rfl dX6_kicks_116 119 rfl ?_
  refine r_iconst hC 2 dX6_kicks_119 ic_2 120 rfl ?_
  refine r_iload hC 1 dX6_kicks_120 rfl 122 rfl ?_
  refine r_imul hC 4 dX6_kicks_122  (by decide) 123 rfl ?_
  refine r_iload hC 0 dX6_kicks_123 rfl 125 rfl ?_
  refine r_iadd hC 5 dX6_kicks_125  (by decide) 126 rfl ?_
  refine r_lald hC 5 (xix_n 5 (Nat.le_of_ble_eq_true rfl) (Nat.le_of_ble_eq_true rfl)) (fun _ h => h.get 3 rfl) (-(impQ t r 2 1)) (by rw [← hu6]; rfl) dX6_kicks_126 127 rfl ?_
  refine r_ladd hC (((r 15) - (-(impQ t r 0 1))) + (-(impQ t r 2 1))) dX6_kicks_127  (rfl) 128 rfl ?_
  refine r_last (J := xSt F V0 [(b 0, .inr (5, mF b i j)), (b 7, .inl (1, 5, .inr (.inl t))), (a, .inl (1, 111, .inr (.inl (va_up u16 15 (((r 15) - (-(impQ t r 0 1))) + (-(impQ t r 2 1))))))), (b 23, .inl (1, 6, .inr (.inl u6)))]) hC 15 (xix_n 15 (Nat.le_of_ble_eq_true rfl) (Nat.le_of_ble_eq_true rfl)) (fun _ h => h.get 2 rfl) dX6_kicks_128 (fun _ h => h.set 2 _ rfl) 129 rfl ?_
  generalize hu17 : va_up u16 15 (((r 15) - (-(impQ t r 0 1))) + (-(impQ t r 2 1))) = u17
  refine r_aload_n hC 4 dX6_kicks_129 rfl 130 rfl ?_
  refine r_iload hC 1 dX6_kicks_130 rfl 132 rfl ?_
  refine r_invSr hC [.int 2] (.int 2) mSX6_secondOf q2736 (metX6_secondOf _ _ hG 2 (Nat.le_of_ble_eq_true rfl)) (fun _ _ => xIn.nil) ⟨rfl, rfl⟩ 0 0 rfl rfl (Nat.le_of_ble_eq_true rfl) (Nat.le_of_ble_eq_true rfl) rfl (Nat.le_of_ble_eq_true rfl) dX6_kicks_132 135 rfl ?_
  refine r_iconst hC 3 dX6_kicks_135 ic_3 136 rfl ?_
  refine r_iload hC 0 dX6_kicks_136 rfl 138 rfl ?_
  refine r_iadd hC 4 dX6_kicks_138  (by decide) 139 rfl ?_
  refine r_invSr hC [.int 2, .int 4] (.int 20) mSX6_at q2711 (metX6_at _ _ hG 2 4) (fun _ _ => xIn.nil) ⟨rfl, rfl⟩ 0 0 rfl rfl (Nat.le_of_ble_eq_true rfl) (Nat.le_of_ble_eq_true rfl) rfl (Nat.le_of_ble_eq_true rfl) dX6_kicks_139 142 rfl ?_
  refine r_dup2 hC dX6_kicks_142 rfl rfl 143 rfl ?_
  refine r_lald hC 20 (xix_n 20 (Nat.le_of_ble_eq_true rfl) (Nat.le_of_ble_eq_true rfl)) (fun _ h => h.get 2 rfl) ((r 20) - (-(impQ t r 1 1))) (by rw [← hu17, ← hu16, ← hu15, ← hu14]; rfl) dX6_kicks_143 144 rfl ?_
  refine r_aload_n hC 3 dX6_kicks_144 rfl 145 rfl ?_
  refine r_get (v := .ref (b 23)) hC kX6 23 rfl q2776 (fun _ h => h.get 0 rfl) rfl dX6_kicks_145 148 rfl ?_
  refine r_iconst hC 2 dX6_kicks_148 ic_2 149 rfl ?_
  refine r_iload hC 1 dX6_kicks_149 rfl 151 rfl ?_
  refine r_imul hC 4 dX6_kicks_151  (by decide) 152 rfl ?_
  refine r_iload hC 0 dX6_kicks_152 rfl 154 rfl ?_
  refine r_iadd hC 5 dX6_kicks_154  (by decide) 155 rfl ?_
  refine r_lald hC 5 (xix_n 5 (Nat.le_of_ble_eq_true rfl) (Nat.le_of_ble_eq_true rfl)) (fun _ h => h.get 3 rfl) (-(impQ t r 2 1)) (by rw [← hu6]; rfl) dX6_kicks_155 156 rfl ?_
  refine r_lsub hC (((r 20) - (-(impQ t r 1 1))) - (-(impQ t r 2 1))) dX6_kicks_156  (rfl) 157 rfl ?_
  refine r_last (J := xSt F V0 [(b 0, .inr (5, mF b i j)), (b 7, .inl (1, 5, .inr (.inl t))), (a, .inl (1, 111, .inr (.inl (va_up u17 20 (((r 20) - (-(impQ t r 1 1))) - (-(impQ t r 2 1))))))), (b 23, .inl (1, 6, .inr (.inl u6)))]) hC 20 (xix_n 20 (Nat.le_of_ble_eq_true rfl) (Nat.le_of_ble_eq_true rfl)) (fun _ h => h.get 2 rfl) dX6_kicks_157 (fun _ h => h.set 2 _ rfl) 158 rfl ?_
  generalize hu18 : va_up u17 20 (((r 20) - (-(impQ t r 1 1))) - (-(impQ t r 2 1))) = u18
  refine r_iinc hC 2 5 0 [(5, .int 2), (4, .int 2), (6, .long (impQ t r 2 1)), (0, .ref (b 0)), (1, .ref a), (2, .int 0), (3, .int 1)] dX6_kicks_158 rfl (by decide) (Nat.le_of_ble_eq_true rfl) rfl 161 rfl ?_
  refine r_goto hC 94 dX6_kicks_161 (by decide) ?_
  refine r_iload hC 0 dX6_kicks_94 rfl 96 rfl ?_
  refine r_iconst hC 2 dX6_kicks_96 ic_2 97 rfl ?_
  refine r_icge hC 164 dX6_kicks_97 (by decide) 100 rfl (fun _ => ?_) (fun h => absurd h (by decide))
  refine r_iinc hC 3 4 1 [(4, .int 3), (5, .int 2), (6, .long (impQ t r 2 1)), (0, .ref (b 0)), (1, .ref a), (2, .int 0), (3, .int 1)] dX6_kicks_164 rfl (by decide) (Nat.le_of_ble_eq_true rfl) rfl 167 rfl ?_
  refine r_goto hC 85 dX6_kicks_167 (by decide) ?_
  refine r_iload hC 0 dX6_kicks_85 rfl 87 rfl ?_
  refine r_iconst hC 3 dX6_kicks_87 ic_3 88 rfl ?_
  refine r_icge hC 170 dX6_kicks_88 (by decide) 91 rfl (fun _ => ?_) (fun h => absurd h (by decide))
  subst hu18
  subst hu17
  subst hu16
  subst hu15
  subst hu14
  subst hu13
  subst hu12
  subst hu11
  subst hu10
  subst hu9
  subst hu8
  subst hu7
  subst hu6
  subst hu5
  subst hu4
  subst hu3
  subst hu2
  subst hu1
  exact r_vret hC (Nat.le_of_ble_eq_true rfl) (Nat.le_of_ble_eq_true rfl) (fun V9 h => hQ _ _ ⟨[(b 0, .inr (5, mF b i j)), (b 7, .inl (1, 5, .inr (.inl t))), (a, .inl (1, 111, .inr (.inl (va_up (va_up (va_up (va_up (va_up (va_up (va_up (va_up (va_up (va_up (va_up (va_up r 9 ((r 9) + (-(impQ t r 0 0)))) 14 ((r 14) - (-(impQ t r 0 0)))) 10 ((r 10) + (-(impQ t r 0 1)))) 15 ((r 15) - (-(impQ t r 0 1)))) 9 (((r 9) + (-(impQ t r 0 0))) + (-(impQ t r 1 0)))) 19 ((r 19) - (-(impQ t r 1 0)))) 10 (((r 10) + (-(impQ t r 0 1))) + (-(impQ t r 1 1)))) 20 ((r 20) - (-(impQ t r 1 1)))) 14 (((r 14) - (-(impQ t r 0 0))) + (-(impQ t r 2 0)))) 19 (((r 19) - (-(impQ t r 1 0))) - (-(impQ t r 2 0)))) 15 (((r 15) - (-(impQ t r 0 1))) + (-(impQ t r 2 1)))) 20 (((r 20) - (-(impQ t r 1 1))) - (-(impQ t r 2 1))))))), (b 23, .inl (1, 6, .inr (.inl (va_up (va_up (va_up (va_up (va_up (va_up g 0 (-(impQ t r 0 0))) 1 (-(impQ t r 0 1))) 2 (-(impQ t r 1 0))) 3 (-(impQ t r 1 1))) 4 (-(impQ t r 2 0))) 5 (-(impQ t r 2 1))))))], ⟨(va_up (va_up (va_up (va_up (va_up (va_up g 0 (-(impQ t r 0 0))) 1 (-(impQ t r 0 1))) 2 (-(impQ t r 1 0))) 3 (-(impQ t r 1 1))) 4 (-(impQ t r 2 0))) 5 (-(impQ t r 2 1))), rfl, by rw [kick_eq01]⟩, by rw [← hV0, ← hF]; exact h⟩) dX6_kicks_170
set_option maxHeartbeats 4000000 in
set_option maxRecDepth 100000 in
theorem kick_eq10 (t r : Nat → Int64) : va_up (va_up (va_up (va_up (va_up (va_up (va_up (va_up (va_up (va_up (va_up (va_up r 9 ((r 9) + ((impQ t r 0 0) / 2))) 14 ((r 14) - ((impQ t r 0 0) / 2))) 10 ((r 10) + ((impQ t r 0 1) / 2))) 15 ((r 15) - ((impQ t r 0 1) / 2))) 9 (((r 9) + ((impQ t r 0 0) / 2)) + ((impQ t r 1 0) / 2))) 19 ((r 19) - ((impQ t r 1 0) / 2))) 10 (((r 10) + ((impQ t r 0 1) / 2)) + ((impQ t r 1 1) / 2))) 20 ((r 20) - ((impQ t r 1 1) / 2))) 14 (((r 14) - ((impQ t r 0 0) / 2)) + ((impQ t r 2 0) / 2))) 19 (((r 19) - ((impQ t r 1 0) / 2)) - ((impQ t r 2 0) / 2))) 15 (((r 15) - ((impQ t r 0 1) / 2)) + ((impQ t r 2 1) / 2))) 20 (((r 20) - ((impQ t r 1 1) / 2)) - ((impQ t r 2 1) / 2)) = kickQ t r true false := by
  funext k
  by_cases h9 : k = 9
  · subst h9; simp [kickQ, gQ, va_up]
  by_cases h10 : k = 10
  · subst h10; simp [kickQ, gQ, va_up]
  by_cases h14 : k = 14
  · subst h14; simp [kickQ, gQ, va_up]
  by_cases h15 : k = 15
  · subst h15; simp [kickQ, gQ, va_up]
  by_cases h19 : k = 19
  · subst h19; simp [kickQ, gQ, va_up]
  by_cases h20 : k = 20
  · subst h20; simp [kickQ, gQ, va_up]
  simp only [kickQ, va_up, h9, h10, h14, h15, h19, h20, if_false]
set_option maxHeartbeats 4000000 in
set_option maxRecDepth 100000 in
theorem metX6_kicks10 (l : Launch) (G : xG) (hG : xGood G) (b : Nat → Nat) (i : Nat → Int32) (j : Nat → Int64) (t : Nat → Int64) (a : Nat) (r : Nat → Int64) (g : Nat → Int64) (hok : rowOK t r) : xWm l G yX6_kicks (Cond.code yX6_kicks cX6_kicks 8 none) { frames := 5, locals := 124, cells := 0, slots := 0 } [.ref (b 0), .ref a, .int 1, .int 0] [(b 0, .inr (5, mF b i j)), (b 7, .inl (1, 5, .inr (.inl t))), (a, .inl (1, 111, .inr (.inl r))), (b 23, .inl (1, 6, .inr (.inl g)))] (fun v w' => ∃ g' : Nat → Int64, v = none ∧ w' = [(b 0, .inr (5, mF b i j)), (b 7, .inl (1, 5, .inr (.inl t))), (a, .inl (1, 111, .inr (.inl (kickQ t r true false)))), (b 23, .inl (1, 6, .inr (.inl g')))]) (fun _ _ => False) := by
  intro V hV
  refine xMet_of RX6 hG rfl (by decide) (Nat.le_of_ble_eq_true rfl) fun C hC hQ hX hl hg _ => ?_
  subst hl hg
  obtain ⟨V0, hV0⟩ : ∃ V0, V0 = V := ⟨_, rfl⟩
  obtain ⟨F, hF⟩ : ∃ F, F = xF [(b 0, .inr (5, mF b i j)), (b 7, .inl (1, 5, .inr (.inl t))), (a, .inl (1, 111, .inr (.inl r))), (b 23, .inl (1, 6, .inr (.inl g)))] := ⟨_, rfl⟩
  refine rn.mono (J := xSt F V0 [(b 0, .inr (5, mF b i j)), (b 7, .inl (1, 5, .inr (.inl t))), (a, .inl (1, 111, .inr (.inl r))), (b 23, .inl (1, 6, .inr (.inl g)))]) (fun V9 h => by rw [h, hV0, hF]; exact hV.st) ?_
  show rn C (xSt F V0 [(b 0, .inr (5, mF b i j)), (b 7, .inl (1, 5, .inr (.inl t))), (a, .inl (1, 111, .inr (.inl r))), (b 23, .inl (1, 6, .inr (.inl g)))]) 0 0 0 [(0, .ref (b 0)), (1, .ref a), (2, .int 1), (3, .int 0)] []
  refine r_iconst hC 0 dX6_kicks_0 ic_0 1 rfl ?_
  refine r_istore hC 4 [(4, .int 0), (0, .ref (b 0)), (1, .ref a), (2, .int 1), (3, .int 0)] dX6_kicks_1 (Nat.le_of_ble_eq_true rfl) rfl 3 rfl ?_
  refine r_iload hC 0 dX6_kicks_3 rfl 5 rfl ?_
  refine r_iconst hC 3 dX6_kicks_5 ic_3 6 rfl ?_
  refine r_icge hC 82 dX6_kicks_6 (by decide) 9 rfl (fun h => absurd h (by decide)) (fun _ => ?_)
  refine r_iconst hC 0 dX6_kicks_9 ic_0 10 rfl ?_
  refine r_istore hC 5 [(5, .int 0), (4, .int 0), (0, .ref (b 0)), (1, .ref a), (2, .int 1), (3, .int 0)] dX6_kicks_10 (Nat.le_of_ble_eq_true rfl) rfl 12 rfl ?_
  refine r_iload hC 0 dX6_kicks_12 rfl 14 rfl ?_
  refine r_iconst hC 2 dX6_kicks_14 ic_2 15 rfl ?_
  refine r_icge hC 76 dX6_kicks_15 (by decide) 18 rfl (fun h => absurd h (by decide)) (fun _ => ?_)
  refine r_aload_n hC 2 dX6_kicks_18 rfl 19 rfl ?_
  refine r_aload_n hC 3 dX6_kicks_19 rfl 20 rfl ?_
  refine r_iload hC 1 dX6_kicks_20 rfl 22 rfl ?_
  refine r_iload hC 0 dX6_kicks_22 rfl 24 rfl ?_
  refine r_invVr hC kX6 (b 0) [.ref a, .int 0, .int 0] (.long (impQ t r 0 0)) mVX6_impulseOf q3014 (fun _ h => h.get 0 rfl) (metX6_impulseOf _ _ hG b _ _ _ a _ 0 0 (Nat.le_of_ble_eq_true rfl) (Nat.le_of_ble_eq_true rfl) (hok)) (fun _ h => h.in.sub [0, 1, 2] rfl rfl) ⟨rfl, rfl⟩ 0 0 rfl rfl (Nat.le_of_ble_eq_true rfl) (Nat.le_of_ble_eq_true rfl) rfl (Nat.le_of_ble_eq_true rfl) dX6_kicks_24 27 rfl ?_
  refine r_lstore hC 6 [(6, .long (impQ t r 0 0)), (5, .int 0), (4, .int 0), (0, .ref (b 0)), (1, .ref a), (2, .int 1), (3, .int 0)] dX6_kicks_27 (Nat.le_of_ble_eq_true rfl) rfl 29 rfl ?_
  refine r_iload_n hC 5 dX6_kicks_29 rfl 30 rfl ?_
  refine r_ifeq hC 42 dX6_kicks_30 (by decide) 33 rfl (fun h => absurd h (by decide)) (fun _ => ?_)
  refine r_lload hC 0 dX6_kicks_33 rfl 35 rfl ?_
  refine r_ldc2 hC q2728 dX6_kicks_35 38 rfl ?_
  refine r_ldiv hC ((impQ t r 0 0) / 2) dX6_kicks_38 (by decide) (rfl) 39 rfl ?_
  refine r_goto hC 44 dX6_kicks_39 (by decide) ?_
  refine r_lstore hC 6 [(6, .long ((impQ t r 0 0) / 2)), (5, .int 0), (4, .int 0), (0, .ref (b 0)), (1, .ref a), (2, .int 1), (3, .int 0)] dX6_kicks_44 (Nat.le_of_ble_eq_true rfl) rfl 46 rfl ?_
  refine r_aload_n hC 3 dX6_kicks_46 rfl 47 rfl ?_
  refine r_get (v := .ref (b 23)) hC kX6 23 rfl q2776 (fun _ h => h.get 0 rfl) rfl dX6_kicks_47 50 rfl ?_
  refine r_iconst hC 2 dX6_kicks_50 ic_2 51 rfl ?_
  refine r_iload hC 2 dX6_kicks_51 rfl 53 rfl ?_
  refine r_imul hC 0 dX6_kicks_53  (by decide) 54 rfl ?_
  refine r_iload hC 1 dX6_kicks_54 rfl 56 rfl ?_
  refine r_iadd hC 0 dX6_kicks_56  (by decide) 57 rfl ?_
  refine r_iload_n hC 6 dX6_kicks_57 rfl 58 rfl ?_
  refine r_ifeq hC 67 dX6_kicks_58 (by decide) 61 rfl (fun _ => ?_) (fun h => absurd h (by decide))
  refine r_lload hC 0 dX6_kicks_67 rfl 69 rfl ?_
  refine r_last (J := xSt F V0 [(b 0, .inr (5, mF b i j)), (b 7, .inl (1, 5, .inr (.inl t))), (a, .inl (1, 111, .inr (.inl r))), (b 23, .inl (1, 6, .inr (.inl (va_up g 0 ((impQ t r 0 0) / 2)))))]) hC 0 (xix_n 0 (Nat.le_of_ble_eq_true rfl) (Nat.le_of_ble_eq_true rfl)) (fun _ h => h.get 3 rfl) dX6_kicks_69 (fun _ h => h.set 3 _ rfl) 70 rfl ?_
  generalize hu1 : va_up g 0 ((impQ t r 0 0) / 2) = u1
  refine r_iinc hC 1 5 1 [(5, .int 1), (6, .long ((impQ t r 0 0) / 2)), (4, .int 0), (0, .ref (b 0)), (1, .ref a), (2, .int 1), (3, .int 0)] dX6_kicks_70 rfl (by decide) (Nat.le_of_ble_eq_true rfl) rfl 73 rfl ?_
  refine r_goto hC 12 dX6_kicks_73 (by decide) ?_
  refine r_iload hC 0 dX6_kicks_12 rfl 14 rfl ?_
  refine r_iconst hC 2 dX6_kicks_14 ic_2 15 rfl ?_
  refine r_icge hC 76 dX6_kicks_15 (by decide) 18 rfl (fun h => absurd h (by decide)) (fun _ => ?_)
  refine r_aload_n hC 3 dX6_kicks_18 rfl 19 rfl ?_
  refine r_aload_n hC 4 dX6_kicks_19 rfl 20 rfl ?_
  refine r_iload hC 2 dX6_kicks_20 rfl 22 rfl ?_
  refine r_iload hC 0 dX6_kicks_22 rfl 24 rfl ?_
  refine r_invVr hC kX6 (b 0) [.ref a, .int 0, .int 1] (.long (impQ t r 0 1)) mVX6_impulseOf q3014 (fun _ h => h.get 0 rfl) (metX6_impulseOf _ _ hG b _ _ _ a _ 0 1 (Nat.le_of_ble_eq_true rfl) (Nat.le_of_ble_eq_true rfl) (hok)) (fun _ h => h.in.sub [0, 1, 2] rfl rfl) ⟨rfl, rfl⟩ 0 0 rfl rfl (Nat.le_of_ble_eq_true rfl) (Nat.le_of_ble_eq_true rfl) rfl (Nat.le_of_ble_eq_true rfl) dX6_kicks_24 27 rfl ?_
  refine r_lstore hC 6 [(6, .long (impQ t r 0 1)), (5, .int 1), (4, .int 0), (0, .ref (b 0)), (1, .ref a), (2, .int 1), (3, .int 0)] dX6_kicks_27 (Nat.le_of_ble_eq_true rfl) rfl 29 rfl ?_
  refine r_iload_n hC 5 dX6_kicks_29 rfl 30 rfl ?_
  refine r_ifeq hC 42 dX6_kicks_30 (by decide) 33 rfl (fun h => absurd h (by decide)) (fun _ => ?_)
  refine r_lload hC 0 dX6_kicks_33 rfl 35 rfl ?_
  refine r_ldc2 hC q2728 dX6_kicks_35 38 rfl ?_
  refine r_ldiv hC ((impQ t r 0 1) / 2) dX6_kicks_38 (by decide) (rfl) 39 rfl ?_
  refine r_goto hC 44 dX6_kicks_39 (by decide) ?_
  refine r_lstore hC 6 [(6, .long ((impQ t r 0 1) / 2)), (5, .int 1), (4, .int 0), (0, .ref (b 0)), (1, .ref a), (2, .int 1), (3, .int 0)] dX6_kicks_44 (Nat.le_of_ble_eq_true rfl) rfl 46 rfl ?_
  refine r_aload_n hC 3 dX6_kicks_46 rfl 47 rfl ?_
  refine r_get (v := .ref (b 23)) hC kX6 23 rfl q2776 (fun _ h => h.get 0 rfl) rfl dX6_kicks_47 50 rfl ?_
  refine r_iconst hC 2 dX6_kicks_50 ic_2 51 rfl ?_
  refine r_iload hC 2 dX6_kicks_51 rfl 53 rfl ?_
  refine r_imul hC 0 dX6_kicks_53  (by decide) 54 rfl ?_
  refine r_iload hC 1 dX6_kicks_54 rfl 56 rfl ?_
  refine r_iadd hC 1 dX6_kicks_56  (by decide) 57 rfl ?_
  refine r_iload_n hC 6 dX6_kicks_57 rfl 58 rfl ?_
  refine r_ifeq hC 67 dX6_kicks_58 (by decide) 61 rfl (fun _ => ?_) (fun h => absurd h (by decide))
  refine r_lload hC 0 dX6_kicks_67 rfl 69 rfl ?_
  refine r_last (J := xSt F V0 [(b 0, .inr (5, mF b i j)), (b 7, .inl (1, 5, .inr (.inl t))), (a, .inl (1, 111, .inr (.inl r))), (b 23, .inl (1, 6, .inr (.inl (va_up u1 1 ((impQ t r 0 1) / 2)))))]) hC 1 (xix_n 1 (Nat.le_of_ble_eq_true rfl) (Nat.le_of_ble_eq_true rfl)) (fun _ h => h.get 3 rfl) dX6_kicks_69 (fun _ h => h.set 3 _ rfl) 70 rfl ?_
  generalize hu2 : va_up u1 1 ((impQ t r 0 1) / 2) = u2
  refine r_iinc hC 2 5 1 [(5, .int 2), (6, .long ((impQ t r 0 1) / 2)), (4, .int 0), (0, .ref (b 0)), (1, .ref a), (2, .int 1), (3, .int 0)] dX6_kicks_70 rfl (by decide) (Nat.le_of_ble_eq_true rfl) rfl 73 rfl ?_
  refine r_goto hC 12 dX6_kicks_73 (by decide) ?_
  refine r_iload hC 0 dX6_kicks_12 rfl 14 rfl ?_
  refine r_iconst hC 2 dX6_kicks_14 ic_2 15 rfl ?_
  refine r_icge hC 76 dX6_kicks_15 (by decide) 18 rfl (fun _ => ?_) (fun h => absurd h (by decide))
  refine r_iinc hC 1 4 2 [(4, .int 1), (5, .int 2), (6, .long ((impQ t r 0 1) / 2)), (0, .ref (b 0)), (1, .ref a), (2, .int 1), (3, .int 0)] dX6_kicks_76 rfl (by decide) (Nat.le_of_ble_eq_true rfl) rfl 79 rfl ?_
  refine r_goto hC 3 dX6_kicks_79 (by decide) ?_
  refine r_iload hC 0 dX6_kicks_3 rfl 5 rfl ?_
  refine r_iconst hC 3 dX6_kicks_5 ic_3 6 rfl ?_
  refine r_icge hC 82 dX6_kicks_6 (by decide) 9 rfl (fun h => absurd h (by decide)) (fun _ => ?_)
  refine r_iconst hC 0 dX6_kicks_9 ic_0 10 rfl ?_
  refine r_istore hC 5 [(5, .int 0), (4, .int 1), (6, .long ((impQ t r 0 1) / 2)), (0, .ref (b 0)), (1, .ref a), (2, .int 1), (3, .int 0)] dX6_kicks_10 (Nat.le_of_ble_eq_true rfl) rfl 12 rfl ?_
  refine r_iload hC 0 dX6_kicks_12 rfl 14 rfl ?_
  refine r_iconst hC 2 dX6_kicks_14 ic_2 15 rfl ?_
  refine r_icge hC 76 dX6_kicks_15 (by decide) 18 rfl (fun h => absurd h (by decide)) (fun _ => ?_)
  refine r_aload_n hC 3 dX6_kicks_18 rfl 19 rfl ?_
  refine r_aload_n hC 4 dX6_kicks_19 rfl 20 rfl ?_
  refine r_iload hC 1 dX6_kicks_20 rfl 22 rfl ?_
  refine r_iload hC 0 dX6_kicks_22 rfl 24 rfl ?_
  refine r_invVr hC kX6 (b 0) [.ref a, .int 1, .int 0] (.long (impQ t r 1 0)) mVX6_impulseOf q3014 (fun _ h => h.get 0 rfl) (metX6_impulseOf _ _ hG b _ _ _ a _ 1 0 (Nat.le_of_ble_eq_true rfl) (Nat.le_of_ble_eq_true rfl) (hok)) (fun _ h => h.in.sub [0, 1, 2] rfl rfl) ⟨rfl, rfl⟩ 0 0 rfl rfl (Nat.le_of_ble_eq_true rfl) (Nat.le_of_ble_eq_true rfl) rfl (Nat.le_of_ble_eq_true rfl) dX6_kicks_24 27 rfl ?_
  refine r_lstore hC 6 [(6, .long (impQ t r 1 0)), (5, .int 0), (4, .int 1), (0, .ref (b 0)), (1, .ref a), (2, .int 1), (3, .int 0)] dX6_kicks_27 (Nat.le_of_ble_eq_true rfl) rfl 29 rfl ?_
  refine r_iload_n hC 5 dX6_kicks_29 rfl 30 rfl ?_
  refine r_ifeq hC 42 dX6_kicks_30 (by decide) 33 rfl (fun h => absurd h (by decide)) (fun _ => ?_)
  refine r_lload hC 0 dX6_kicks_33 rfl 35 rfl ?_
  refine r_ldc2 hC q2728 dX6_kicks_35 38 rfl ?_
  refine r_ldiv hC ((impQ t r 1 0) / 2) dX6_kicks_38 (by decide) (rfl) 39 rfl ?_
  refine r_goto hC 44 dX6_kicks_39 (by decide) ?_
  refine r_lstore hC 6 [(6, .long ((impQ t r 1 0) / 2)), (5, .int 0), (4, .int 1), (0, .ref (b 0)), (1, .ref a), (2, .int 1), (3, .int 0)] dX6_kicks_44 (Nat.le_of_ble_eq_true rfl) rfl 46 rfl ?_
  refine r_aload_n hC 3 dX6_kicks_46 rfl 47 rfl ?_
  refine r_get (v := .ref (b 23)) hC kX6 23 rfl q2776 (fun _ h => h.get 0 rfl) rfl dX6_kicks_47 50 rfl ?_
  refine r_iconst hC 2 dX6_kicks_50 ic_2 51 rfl ?_
  refine r_iload hC 2 dX6_kicks_51 rfl 53 rfl ?_
  refine r_imul hC 2 dX6_kicks_53  (by decide) 54 rfl ?_
  refine r_iload hC 1 dX6_kicks_54 rfl 56 rfl ?_
  refine r_iadd hC 2 dX6_kicks_56  (by decide) 57 rfl ?_
  refine r_iload_n hC 6 dX6_kicks_57 rfl 58 rfl ?_
  refine r_ifeq hC 67 dX6_kicks_58 (by decide) 61 rfl (fun _ => ?_) (fun h => absurd h (by decide))
  refine r_lload hC 0 dX6_kicks_67 rfl 69 rfl ?_
  refine r_last (J := xSt F V0 [(b 0, .inr (5, mF b i j)), (b 7, .inl (1, 5, .inr (.inl t))), (a, .inl (1, 111, .inr (.inl r))), (b 23, .inl (1, 6, .inr (.inl (va_up u2 2 ((impQ t r 1 0) / 2)))))]) hC 2 (xix_n 2 (Nat.le_of_ble_eq_true rfl) (Nat.le_of_ble_eq_true rfl)) (fun _ h => h.get 3 rfl) dX6_kicks_69 (fun _ h => h.set 3 _ rfl) 70 rfl ?_
  generalize hu3 : va_up u2 2 ((impQ t r 1 0) / 2) = u3
  refine r_iinc hC 1 5 1 [(5, .int 1), (6, .long ((impQ t r 1 0) / 2)), (4, .int 1), (0, .ref (b 0)), (1, .ref a), (2, .int 1), (3, .int 0)] dX6_kicks_70 rfl (by decide) (Nat.le_of_ble_eq_true rfl) rfl 73 rfl ?_
  refine r_goto hC 12 dX6_kicks_73 (by decide) ?_
  refine r_iload hC 0 dX6_kicks_12 rfl 14 rfl ?_
  refine r_iconst hC 2 dX6_kicks_14 ic_2 15 rfl ?_
  refine r_icge hC 76 dX6_kicks_15 (by decide) 18 rfl (fun h => absurd h (by decide)) (fun _ => ?_)
  refine r_aload_n hC 3 dX6_kicks_18 rfl 19 rfl ?_
  refine r_aload_n hC 4 dX6_kicks_19 rfl 20 rfl ?_
  refine r_iload hC 2 dX6_kicks_20 rfl 22 rfl ?_
  refine r_iload hC 0 dX6_kicks_22 rfl 24 rfl ?_
  refine r_invVr hC kX6 (b 0) [.ref a, .int 1, .int 1] (.long (impQ t r 1 1)) mVX6_impulseOf q3014 (fun _ h => h.get 0 rfl) (metX6_impulseOf _ _ hG b _ _ _ a _ 1 1 (Nat.le_of_ble_eq_true rfl) (Nat.le_of_ble_eq_true rfl) (hok)) (fun _ h => h.in.sub [0, 1, 2] rfl rfl) ⟨rfl, rfl⟩ 0 0 rfl rfl (Nat.le_of_ble_eq_true rfl) (Nat.le_of_ble_eq_true rfl) rfl (Nat.le_of_ble_eq_true rfl) dX6_kicks_24 27 rfl ?_
  refine r_lstore hC 6 [(6, .long (impQ t r 1 1)), (5, .int 1), (4, .int 1), (0, .ref (b 0)), (1, .ref a), (2, .int 1), (3, .int 0)] dX6_kicks_27 (Nat.le_of_ble_eq_true rfl) rfl 29 rfl ?_
  refine r_iload_n hC 5 dX6_kicks_29 rfl 30 rfl ?_
  refine r_ifeq hC 42 dX6_kicks_30 (by decide) 33 rfl (fun h => absurd h (by decide)) (fun _ => ?_)
  refine r_lload hC 0 dX6_kicks_33 rfl 35 rfl ?_
  refine r_ldc2 hC q2728 dX6_kicks_35 38 rfl ?_
  refine r_ldiv hC ((impQ t r 1 1) / 2) dX6_kicks_38 (by decide) (rfl) 39 rfl ?_
  refine r_goto hC 44 dX6_kicks_39 (by decide) ?_
  refine r_lstore hC 6 [(6, .long ((impQ t r 1 1) / 2)), (5, .int 1), (4, .int 1), (0, .ref (b 0)), (1, .ref a), (2, .int 1), (3, .int 0)] dX6_kicks_44 (Nat.le_of_ble_eq_true rfl) rfl 46 rfl ?_
  refine r_aload_n hC 3 dX6_kicks_46 rfl 47 rfl ?_
  refine r_get (v := .ref (b 23)) hC kX6 23 rfl q2776 (fun _ h => h.get 0 rfl) rfl dX6_kicks_47 50 rfl ?_
  refine r_iconst hC 2 dX6_kicks_50 ic_2 51 rfl ?_
  refine r_iload hC 2 dX6_kicks_51 rfl 53 rfl ?_
  refine r_imul hC 2 dX6_kicks_53  (by decide) 54 rfl ?_
  refine r_iload hC 1 dX6_kicks_54 rfl 56 rfl ?_
  refine r_iadd hC 3 dX6_kicks_56  (by decide) 57 rfl ?_
  refine r_iload_n hC 6 dX6_kicks_57 rfl 58 rfl ?_
  refine r_ifeq hC 67 dX6_kicks_58 (by decide) 61 rfl (fun _ => ?_) (fun h => absurd h (by decide))
  refine r_lload hC 0 dX6_kicks_67 rfl 69 rfl ?_
  refine r_last (J := xSt F V0 [(b 0, .inr (5, mF b i j)), (b 7, .inl (1, 5, .inr (.inl t))), (a, .inl (1, 111, .inr (.inl r))), (b 23, .inl (1, 6, .inr (.inl (va_up u3 3 ((impQ t r 1 1) / 2)))))]) hC 3 (xix_n 3 (Nat.le_of_ble_eq_true rfl) (Nat.le_of_ble_eq_true rfl)) (fun _ h => h.get 3 rfl) dX6_kicks_69 (fun _ h => h.set 3 _ rfl) 70 rfl ?_
  generalize hu4 : va_up u3 3 ((impQ t r 1 1) / 2) = u4
  refine r_iinc hC 2 5 1 [(5, .int 2), (6, .long ((impQ t r 1 1) / 2)), (4, .int 1), (0, .ref (b 0)), (1, .ref a), (2, .int 1), (3, .int 0)] dX6_kicks_70 rfl (by decide) (Nat.le_of_ble_eq_true rfl) rfl 73 rfl ?_
  refine r_goto hC 12 dX6_kicks_73 (by decide) ?_
  refine r_iload hC 0 dX6_kicks_12 rfl 14 rfl ?_
  refine r_iconst hC 2 dX6_kicks_14 ic_2 15 rfl ?_
  refine r_icge hC 76 dX6_kicks_15 (by decide) 18 rfl (fun _ => ?_) (fun h => absurd h (by decide))
  refine r_iinc hC 2 4 2 [(4, .int 2), (5, .int 2), (6, .long ((impQ t r 1 1) / 2)), (0, .ref (b 0)), (1, .ref a), (2, .int 1), (3, .int 0)] dX6_kicks_76 rfl (by decide) (Nat.le_of_ble_eq_true rfl) rfl 79 rfl ?_
  refine r_goto hC 3 dX6_kicks_79 (by decide) ?_
  refine r_iload hC 0 dX6_kicks_3 rfl 5 rfl ?_
  refine r_iconst hC 3 dX6_kicks_5 ic_3 6 rfl ?_
  refine r_icge hC 82 dX6_kicks_6 (by decide) 9 rfl (fun h => absurd h (by decide)) (fun _ => ?_)
  refine r_iconst hC 0 dX6_kicks_9 ic_0 10 rfl ?_
  refine r_istore hC 5 [(5, .int 0), (4, .int 2), (6, .long ((impQ t r 1 1) / 2)), (0, .ref (b 0)), (1, .ref a), (2, .int 1), (3, .int 0)] dX6_kicks_10 (Nat.le_of_ble_eq_true rfl) rfl 12 rfl ?_
  refine r_iload hC 0 dX6_kicks_12 rfl 14 rfl ?_
  refine r_iconst hC 2 dX6_kicks_14 ic_2 15 rfl ?_
  refine r_icge hC 76 dX6_kicks_15 (by decide) 18 rfl (fun h => absurd h (by decide)) (fun _ => ?_)
  refine r_aload_n hC 3 dX6_kicks_18 rfl 19 rfl ?_
  refine r_aload_n hC 4 dX6_kicks_19 rfl 20 rfl ?_
  refine r_iload hC 1 dX6_kicks_20 rfl 22 rfl ?_
  refine r_iload hC 0 dX6_kicks_22 rfl 24 rfl ?_
  refine r_invVr hC kX6 (b 0) [.ref a, .int 2, .int 0] (.long (impQ t r 2 0)) mVX6_impulseOf q3014 (fun _ h => h.get 0 rfl) (metX6_impulseOf _ _ hG b _ _ _ a _ 2 0 (Nat.le_of_ble_eq_true rfl) (Nat.le_of_ble_eq_true rfl) (hok)) (fun _ h => h.in.sub [0, 1, 2] rfl rfl) ⟨rfl, rfl⟩ 0 0 rfl rfl (Nat.le_of_ble_eq_true rfl) (Nat.le_of_ble_eq_true rfl) rfl (Nat.le_of_ble_eq_true rfl) dX6_kicks_24 27 rfl ?_
  refine r_lstore hC 6 [(6, .long (impQ t r 2 0)), (5, .int 0), (4, .int 2), (0, .ref (b 0)), (1, .ref a), (2, .int 1), (3, .int 0)] dX6_kicks_27 (Nat.le_of_ble_eq_true rfl) rfl 29 rfl ?_
  refine r_iload_n hC 5 dX6_kicks_29 rfl 30 rfl ?_
  refine r_ifeq hC 42 dX6_kicks_30 (by decide) 33 rfl (fun h => absurd h (by decide)) (fun _ => ?_)
  refine r_lload hC 0 dX6_kicks_33 rfl 35 rfl ?_
  refine r_ldc2 hC q2728 dX6_kicks_35 38 rfl ?_
  refine r_ldiv hC ((impQ t r 2 0) / 2) dX6_kicks_38 (by decide) (rfl) 39 rfl ?_
  refine r_goto hC 44 dX6_kicks_39 (by decide) ?_
  refine r_lstore hC 6 [(6, .long ((impQ t r 2 0) / 2)), (5, .int 0), (4, .int 2), (0, .ref (b 0)), (1, .ref a), (2, .int 1), (3, .int 0)] dX6_kicks_44 (Nat.le_of_ble_eq_true rfl) rfl 46 rfl ?_
  refine r_aload_n hC 3 dX6_kicks_46 rfl 47 rfl ?_
  refine r_get (v := .ref (b 23)) hC kX6 23 rfl q2776 (fun _ h => h.get 0 rfl) rfl dX6_kicks_47 50 rfl ?_
  refine r_iconst hC 2 dX6_kicks_50 ic_2 51 rfl ?_
  refine r_iload hC 2 dX6_kicks_51 rfl 53 rfl ?_
  refine r_imul hC 4 dX6_kicks_53  (by decide) 54 rfl ?_
  refine r_iload hC 1 dX6_kicks_54 rfl 56 rfl ?_
  refine r_iadd hC 4 dX6_kicks_56  (by decide) 57 rfl ?_
  refine r_iload_n hC 6 dX6_kicks_57 rfl 58 rfl ?_
  refine r_ifeq hC 67 dX6_kicks_58 (by decide) 61 rfl (fun _ => ?_) (fun h => absurd h (by decide))
  refine r_lload hC 0 dX6_kicks_67 rfl 69 rfl ?_
  refine r_last (J := xSt F V0 [(b 0, .inr (5, mF b i j)), (b 7, .inl (1, 5, .inr (.inl t))), (a, .inl (1, 111, .inr (.inl r))), (b 23, .inl (1, 6, .inr (.inl (va_up u4 4 ((impQ t r 2 0) / 2)))))]) hC 4 (xix_n 4 (Nat.le_of_ble_eq_true rfl) (Nat.le_of_ble_eq_true rfl)) (fun _ h => h.get 3 rfl) dX6_kicks_69 (fun _ h => h.set 3 _ rfl) 70 rfl ?_
  generalize hu5 : va_up u4 4 ((impQ t r 2 0) / 2) = u5
  refine r_iinc hC 1 5 1 [(5, .int 1), (6, .long ((impQ t r 2 0) / 2)), (4, .int 2), (0, .ref (b 0)), (1, .ref a), (2, .int 1), (3, .int 0)] dX6_kicks_70 rfl (by decide) (Nat.le_of_ble_eq_true rfl) rfl 73 rfl ?_
  refine r_goto hC 12 dX6_kicks_73 (by decide) ?_
  refine r_iload hC 0 dX6_kicks_12 rfl 14 rfl ?_
  refine r_iconst hC 2 dX6_kicks_14 ic_2 15 rfl ?_
  refine r_icge hC 76 dX6_kicks_15 (by decide) 18 rfl (fun h => absurd h (by decide)) (fun _ => ?_)
  refine r_aload_n hC 3 dX6_kicks_18 rfl 19 rfl ?_
  refine r_aload_n hC 4 dX6_kicks_19 rfl 20 rfl ?_
  refine r_iload hC 2 dX6_kicks_20 rfl 22 rfl ?_
  refine r_iload hC 0 dX6_kicks_22 rfl 24 rfl ?_
  refine r_invVr hC kX6 (b 0) [.ref a, .int 2, .int 1] (.long (impQ t r 2 1)) mVX6_impulseOf q3014 (fun _ h => h.get 0 rfl) (metX6_impulseOf _ _ hG b _ _ _ a _ 2 1 (Nat.le_of_ble_eq_true rfl) (Nat.le_of_ble_eq_true rfl) (hok)) (fun _ h => h.in.sub [0, 1, 2] rfl rfl) ⟨rfl, rfl⟩ 0 0 rfl rfl (Nat.le_of_ble_eq_true rfl) (Nat.le_of_ble_eq_true rfl) rfl (Nat.le_of_ble_eq_true rfl) dX6_kicks_24 27 rfl ?_
  refine r_lstore hC 6 [(6, .long (impQ t r 2 1)), (5, .int 1), (4, .int 2), (0, .ref (b 0)), (1, .ref a), (2, .int 1), (3, .int 0)] dX6_kicks_27 (Nat.le_of_ble_eq_true rfl) rfl 29 rfl ?_
  refine r_iload_n hC 5 dX6_kicks_29 rfl 30 rfl ?_
  refine r_ifeq hC 42 dX6_kicks_30 (by decide) 33 rfl (fun h => absurd h (by decide)) (fun _ => ?_)
  refine r_lload hC 0 dX6_kicks_33 rfl 35 rfl ?_
  refine r_ldc2 hC q2728 dX6_kicks_35 38 rfl ?_
  refine r_ldiv hC ((impQ t r 2 1) / 2) dX6_kicks_38 (by decide) (rfl) 39 rfl ?_
  refine r_goto hC 44 dX6_kicks_39 (by decide) ?_
  refine r_lstore hC 6 [(6, .long ((impQ t r 2 1) / 2)), (5, .int 1), (4, .int 2), (0, .ref (b 0)), (1, .ref a), (2, .int 1), (3, .int 0)] dX6_kicks_44 (Nat.le_of_ble_eq_true rfl) rfl 46 rfl ?_
  refine r_aload_n hC 3 dX6_kicks_46 rfl 47 rfl ?_
  refine r_get (v := .ref (b 23)) hC kX6 23 rfl q2776 (fun _ h => h.get 0 rfl) rfl dX6_kicks_47 50 rfl ?_
  refine r_iconst hC 2 dX6_kicks_50 ic_2 51 rfl ?_
  refine r_iload hC 2 dX6_kicks_51 rfl 53 rfl ?_
  refine r_imul hC 4 dX6_kicks_53  (by decide) 54 rfl ?_
  refine r_iload hC 1 dX6_kicks_54 rfl 56 rfl ?_
  refine r_iadd hC 5 dX6_kicks_56  (by decide) 57 rfl ?_
  refine r_iload_n hC 6 dX6_kicks_57 rfl 58 rfl ?_
  refine r_ifeq hC 67 dX6_kicks_58 (by decide) 61 rfl (fun _ => ?_) (fun h => absurd h (by decide))
  refine r_lload hC 0 dX6_kicks_67 rfl 69 rfl ?_
  refine r_last (J := xSt F V0 [(b 0, .inr (5, mF b i j)), (b 7, .inl (1, 5, .inr (.inl t))), (a, .inl (1, 111, .inr (.inl r))), (b 23, .inl (1, 6, .inr (.inl (va_up u5 5 ((impQ t r 2 1) / 2)))))]) hC 5 (xix_n 5 (Nat.le_of_ble_eq_true rfl) (Nat.le_of_ble_eq_true rfl)) (fun _ h => h.get 3 rfl) dX6_kicks_69 (fun _ h => h.set 3 _ rfl) 70 rfl ?_
  generalize hu6 : va_up u5 5 ((impQ t r 2 1) / 2) = u6
  refine r_iinc hC 2 5 1 [(5, .int 2), (6, .long ((impQ t r 2 1) / 2)), (4, .int 2), (0, .ref (b 0)), (1, .ref a), (2, .int 1), (3, .int 0)] dX6_kicks_70 rfl (by decide) (Nat.le_of_ble_eq_true rfl) rfl 73 rfl ?_
  refine r_goto hC 12 dX6_kicks_73 (by decide) ?_
  refine r_iload hC 0 dX6_kicks_12 rfl 14 rfl ?_
  refine r_iconst hC 2 dX6_kicks_14 ic_2 15 rfl ?_
  refine r_icge hC 76 dX6_kicks_15 (by decide) 18 rfl (fun _ => ?_) (fun h => absurd h (by decide))
  refine r_iinc hC 3 4 2 [(4, .int 3), (5, .int 2), (6, .long ((impQ t r 2 1) / 2)), (0, .ref (b 0)), (1, .ref a), (2, .int 1), (3, .int 0)] dX6_kicks_76 rfl (by decide) (Nat.le_of_ble_eq_true rfl) rfl 79 rfl ?_
  refine r_goto hC 3 dX6_kicks_79 (by decide) ?_
  refine r_iload hC 0 dX6_kicks_3 rfl 5 rfl ?_
  refine r_iconst hC 3 dX6_kicks_5 ic_3 6 rfl ?_
  refine r_icge hC 82 dX6_kicks_6 (by decide) 9 rfl (fun _ => ?_) (fun h => absurd h (by decide))
  refine r_iconst hC 0 dX6_kicks_82 ic_0 83 rfl ?_
  refine r_istore hC 4 [(4, .int 0), (5, .int 2), (6, .long ((impQ t r 2 1) / 2)), (0, .ref (b 0)), (1, .ref a), (2, .int 1), (3, .int 0)] dX6_kicks_83 (Nat.le_of_ble_eq_true rfl) rfl 85 rfl ?_
  refine r_iload hC 0 dX6_kicks_85 rfl 87 rfl ?_
  refine r_iconst hC 3 dX6_kicks_87 ic_3 88 rfl ?_
  refine r_icge hC 170 dX6_kicks_88 (by decide) 91 rfl (fun h => absurd h (by decide)) (fun _ => ?_)
  refine r_iconst hC 0 dX6_kicks_91 ic_0 92 rfl ?_
  refine r_istore hC 5 [(5, .int 0), (4, .int 0), (6, .long ((impQ t r 2 1) / 2)), (0, .ref (b 0)), (1, .ref a), (2, .int 1), (3, .int 0)] dX6_kicks_92 (Nat.le_of_ble_eq_true rfl) rfl 94 rfl ?_
  refine r_iload hC 0 dX6_kicks_94 rfl 96 rfl ?_
  refine r_iconst hC 2 dX6_kicks_96 ic_2 97 rfl ?_
  refine r_icge hC 164 dX6_kicks_97 (by decide) 100 rfl (fun h => absurd h (by decide)) (fun _ => ?_)
  refine r_aload_n hC 4 dX6_kicks_100 rfl 101 rfl ?_
  refine r_iload hC 1 dX6_kicks_101 rfl 103 rfl ?_
  refine r_invSr hC [.int 0] (.int 0) mSX6_firstOf q2733 (metX6_firstOf _ _ hG 0 (Nat.le_of_ble_eq_true rfl)) (fun _ _ => xIn.nil) ⟨rfl, rfl⟩ 0 0 rfl rfl (Nat.le_of_ble_eq_true rfl) (Nat.le_of_ble_eq_true rfl) rfl (Nat.le_of_ble_eq_true rfl) dX6_kicks_103 106 rfl ?_
  refine r_iconst hC 3 dX6_kicks_106 ic_3 107 rfl ?_
  refine r_iload hC 0 dX6_kicks_107 rfl 109 rfl ?_
  refine r_iadd hC 3 dX6_kicks_109  (by decide) 110 rfl ?_
  refine r_invSr hC [.int 0, .int 3] (.int 9) mSX6_at q2711 (metX6_at _ _ hG 0 3) (fun _ _ => xIn.nil) ⟨rfl, rfl⟩ 0 0 rfl rfl (Nat.le_of_ble_eq_true rfl) (Nat.le_of_ble_eq_true rfl) rfl (Nat.le_of_ble_eq_true rfl) dX6_kicks_110 113 rfl ?_
  refine r_dup2 hC dX6_kicks_113 rfl rfl 114 rfl ?_
  refine r_lald hC 9 (xix_n 9 (Nat.le_of_ble_eq_true rfl) (Nat.le_of_ble_eq_true rfl)) (fun _ h => h.get 2 rfl) (r 9) (rfl) dX6_kicks_114 115 rfl ?_
  refine r_aload_n hC 3 dX6_kicks_115 rfl 116 rfl ?_
  refine r_get (v := .ref (b 23)) hC kX6 23 rfl q2776 (fun _ h => h.get 0 rfl) rfl dX6_kicks_116 119 rfl ?_
  refine r_iconst hC 2 dX6_kicks_119 ic_2 120 rfl ?_
  refine r_iload hC 1 dX6_kicks_120 rfl 122 rfl ?_
  refine r_imul hC 0 dX6_kicks_122  (by decide) 123 rfl ?_
  refine r_iload hC 0 dX6_kicks_123 rfl 125 rfl ?_
  refine r_iadd hC 0 dX6_kicks_125  (by decide) 126 rfl ?_
  refine r_lald hC 0 (xix_n 0 (Nat.le_of_ble_eq_true rfl) (Nat.le_of_ble_eq_true rfl)) (fun _ h => h.get 3 rfl) ((impQ t r 0 0) / 2) (by rw [← hu6, ← hu5, ← hu4, ← hu3, ← hu2, ← hu1]; rfl) dX6_kicks_126 127 rfl ?_
  refine r_ladd hC ((r 9) + ((impQ t r 0 0) / 2)) dX6_kicks_127  (rfl) 128 rfl ?_
  refine r_last (J := xSt F V0 [(b 0, .inr (5, mF b i j)), (b 7, .inl (1, 5, .inr (.inl t))), (a, .inl (1, 111, .inr (.inl (va_up r 9 ((r 9) + ((impQ t r 0 0) / 2)))))), (b 23, .inl (1, 6, .inr (.inl u6)))]) hC 9 (xix_n 9 (Nat.le_of_ble_eq_true rfl) (Nat.le_of_ble_eq_true rfl)) (fun _ h => h.get 2 rfl) dX6_kicks_128 (fun _ h => h.set 2 _ rfl) 129 rfl ?_
  generalize hu7 : va_up r 9 ((r 9) + ((impQ t r 0 0) / 2)) = u7
  refine r_aload_n hC 4 dX6_kicks_129 rfl 130 rfl ?_
  refine r_iload hC 1 dX6_kicks_130 rfl 132 rfl ?_
  refine r_invSr hC [.int 0] (.int 1) mSX6_secondOf q2736 (metX6_secondOf _ _ hG 0 (Nat.le_of_ble_eq_true rfl)) (fun _ _ => xIn.nil) ⟨rfl, rfl⟩ 0 0 rfl rfl (Nat.le_of_ble_eq_true rfl) (Nat.le_of_ble_eq_true rfl) rfl (Nat.le_of_ble_eq_true rfl) dX6_kicks_132 135 rfl ?_
  refine r_iconst hC 3 dX6_kicks_135 ic_3 136 rfl ?_
  refine r_iload hC 0 dX6_kicks_136 rfl 138 rfl ?_
  refine r_iadd hC 3 dX6_kicks_138  (by decide) 139 rfl ?_
  refine r_invSr hC [.int 1, .int 3] (.int 14) mSX6_at q2711 (metX6_at _ _ hG 1 3) (fun _ _ => xIn.nil) ⟨rfl, rfl⟩ 0 0 rfl rfl (Nat.le_of_ble_eq_true rfl) (Nat.le_of_ble_eq_true rfl) rfl (Nat.le_of_ble_eq_true rfl) dX6_kicks_139 142 rfl ?_
  refine r_dup2 hC dX6_kicks_142 rfl rfl 143 rfl ?_
  refine r_lald hC 14 (xix_n 14 (Nat.le_of_ble_eq_true rfl) (Nat.le_of_ble_eq_true rfl)) (fun _ h => h.get 2 rfl) (r 14) (by rw [← hu7]; rfl) dX6_kicks_143 144 rfl ?_
  refine r_aload_n hC 3 dX6_kicks_144 rfl 145 rfl ?_
  refine r_get (v := .ref (b 23)) hC kX6 23 rfl q2776 (fun _ h => h.get 0 rfl) rfl dX6_kicks_145 148 rfl ?_
  refine r_iconst hC 2 dX6_kicks_148 ic_2 149 rfl ?_
  refine r_iload hC 1 dX6_kicks_149 rfl 151 rfl ?_
  refine r_imul hC 0 dX6_kicks_151  (by decide) 152 rfl ?_
  refine r_iload hC 0 dX6_kicks_152 rfl 154 rfl ?_
  refine r_iadd hC 0 dX6_kicks_154  (by decide) 155 rfl ?_
  refine r_lald hC 0 (xix_n 0 (Nat.le_of_ble_eq_true rfl) (Nat.le_of_ble_eq_true rfl)) (fun _ h => h.get 3 rfl) ((impQ t r 0 0) / 2) (by rw [← hu6, ← hu5, ← hu4, ← hu3, ← hu2, ← hu1]; rfl) dX6_kicks_155 156 rfl ?_
  refine r_lsub hC ((r 14) - ((impQ t r 0 0) / 2)) dX6_kicks_156  (rfl) 157 rfl ?_
  refine r_last (J := xSt F V0 [(b 0, .inr (5, mF b i j)), (b 7, .inl (1, 5, .inr (.inl t))), (a, .inl (1, 111, .inr (.inl (va_up u7 14 ((r 14) - ((impQ t r 0 0) / 2)))))), (b 23, .inl (1, 6, .inr (.inl u6)))]) hC 14 (xix_n 14 (Nat.le_of_ble_eq_true rfl) (Nat.le_of_ble_eq_true rfl)) (fun _ h => h.get 2 rfl) dX6_kicks_157 (fun _ h => h.set 2 _ rfl) 158 rfl ?_
  generalize hu8 : va_up u7 14 ((r 14) - ((impQ t r 0 0) / 2)) = u8
  refine r_iinc hC 1 5 0 [(5, .int 1), (4, .int 0), (6, .long ((impQ t r 2 1) / 2)), (0, .ref (b 0)), (1, .ref a), (2, .int 1), (3, .int 0)] dX6_kicks_158 rfl (by decide) (Nat.le_of_ble_eq_true rfl) rfl 161 rfl ?_
  refine r_goto hC 94 dX6_kicks_161 (by decide) ?_
  refine r_iload hC 0 dX6_kicks_94 rfl 96 rfl ?_
  refine r_iconst hC 2 dX6_kicks_96 ic_2 97 rfl ?_
  refine r_icge hC 164 dX6_kicks_97 (by decide) 100 rfl (fun h => absurd h (by decide)) (fun _ => ?_)
  refine r_aload_n hC 4 dX6_kicks_100 rfl 101 rfl ?_
  refine r_iload hC 1 dX6_kicks_101 rfl 103 rfl ?_
  refine r_invSr hC [.int 0] (.int 0) mSX6_firstOf q2733 (metX6_firstOf _ _ hG 0 (Nat.le_of_ble_eq_true rfl)) (fun _ _ => xIn.nil) ⟨rfl, rfl⟩ 0 0 rfl rfl (Nat.le_of_ble_eq_true rfl) (Nat.le_of_ble_eq_true rfl) rfl (Nat.le_of_ble_eq_true rfl) dX6_kicks_103 106 rfl ?_
  refine r_iconst hC 3 dX6_kicks_106 ic_3 107 rfl ?_
  refine r_iload hC 0 dX6_kicks_107 rfl 109 rfl ?_
  refine r_iadd hC 4 dX6_kicks_109  (by decide) 110 rfl ?_
  refine r_invSr hC [.int 0, .int 4] (.int 10) mSX6_at q2711 (metX6_at _ _ hG 0 4) (fun _ _ => xIn.nil) ⟨rfl, rfl⟩ 0 0 rfl rfl (Nat.le_of_ble_eq_true rfl) (Nat.le_of_ble_eq_true rfl) rfl (Nat.le_of_ble_eq_true rfl) dX6_kicks_110 113 rfl ?_
  refine r_dup2 hC dX6_kicks_113 rfl rfl 114 rfl ?_
  refine r_lald hC 10 (xix_n 10 (Nat.le_of_ble_eq_true rfl) (Nat.le_of_ble_eq_true rfl)) (fun _ h => h.get 2 rfl) (r 10) (by rw [← hu8, ← hu7]; rfl) dX6_kicks_114 115 rfl ?_
  refine r_aload_n hC 3 dX6_kicks_115 rfl 116 rfl ?_
  refine r_get (v := .ref (b 23)) hC kX6 23 rfl q2776 (fun _ h => h.get 0 rfl) rfl dX6_kicks_116 119 rfl ?_
  refine r_iconst hC 2 dX6_kicks_119 ic_2 120 rfl ?_
  refine r_iload hC 1 dX6_kicks_120 rfl 122 rfl ?_
  refine r_imul hC 0 dX6_kicks_122  (by decide) 123 rfl ?_
  refine r_iload hC 0 dX6_kicks_123 rfl 125 rfl ?_
  refine r_iadd hC 1 dX6_kicks_125  (by decide) 126 rfl ?_
  refine r_lald hC 1 (xix_n 1 (Nat.le_of_ble_eq_true rfl) (Nat.le_of_ble_eq_true rfl)) (fun _ h => h.get 3 rfl) ((impQ t r 0 1) / 2) (by rw [← hu6, ← hu5, ← hu4, ← hu3, ← hu2]; rfl) dX6_kicks_126 127 rfl ?_
  refine r_ladd hC ((r 10) + ((impQ t r 0 1) / 2)) dX6_kicks_127  (rfl) 128 rfl ?_
  refine r_last (J := xSt F V0 [(b 0, .inr (5, mF b i j)), (b 7, .inl (1, 5, .inr (.inl t))), (a, .inl (1, 111, .inr (.inl (va_up u8 10 ((r 10) + ((impQ t r 0 1) / 2)))))), (b 23, .inl (1, 6, .inr (.inl u6)))]) hC 10 (xix_n 10 (Nat.le_of_ble_eq_true rfl) (Nat.le_of_ble_eq_true rfl)) (fun _ h => h.get 2 rfl) dX6_kicks_128 (fun _ h => h.set 2 _ rfl) 129 rfl ?_
  generalize hu9 : va_up u8 10 ((r 10) + ((impQ t r 0 1) / 2)) = u9
  refine r_aload_n hC 4 dX6_kicks_129 rfl 130 rfl ?_
  refine r_iload hC 1 dX6_kicks_130 rfl 132 rfl ?_
  refine r_invSr hC [.int 0] (.int 1) mSX6_secondOf q2736 (metX6_secondOf _ _ hG 0 (Nat.le_of_ble_eq_true rfl)) (fun _ _ => xIn.nil) ⟨rfl, rfl⟩ 0 0 rfl rfl (Nat.le_of_ble_eq_true rfl) (Nat.le_of_ble_eq_true rfl) rfl (Nat.le_of_ble_eq_true rfl) dX6_kicks_132 135 rfl ?_
  refine r_iconst hC 3 dX6_kicks_135 ic_3 136 rfl ?_
  refine r_iload hC 0 dX6_kicks_136 rfl 138 rfl ?_
  refine r_iadd hC 4 dX6_kicks_138  (by decide) 139 rfl ?_
  refine r_invSr hC [.int 1, .int 4] (.int 15) mSX6_at q2711 (metX6_at _ _ hG 1 4) (fun _ _ => xIn.nil) ⟨rfl, rfl⟩ 0 0 rfl rfl (Nat.le_of_ble_eq_true rfl) (Nat.le_of_ble_eq_true rfl) rfl (Nat.le_of_ble_eq_true rfl) dX6_kicks_139 142 rfl ?_
  refine r_dup2 hC dX6_kicks_142 rfl rfl 143 rfl ?_
  refine r_lald hC 15 (xix_n 15 (Nat.le_of_ble_eq_true rfl) (Nat.le_of_ble_eq_true rfl)) (fun _ h => h.get 2 rfl) (r 15) (by rw [← hu9, ← hu8, ← hu7]; rfl) dX6_kicks_143 144 rfl ?_
  refine r_aload_n hC 3 dX6_kicks_144 rfl 145 rfl ?_
  refine r_get (v := .ref (b 23)) hC kX6 23 rfl q2776 (fun _ h => h.get 0 rfl) rfl dX6_kicks_145 148 rfl ?_
  refine r_iconst hC 2 dX6_kicks_148 ic_2 149 rfl ?_
  refine r_iload hC 1 dX6_kicks_149 rfl 151 rfl ?_
  refine r_imul hC 0 dX6_kicks_151  (by decide) 152 rfl ?_
  refine r_iload hC 0 dX6_kicks_152 rfl 154 rfl ?_
  refine r_iadd hC 1 dX6_kicks_154  (by decide) 155 rfl ?_
  refine r_lald hC 1 (xix_n 1 (Nat.le_of_ble_eq_true rfl) (Nat.le_of_ble_eq_true rfl)) (fun _ h => h.get 3 rfl) ((impQ t r 0 1) / 2) (by rw [← hu6, ← hu5, ← hu4, ← hu3, ← hu2]; rfl) dX6_kicks_155 156 rfl ?_
  refine r_lsub hC ((r 15) - ((impQ t r 0 1) / 2)) dX6_kicks_156  (rfl) 157 rfl ?_
  refine r_last (J := xSt F V0 [(b 0, .inr (5, mF b i j)), (b 7, .inl (1, 5, .inr (.inl t))), (a, .inl (1, 111, .inr (.inl (va_up u9 15 ((r 15) - ((impQ t r 0 1) / 2)))))), (b 23, .inl (1, 6, .inr (.inl u6)))]) hC 15 (xix_n 15 (Nat.le_of_ble_eq_true rfl) (Nat.le_of_ble_eq_true rfl)) (fun _ h => h.get 2 rfl) dX6_kicks_157 (fun _ h => h.set 2 _ rfl) 158 rfl ?_
  generalize hu10 : va_up u9 15 ((r 15) - ((impQ t r 0 1) / 2)) = u10
  refine r_iinc hC 2 5 0 [(5, .int 2), (4, .int 0), (6, .long ((impQ t r 2 1) / 2)), (0, .ref (b 0)), (1, .ref a), (2, .int 1), (3, .int 0)] dX6_kicks_158 rfl (by decide) (Nat.le_of_ble_eq_true rfl) rfl 161 rfl ?_
  refine r_goto hC 94 dX6_kicks_161 (by decide) ?_
  refine r_iload hC 0 dX6_kicks_94 rfl 96 rfl ?_
  refine r_iconst hC 2 dX6_kicks_96 ic_2 97 rfl ?_
  refine r_icge hC 164 dX6_kicks_97 (by decide) 100 rfl (fun _ => ?_) (fun h => absurd h (by decide))
  refine r_iinc hC 1 4 1 [(4, .int 1), (5, .int 2), (6, .long ((impQ t r 2 1) / 2)), (0, .ref (b 0)), (1, .ref a), (2, .int 1), (3, .int 0)] dX6_kicks_164 rfl (by decide) (Nat.le_of_ble_eq_true rfl) rfl 167 rfl ?_
  refine r_goto hC 85 dX6_kicks_167 (by decide) ?_
  refine r_iload hC 0 dX6_kicks_85 rfl 87 rfl ?_
  refine r_iconst hC 3 dX6_kicks_87 ic_3 88 rfl ?_
  refine r_icge hC 170 dX6_kicks_88 (by decide) 91 rfl (fun h => absurd h (by decide)) (fun _ => ?_)
  refine r_iconst hC 0 dX6_kicks_91 ic_0 92 rfl ?_
  refine r_istore hC 5 [(5, .int 0), (4, .int 1), (6, .long ((impQ t r 2 1) / 2)), (0, .ref (b 0)), (1, .ref a), (2, .int 1), (3, .int 0)] dX6_kicks_92 (Nat.le_of_ble_eq_true rfl) rfl 94 rfl ?_
  refine r_iload hC 0 dX6_kicks_94 rfl 96 rfl ?_
  refine r_iconst hC 2 dX6_kicks_96 ic_2 97 rfl ?_
  refine r_icge hC 164 dX6_kicks_97 (by decide) 100 rfl (fun h => absurd h (by decide)) (fun _ => ?_)
  refine r_aload_n hC 4 dX6_kicks_100 rfl 101 rfl ?_
  refine r_iload hC 1 dX6_kicks_101 rfl 103 rfl ?_
  refine r_invSr hC [.int 1] (.int 0) mSX6_firstOf q2733 (metX6_firstOf _ _ hG 1 (Nat.le_of_ble_eq_true rfl)) (fun _ _ => xIn.nil) ⟨rfl, rfl⟩ 0 0 rfl rfl (Nat.le_of_ble_eq_true rfl) (Nat.le_of_ble_eq_true rfl) rfl (Nat.le_of_ble_eq_true rfl) dX6_kicks_103 106 rfl ?_
  refine r_iconst hC 3 dX6_kicks_106 ic_3 107 rfl ?_
  refine r_iload hC 0 dX6_kicks_107 rfl 109 rfl ?_
  refine r_iadd hC 3 dX6_kicks_109  (by decide) 110 rfl ?_
  refine r_invSr hC [.int 0, .int 3] (.int 9) mSX6_at q2711 (metX6_at _ _ hG 0 3) (fun _ _ => xIn.nil) ⟨rfl, rfl⟩ 0 0 rfl rfl (Nat.le_of_ble_eq_true rfl) (Nat.le_of_ble_eq_true rfl) rfl (Nat.le_of_ble_eq_true rfl) dX6_kicks_110 113 rfl ?_
  refine r_dup2 hC dX6_kicks_113 rfl rfl 114 rfl ?_
  refine r_lald hC 9 (xix_n 9 (Nat.le_of_ble_eq_true rfl) (Nat.le_of_ble_eq_true rfl)) (fun _ h => h.get 2 rfl) ((r 9) + ((impQ t r 0 0) / 2)) (by rw [← hu10, ← hu9, ← hu8, ← hu7]; rfl) dX6_kicks_114 115 rfl ?_
  refine r_aload_n hC 3 dX6_kicks_115 rfl 116 rfl ?_
  refine r_get (v := .ref (b 23)) hC kX6 23 rfl q2776 (fun _ h => h.get 0 rfl) rfl dX6_kicks_116 119 rfl ?_
  refine r_iconst hC 2 dX6_kicks_119 ic_2 120 rfl ?_
  refine r_iload hC 1 dX6_kicks_120 rfl 122 rfl ?_
  refine r_imul hC 2 dX6_kicks_122  (by decide) 123 rfl ?_
  refine r_iload hC 0 dX6_kicks_123 rfl 125 rfl ?_
  refine r_iadd hC 2 dX6_kicks_125  (by decide) 126 rfl ?_
  refine r_lald hC 2 (xix_n 2 (Nat.le_of_ble_eq_true rfl) (Nat.le_of_ble_eq_true rfl)) (fun _ h => h.get 3 rfl) ((impQ t r 1 0) / 2) (by rw [← hu6, ← hu5, ← hu4, ← hu3]; rfl) dX6_kicks_126 127 rfl ?_
  refine r_ladd hC (((r 9) + ((impQ t r 0 0) / 2)) + ((impQ t r 1 0) / 2)) dX6_kicks_127  (rfl) 128 rfl ?_
  refine r_last (J := xSt F V0 [(b 0, .inr (5, mF b i j)), (b 7, .inl (1, 5, .inr (.inl t))), (a, .inl (1, 111, .inr (.inl (va_up u10 9 (((r 9) + ((impQ t r 0 0) / 2)) + ((impQ t r 1 0) / 2)))))), (b 23, .inl (1, 6, .inr (.inl u6)))]) hC 9 (xix_n 9 (Nat.le_of_ble_eq_true rfl) (Nat.le_of_ble_eq_true rfl)) (fun _ h => h.get 2 rfl) dX6_kicks_128 (fun _ h => h.set 2 _ rfl) 129 rfl ?_
  generalize hu11 : va_up u10 9 (((r 9) + ((impQ t r 0 0) / 2)) + ((impQ t r 1 0) / 2)) = u11
  refine r_aload_n hC 4 dX6_kicks_129 rfl 130 rfl ?_
  refine r_iload hC 1 dX6_kicks_130 rfl 132 rfl ?_
  refine r_invSr hC [.int 1] (.int 2) mSX6_secondOf q2736 (metX6_secondOf _ _ hG 1 (Nat.le_of_ble_eq_true rfl)) (fun _ _ => xIn.nil) ⟨rfl, rfl⟩ 0 0 rfl rfl (Nat.le_of_ble_eq_true rfl) (Nat.le_of_ble_eq_true rfl) rfl (Nat.le_of_ble_eq_true rfl) dX6_kicks_132 135 rfl ?_
  refine r_iconst hC 3 dX6_kicks_135 ic_3 136 rfl ?_
  refine r_iload hC 0 dX6_kicks_136 rfl 138 rfl ?_
  refine r_iadd hC 3 dX6_kicks_138  (by decide) 139 rfl ?_
  refine r_invSr hC [.int 2, .int 3] (.int 19) mSX6_at q2711 (metX6_at _ _ hG 2 3) (fun _ _ => xIn.nil) ⟨rfl, rfl⟩ 0 0 rfl rfl (Nat.le_of_ble_eq_true rfl) (Nat.le_of_ble_eq_true rfl) rfl (Nat.le_of_ble_eq_true rfl) dX6_kicks_139 142 rfl ?_
  refine r_dup2 hC dX6_kicks_142 rfl rfl 143 rfl ?_
  refine r_lald hC 19 (xix_n 19 (Nat.le_of_ble_eq_true rfl) (Nat.le_of_ble_eq_true rfl)) (fun _ h => h.get 2 rfl) (r 19) (by rw [← hu11, ← hu10, ← hu9, ← hu8, ← hu7]; rfl) dX6_kicks_143 144 rfl ?_
  refine r_aload_n hC 3 dX6_kicks_144 rfl 145 rfl ?_
  refine r_get (v := .ref (b 23)) hC kX6 23 rfl q2776 (fun _ h => h.get 0 rfl) rfl dX6_kicks_145 148 rfl ?_
  refine r_iconst hC 2 dX6_kicks_148 ic_2 149 rfl ?_
  refine r_iload hC 1 dX6_kicks_149 rfl 151 rfl ?_
  refine r_imul hC 2 dX6_kicks_151  (by decide) 152 rfl ?_
  refine r_iload hC 0 dX6_kicks_152 rfl 154 rfl ?_
  refine r_iadd hC 2 dX6_kicks_154  (by decide) 155 rfl ?_
  refine r_lald hC 2 (xix_n 2 (Nat.le_of_ble_eq_true rfl) (Nat.le_of_ble_eq_true rfl)) (fun _ h => h.get 3 rfl) ((impQ t r 1 0) / 2) (by rw [← hu6, ← hu5, ← hu4, ← hu3]; rfl) dX6_kicks_155 156 rfl ?_
  refine r_lsub hC ((r 19) - ((impQ t r 1 0) / 2)) dX6_kicks_156  (rfl) 157 rfl ?_
  refine r_last (J := xSt F V0 [(b 0, .inr (5, mF b i j)), (b 7, .inl (1, 5, .inr (.inl t))), (a, .inl (1, 111, .inr (.inl (va_up u11 19 ((r 19) - ((impQ t r 1 0) / 2)))))), (b 23, .inl (1, 6, .inr (.inl u6)))]) hC 19 (xix_n 19 (Nat.le_of_ble_eq_true rfl) (Nat.le_of_ble_eq_true rfl)) (fun _ h => h.get 2 rfl) dX6_kicks_157 (fun _ h => h.set 2 _ rfl) 158 rfl ?_
  generalize hu12 : va_up u11 19 ((r 19) - ((impQ t r 1 0) / 2)) = u12
  refine r_iinc hC 1 5 0 [(5, .int 1), (4, .int 1), (6, .long ((impQ t r 2 1) / 2)), (0, .ref (b 0)), (1, .ref a), (2, .int 1), (3, .int 0)] dX6_kicks_158 rfl (by decide) (Nat.le_of_ble_eq_true rfl) rfl 161 rfl ?_
  refine r_goto hC 94 dX6_kicks_161 (by decide) ?_
  refine r_iload hC 0 dX6_kicks_94 rfl 96 rfl ?_
  refine r_iconst hC 2 dX6_kicks_96 ic_2 97 rfl ?_
  refine r_icge hC 164 dX6_kicks_97 (by decide) 100 rfl (fun h => absurd h (by decide)) (fun _ => ?_)
  refine r_aload_n hC 4 dX6_kicks_100 rfl 101 rfl ?_
  refine r_iload hC 1 dX6_kicks_101 rfl 103 rfl ?_
  refine r_invSr hC [.int 1] (.int 0) mSX6_firstOf q2733 (metX6_firstOf _ _ hG 1 (Nat.le_of_ble_eq_true rfl)) (fun _ _ => xIn.nil) ⟨rfl, rfl⟩ 0 0 rfl rfl (Nat.le_of_ble_eq_true rfl) (Nat.le_of_ble_eq_true rfl) rfl (Nat.le_of_ble_eq_true rfl) dX6_kicks_103 106 rfl ?_
  refine r_iconst hC 3 dX6_kicks_106 ic_3 107 rfl ?_
  refine r_iload hC 0 dX6_kicks_107 rfl 109 rfl ?_
  refine r_iadd hC 4 dX6_kicks_109  (by decide) 110 rfl ?_
  refine r_invSr hC [.int 0, .int 4] (.int 10) mSX6_at q2711 (metX6_at _ _ hG 0 4) (fun _ _ => xIn.nil) ⟨rfl, rfl⟩ 0 0 rfl rfl (Nat.le_of_ble_eq_true rfl) (Nat.le_of_ble_eq_true rfl) rfl (Nat.le_of_ble_eq_true rfl) dX6_kicks_110 113 rfl ?_
  refine r_dup2 hC dX6_kicks_113 rfl rfl 114 rfl ?_
  refine r_lald hC 10 (xix_n 10 (Nat.le_of_ble_eq_true rfl) (Nat.le_of_ble_eq_true rfl)) (fun _ h => h.get 2 rfl) ((r 10) + ((impQ t r 0 1) / 2)) (by rw [← hu12, ← hu11, ← hu10, ← hu9]; rfl) dX6_kicks_114 115 rfl ?_
  refine r_aload_n hC 3 dX6_kicks_115 rfl 116 rfl ?_
  refine r_get (v := .ref (b 23)) hC kX6 23 rfl q2776 (fun _ h => h.get 0 rfl) rfl dX6_kicks_116 119 rfl ?_
  refine r_iconst hC 2 dX6_kicks_119 ic_2 120 rfl ?_
  refine r_iload hC 1 dX6_kicks_120 rfl 122 rfl ?_
  refine r_imul hC 2 dX6_kicks_122  (by decide) 123 rfl ?_
  refine r_iload hC 0 dX6_kicks_123 rfl 125 rfl ?_
  refine r_iadd hC 3 dX6_kicks_125  (by decide) 126 rfl ?_
  refine r_lald hC 3 (xix_n 3 (Nat.le_of_ble_eq_true rfl) (Nat.le_of_ble_eq_true rfl)) (fun _ h => h.get 3 rfl) ((impQ t r 1 1) / 2) (by rw [← hu6, ← hu5, ← hu4]; rfl) dX6_kicks_126 127 rfl ?_
  refine r_ladd hC (((r 10) + ((impQ t r 0 1) / 2)) + ((impQ t r 1 1) / 2)) dX6_kicks_127  (rfl) 128 rfl ?_
  refine r_last (J := xSt F V0 [(b 0, .inr (5, mF b i j)), (b 7, .inl (1, 5, .inr (.inl t))), (a, .inl (1, 111, .inr (.inl (va_up u12 10 (((r 10) + ((impQ t r 0 1) / 2)) + ((impQ t r 1 1) / 2)))))), (b 23, .inl (1, 6, .inr (.inl u6)))]) hC 10 (xix_n 10 (Nat.le_of_ble_eq_true rfl) (Nat.le_of_ble_eq_true rfl)) (fun _ h => h.get 2 rfl) dX6_kicks_128 (fun _ h => h.set 2 _ rfl) 129 rfl ?_
  generalize hu13 : va_up u12 10 (((r 10) + ((impQ t r 0 1) / 2)) + ((impQ t r 1 1) / 2)) = u13
  refine r_aload_n hC 4 dX6_kicks_129 rfl 130 rfl ?_
  refine r_iload hC 1 dX6_kicks_130 rfl 132 rfl ?_
  refine r_invSr hC [.int 1] (.int 2) mSX6_secondOf q2736 (metX6_secondOf _ _ hG 1 (Nat.le_of_ble_eq_true rfl)) (fun _ _ => xIn.nil) ⟨rfl, rfl⟩ 0 0 rfl rfl (Nat.le_of_ble_eq_true rfl) (Nat.le_of_ble_eq_true rfl) rfl (Nat.le_of_ble_eq_true rfl) dX6_kicks_132 135 rfl ?_
  refine r_iconst hC 3 dX6_kicks_135 ic_3 136 rfl ?_
  refine r_iload hC 0 dX6_kicks_136 rfl 138 rfl ?_
  refine r_iadd hC 4 dX6_kicks_138  (by decide) 139 rfl ?_
  refine r_invSr hC [.int 2, .int 4] (.int 20) mSX6_at q2711 (metX6_at _ _ hG 2 4) (fun _ _ => xIn.nil) ⟨rfl, rfl⟩ 0 0 rfl rfl (Nat.le_of_ble_eq_true rfl) (Nat.le_of_ble_eq_true rfl) rfl (Nat.le_of_ble_eq_true rfl) dX6_kicks_139 142 rfl ?_
  refine r_dup2 hC dX6_kicks_142 rfl rfl 143 rfl ?_
  refine r_lald hC 20 (xix_n 20 (Nat.le_of_ble_eq_true rfl) (Nat.le_of_ble_eq_true rfl)) (fun _ h => h.get 2 rfl) (r 20) (by rw [← hu13, ← hu12, ← hu11, ← hu10, ← hu9, ← hu8, ← hu7]; rfl) dX6_kicks_143 144 rfl ?_
  refine r_aload_n hC 3 dX6_kicks_144 rfl 145 rfl ?_
  refine r_get (v := .ref (b 23)) hC kX6 23 rfl q2776 (fun _ h => h.get 0 rfl) rfl dX6_kicks_145 148 rfl ?_
  refine r_iconst hC 2 dX6_kicks_148 ic_2 149 rfl ?_
  refine r_iload hC 1 dX6_kicks_149 rfl 151 rfl ?_
  refine r_imul hC 2 dX6_kicks_151  (by decide) 152 rfl ?_
  refine r_iload hC 0 dX6_kicks_152 rfl 154 rfl ?_
  refine r_iadd hC 3 dX6_kicks_154  (by decide) 155 rfl ?_
  refine r_lald hC 3 (xix_n 3 (Nat.le_of_ble_eq_true rfl) (Nat.le_of_ble_eq_true rfl)) (fun _ h => h.get 3 rfl) ((impQ t r 1 1) / 2) (by rw [← hu6, ← hu5, ← hu4]; rfl) dX6_kicks_155 156 rfl ?_
  refine r_lsub hC ((r 20) - ((impQ t r 1 1) / 2)) dX6_kicks_156  (rfl) 157 rfl ?_
  refine r_last (J := xSt F V0 [(b 0, .inr (5, mF b i j)), (b 7, .inl (1, 5, .inr (.inl t))), (a, .inl (1, 111, .inr (.inl (va_up u13 20 ((r 20) - ((impQ t r 1 1) / 2)))))), (b 23, .inl (1, 6, .inr (.inl u6)))]) hC 20 (xix_n 20 (Nat.le_of_ble_eq_true rfl) (Nat.le_of_ble_eq_true rfl)) (fun _ h => h.get 2 rfl) dX6_kicks_157 (fun _ h => h.set 2 _ rfl) 158 rfl ?_
  generalize hu14 : va_up u13 20 ((r 20) - ((impQ t r 1 1) / 2)) = u14
  refine r_iinc hC 2 5 0 [(5, .int 2), (4, .int 1), (6, .long ((impQ t r 2 1) / 2)), (0, .ref (b 0)), (1, .ref a), (2, .int 1), (3, .int 0)] dX6_kicks_158 rfl (by decide) (Nat.le_of_ble_eq_true rfl) rfl 161 rfl ?_
  refine r_goto hC 94 dX6_kicks_161 (by decide) ?_
  refine r_iload hC 0 dX6_kicks_94 rfl 96 rfl ?_
  refine r_iconst hC 2 dX6_kicks_96 ic_2 97 rfl ?_
  refine r_icge hC 164 dX6_kicks_97 (by decide) 100 rfl (fun _ => ?_) (fun h => absurd h (by decide))
  refine r_iinc hC 2 4 1 [(4, .int 2), (5, .int 2), (6, .long ((impQ t r 2 1) / 2)), (0, .ref (b 0)), (1, .ref a), (2, .int 1), (3, .int 0)] dX6_kicks_164 rfl (by decide) (Nat.le_of_ble_eq_true rfl) rfl 167 rfl ?_
  refine r_goto hC 85 dX6_kicks_167 (by decide) ?_
  refine r_iload hC 0 dX6_kicks_85 rfl 87 rfl ?_
  refine r_iconst hC 3 dX6_kicks_87 ic_3 88 rfl ?_
  refine r_icge hC 170 dX6_kicks_88 (by decide) 91 rfl (fun h => absurd h (by decide)) (fun _ => ?_)
  refine r_iconst hC 0 dX6_kicks_91 ic_0 92 rfl ?_
  refine r_istore hC 5 [(5, .int 0), (4, .int 2), (6, .long ((impQ t r 2 1) / 2)), (0, .ref (b 0)), (1, .ref a), (2, .int 1), (3, .int 0)] dX6_kicks_92 (Nat.le_of_ble_eq_true rfl) rfl 94 rfl ?_
  refine r_iload hC 0 dX6_kicks_94 rfl 96 rfl ?_
  refine r_iconst hC 2 dX6_kicks_96 ic_2 97 rfl ?_
  refine r_icge hC 164 dX6_kicks_97 (by decide) 100 rfl (fun h => absurd h (by decide)) (fun _ => ?_)
  refine r_aload_n hC 4 dX6_kicks_100 rfl 101 rfl ?_
  refine r_iload hC 1 dX6_kicks_101 rfl 103 rfl ?_
  refine r_invSr hC [.int 2] (.int 1) mSX6_firstOf q2733 (metX6_firstOf _ _ hG 2 (Nat.le_of_ble_eq_true rfl)) (fun _ _ => xIn.nil) ⟨rfl, rfl⟩ 0 0 rfl rfl (Nat.le_of_ble_eq_true rfl) (Nat.le_of_ble_eq_true rfl) rfl (Nat.le_of_ble_eq_true rfl) dX6_kicks_103 106 rfl ?_
  refine r_iconst hC 3 dX6_kicks_106 ic_3 107 rfl ?_
  refine r_iload hC 0 dX6_kicks_107 rfl 109 rfl ?_
  refine r_iadd hC 3 dX6_kicks_109  (by decide) 110 rfl ?_
  refine r_invSr hC [.int 1, .int 3] (.int 14) mSX6_at q2711 (metX6_at _ _ hG 1 3) (fun _ _ => xIn.nil) ⟨rfl, rfl⟩ 0 0 rfl rfl (Nat.le_of_ble_eq_true rfl) (Nat.le_of_ble_eq_true rfl) rfl (Nat.le_of_ble_eq_true rfl) dX6_kicks_110 113 rfl ?_
  refine r_dup2 hC dX6_kicks_113 rfl rfl 114 rfl ?_
  refine r_lald hC 14 (xix_n 14 (Nat.le_of_ble_eq_true rfl) (Nat.le_of_ble_eq_true rfl)) (fun _ h => h.get 2 rfl) ((r 14) - ((impQ t r 0 0) / 2)) (by rw [← hu14, ← hu13, ← hu12, ← hu11, ← hu10, ← hu9, ← hu8]; rfl) dX6_kicks_114 115 rfl ?_
  refine r_aload_n hC 3 dX6_kicks_115 rfl 116 rfl ?_
  refine r_get (v := .ref (b 23)) hC kX6 23 rfl q2776 (fun _ h => h.get 0 rfl) rfl dX6_kicks_116 119 rfl ?_
  refine r_iconst hC 2 dX6_kicks_119 ic_2 120 rfl ?_
  refine r_iload hC 1 dX6_kicks_120 rfl 122 rfl ?_
  refine r_imul hC 4 dX6_kicks_122  (by decide) 123 rfl ?_
  refine r_iload hC 0 dX6_kicks_123 rfl 125 rfl ?_
  refine r_iadd hC 4 dX6_kicks_125  (by decide) 126 rfl ?_
  refine r_lald hC 4 (xix_n 4 (Nat.le_of_ble_eq_true rfl) (Nat.le_of_ble_eq_true rfl)) (fun _ h => h.get 3 rfl) ((impQ t r 2 0) / 2) (by rw [← hu6, ← hu5]; rfl) dX6_kicks_126 127 rfl ?_
  refine r_ladd hC (((r 14) - ((impQ t r 0 0) / 2)) + ((impQ t r 2 0) / 2)) dX6_kicks_127  (rfl) 128 rfl ?_
  refine r_last (J := xSt F V0 [(b 0, .inr (5, mF b i j)), (b 7, .inl (1, 5, .inr (.inl t))), (a, .inl (1, 111, .inr (.inl (va_up u14 14 (((r 14) - ((impQ t r 0 0) / 2)) + ((impQ t r 2 0) / 2)))))), (b 23, .inl (1, 6, .inr (.inl u6)))]) hC 14 (xix_n 14 (Nat.le_of_ble_eq_true rfl) (Nat.le_of_ble_eq_true rfl)) (fun _ h => h.get 2 rfl) dX6_kicks_128 (fun _ h => h.set 2 _ rfl) 129 rfl ?_
  generalize hu15 : va_up u14 14 (((r 14) - ((impQ t r 0 0) / 2)) + ((impQ t r 2 0) / 2)) = u15
  refine r_aload_n hC 4 dX6_kicks_129 rfl 130 rfl ?_
  refine r_iload hC 1 dX6_kicks_130 rfl 132 rfl ?_
  refine r_invSr hC [.int 2] (.int 2) mSX6_secondOf q2736 (metX6_secondOf _ _ hG 2 (Nat.le_of_ble_eq_true rfl)) (fun _ _ => xIn.nil) ⟨rfl, rfl⟩ 0 0 rfl rfl (Nat.le_of_ble_eq_true rfl) (Nat.le_of_ble_eq_true rfl) rfl (Nat.le_of_ble_eq_true rfl) dX6_kicks_132 135 rfl ?_
  refine r_iconst hC 3 dX6_kicks_135 ic_3 136 rfl ?_
  refine r_iload hC 0 dX6_kicks_136 rfl 138 rfl ?_
  refine r_iadd hC 3 dX6_kicks_138  (by decide) 139 rfl ?_
  refine r_invSr hC [.int 2, .int 3] (.int 19) mSX6_at q2711 (metX6_at _ _ hG 2 3) (fun _ _ => xIn.nil) ⟨rfl, rfl⟩ 0 0 rfl rfl (Nat.le_of_ble_eq_true rfl) (Nat.le_of_ble_eq_true rfl) rfl (Nat.le_of_ble_eq_true rfl) dX6_kicks_139 142 rfl ?_
  refine r_dup2 hC dX6_kicks_142 rfl rfl 143 rfl ?_
  refine r_lald hC 19 (xix_n 19 (Nat.le_of_ble_eq_true rfl) (Nat.le_of_ble_eq_true rfl)) (fun _ h => h.get 2 rfl) ((r 19) - ((impQ t r 1 0) / 2)) (by rw [← hu15, ← hu14, ← hu13, ← hu12]; rfl) dX6_kicks_143 144 rfl ?_
  refine r_aload_n hC 3 dX6_kicks_144 rfl 145 rfl ?_
  refine r_get (v := .ref (b 23)) hC kX6 23 rfl q2776 (fun _ h => h.get 0 rfl) rfl dX6_kicks_145 148 rfl ?_
  refine r_iconst hC 2 dX6_kicks_148 ic_2 149 rfl ?_
  refine r_iload hC 1 dX6_kicks_149 rfl 151 rfl ?_
  refine r_imul hC 4 dX6_kicks_151  (by decide) 152 rfl ?_
  refine r_iload hC 0 dX6_kicks_152 rfl 154 rfl ?_
  refine r_iadd hC 4 dX6_kicks_154  (by decide) 155 rfl ?_
  refine r_lald hC 4 (xix_n 4 (Nat.le_of_ble_eq_true rfl) (Nat.le_of_ble_eq_true rfl)) (fun _ h => h.get 3 rfl) ((impQ t r 2 0) / 2) (by rw [← hu6, ← hu5]; rfl) dX6_kicks_155 156 rfl ?_
  refine r_lsub hC (((r 19) - ((impQ t r 1 0) / 2)) - ((impQ t r 2 0) / 2)) dX6_kicks_156  (rfl) 157 rfl ?_
  refine r_last (J := xSt F V0 [(b 0, .inr (5, mF b i j)), (b 7, .inl (1, 5, .inr (.inl t))), (a, .inl (1, 111, .inr (.inl (va_up u15 19 (((r 19) - ((impQ t r 1 0) / 2)) - ((impQ t r 2 0) / 2)))))), (b 23, .inl (1, 6, .inr (.inl u6)))]) hC 19 (xix_n 19 (Nat.le_of_ble_eq_true rfl) (Nat.le_of_ble_eq_true rfl)) (fun _ h => h.get 2 rfl) dX6_kicks_157 (fun _ h => h.set 2 _ rfl) 158 rfl ?_
  generalize hu16 : va_up u15 19 (((r 19) - ((impQ t r 1 0) / 2)) - ((impQ t r 2 0) / 2)) = u16
  refine r_iinc hC 1 5 0 [(5, .int 1), (4, .int 2), (6, .long ((impQ t r 2 1) / 2)), (0, .ref (b 0)), (1, .ref a), (2, .int 1), (3, .int 0)] dX6_kicks_158 rfl (by decide) (Nat.le_of_ble_eq_true rfl) rfl 161 rfl ?_
  refine r_goto hC 94 dX6_kicks_161 (by decide) ?_
  refine r_iload hC 0 dX6_kicks_94 rfl 96 rfl ?_
  refine r_iconst hC 2 dX6_kicks_96 ic_2 97 rfl ?_
  refine r_icge hC 164 dX6_kicks_97 (by decide) 100 rfl (fun h => absurd h (by decide)) (fun _ => ?_)
  refine r_aload_n hC 4 dX6_kicks_100 rfl 101 rfl ?_
  refine r_iload hC 1 dX6_kicks_101 rfl 103 rfl ?_
  refine r_invSr hC [.int 2] (.int 1) mSX6_firstOf q2733 (metX6_firstOf _ _ hG 2 (Nat.le_of_ble_eq_true rfl)) (fun _ _ => xIn.nil) ⟨rfl, rfl⟩ 0 0 rfl rfl (Nat.le_of_ble_eq_true rfl) (Nat.le_of_ble_eq_true rfl) rfl (Nat.le_of_ble_eq_true rfl) dX6_kicks_103 106 rfl ?_
  refine r_iconst hC 3 dX6_kicks_106 ic_3 107 rfl ?_
  refine r_iload hC 0 dX6_kicks_107 rfl 109 rfl ?_
  refine r_iadd hC 4 dX6_kicks_109  (by decide) 110 rfl ?_
  refine r_invSr hC [.int 1, .int 4] (.int 15) mSX6_at q2711 (metX6_at _ _ hG 1 4) (fun _ _ => xIn.nil) ⟨rfl, rfl⟩ 0 0 rfl rfl (Nat.le_of_ble_eq_true rfl) (Nat.le_of_ble_eq_true rfl) rfl (Nat.le_of_ble_eq_true rfl) dX6_kicks_110 113 rfl ?_
  refine r_dup2 hC dX6_kicks_113 rfl rfl 114 rfl ?_
  refine r_lald hC 15 (xix_n 15 (Nat.le_of_ble_eq_true rfl) (Nat.le_of_ble_eq_true rfl)) (fun _ h => h.get 2 rfl) ((r 15) - ((impQ t r 0 1) / 2)) (by rw [← hu16, ← hu15, ← hu14, ← hu13, ← hu12, ← hu11, ← hu10]; rfl) dX6_kicks_114 115 rfl ?_
  refine r_aload_n hC 3 dX6_kicks_115 rfl 116 rfl ?_
  refine r_get (v := .ref (b 23)) hC kX6 23 rfl q2776 (fun _ h => h.get 0 rfl) rfl dX6_kicks_116 119 rfl ?_
  refine r_iconst hC 2 dX6_kicks_119 ic_2 120 rfl ?_
  refine r_iload hC 1 dX6_kicks_120 rfl 122 rfl ?_
  refine r_imul hC 4 dX6_kicks_122  (by decide) 123 rfl ?_
  refine r_iload hC 0 dX6_kicks_123 rfl 125 rfl ?_
  refine r_iadd hC 5 dX6_kicks_125  (by decide) 126 rfl ?_
  refine r_lald hC 5 (xix_n 5 (Nat.le_of_ble_eq_true rfl) (Nat.le_of_ble_eq_true rfl)) (fun _ h => h.get 3 rfl) ((impQ t r 2 1) / 2) (by rw [← hu6]; rfl) dX6_kicks_126 127 rfl ?_
  refine r_ladd hC (((r 15) - ((impQ t r 0 1) / 2)) + ((impQ t r 2 1) / 2)) dX6_kicks_127  (rfl) 128 rfl ?_
  refine r_last (J := xSt F V0 [(b 0, .inr (5, mF b i j)), (b 7, .inl (1, 5, .inr (.inl t))), (a, .inl (1, 111, .inr (.inl (va_up u16 15 (((r 15) - ((impQ t r 0 1) / 2)) + ((impQ t r 2 1) / 2)))))), (b 23, .inl (1, 6, .inr (.inl u6)))]) hC 15 (xix_n 15 (Nat.le_of_ble_eq_true rfl) (Nat.le_of_ble_eq_true rfl)) (fun _ h => h.get 2 rfl) dX6_kicks_128 (fun _ h => h.set 2 _ rfl) 129 rfl ?_
  generalize hu17 : va_up u16 15 (((r 15) - ((impQ t r 0 1) / 2)) + ((impQ t r 2 1) / 2)) = u17
  refine r_aload_n hC 4 dX6_kicks_129 rfl 130 rfl ?_
  refine r_iload hC 1 dX6_kicks_130 rfl 132 rfl ?_
  refine r_invSr hC [.int 2] (.int 2) mSX6_secondOf q2736 (metX6_secondOf _ _ hG 2 (Nat.le_of_ble_eq_true rfl)) (fun _ _ => xIn.nil) ⟨rfl, rfl⟩ 0 0 rfl rfl (Nat.le_of_ble_eq_true rfl) (Nat.le_of_ble_eq_true rfl) rfl (Nat.le_of_ble_eq_true rfl) dX6_kicks_132 135 rfl ?_
  refine r_iconst hC 3 dX6_kicks_135 ic_3 136 rfl ?_
  refine r_iload hC 0 dX6_kicks_136 rfl 138 rfl ?_
  refine r_iadd hC 4 dX6_kicks_138  (by decide) 139 rfl ?_
  refine r_invSr hC [.int 2, .int 4] (.int 20) mSX6_at q2711 (metX6_at _ _ hG 2 4) (fun _ _ => xIn.nil) ⟨rfl, rfl⟩ 0 0 rfl rfl (Nat.le_of_ble_eq_true rfl) (Nat.le_of_ble_eq_true rfl) rfl (Nat.le_of_ble_eq_true rfl) dX6_kicks_139 142 rfl ?_
  refine r_dup2 hC dX6_kicks_142 rfl rfl 143 rfl ?_
  refine r_lald hC 20 (xix_n 20 (Nat.le_of_ble_eq_true rfl) (Nat.le_of_ble_eq_true rfl)) (fun _ h => h.get 2 rfl) ((r 20) - ((impQ t r 1 1) / 2)) (by rw [← hu17, ← hu16, ← hu15, ← hu14]; rfl) dX6_kicks_143 144 rfl ?_
  refine r_aload_n hC 3 dX6_kicks_144 rfl 145 rfl ?_
  refine r_get (v := .ref (b 23)) hC kX6 23 rfl q2776 (fun _ h => h.get 0 rfl) rfl dX6_kicks_145 148 rfl ?_
  refine r_iconst hC 2 dX6_kicks_148 ic_2 149 rfl ?_
  refine r_iload hC 1 dX6_kicks_149 rfl 151 rfl ?_
  refine r_imul hC 4 dX6_kicks_151  (by decide) 152 rfl ?_
  refine r_iload hC 0 dX6_kicks_152 rfl 154 rfl ?_
  refine r_iadd hC 5 dX6_kicks_154  (by decide) 155 rfl ?_
  refine r_lald hC 5 (xix_n 5 (Nat.le_of_ble_eq_true rfl) (Nat.le_of_ble_eq_true rfl)) (fun _ h => h.get 3 rfl) ((impQ t r 2 1) / 2) (by rw [← hu6]; rfl) dX6_kicks_155 156 rfl ?_
  refine r_lsub hC (((r 20) - ((impQ t r 1 1) / 2)) - ((impQ t r 2 1) / 2)) dX6_kicks_156  (rfl) 157 rfl ?_
  refine r_last (J := xSt F V0 [(b 0, .inr (5, mF b i j)), (b 7, .inl (1, 5, .inr (.inl t))), (a, .inl (1, 111, .inr (.inl (va_up u17 20 (((r 20) - ((impQ t r 1 1) / 2)) - ((impQ t r 2 1) / 2)))))), (b 23, .inl (1, 6, .inr (.inl u6)))]) hC 20 (xix_n 20 (Nat.le_of_ble_eq_true rfl) (Nat.le_of_ble_eq_true rfl)) (fun _ h => h.get 2 rfl) dX6_kicks_157 (fun _ h => h.set 2 _ rfl) 158 rfl ?_
  generalize hu18 : va_up u17 20 (((r 20) - ((impQ t r 1 1) / 2)) - ((impQ t r 2 1) / 2)) = u18
  refine r_iinc hC 2 5 0 [(5, .int 2), (4, .int 2), (6, .long ((impQ t r 2 1) / 2)), (0, .ref (b 0)), (1, .ref a), (2, .int 1), (3, .int 0)] dX6_kicks_158 rfl (by decide) (Nat.le_of_ble_eq_true rfl) rfl 161 rfl ?_
  refine r_goto hC 94 dX6_kicks_161 (by decide) ?_
  refine r_iload hC 0 dX6_kicks_94 rfl 96 rfl ?_
  refine r_iconst hC 2 dX6_kicks_96 ic_2 97 rfl ?_
  refine r_icge hC 164 dX6_kicks_97 (by decide) 100 rfl (fun _ => ?_) (fun h => absurd h (by decide))
  refine r_iinc hC 3 4 1 [(4, .int 3), (5, .int 2), (6, .long ((impQ t r 2 1) / 2)), (0, .ref (b 0)), (1, .ref a), (2, .int 1), (3, .int 0)] dX6_kicks_164 rfl (by decide) (Nat.le_of_ble_eq_true rfl) rfl 167 rfl ?_
  refine r_goto hC 85 dX6_kicks_167 (by decide) ?_
  refine r_iload hC 0 dX6_kicks_85 rfl 87 rfl ?_
  refine r_iconst hC 3 dX6_kicks_87 ic_3 88 rfl ?_
  refine r_icge hC 170 dX6_kicks_88 (by decide) 91 rfl (fun _ => ?_) (fun h => absurd h (by decide))
  subst hu18
  subst hu17
  subst hu16
  subst hu15
  subst hu14
  subst hu13
  subst hu12
  subst hu11
  subst hu10
  subst hu9
  subst hu8
  subst hu7
  subst hu6
  subst hu5
  subst hu4
  subst hu3
  subst hu2
  subst hu1
  exact r_vret hC (Nat.le_of_ble_eq_true rfl) (Nat.le_of_ble_eq_true rfl) (fun V9 h => hQ _ _ ⟨[(b 0, .inr (5, mF b i j)), (b 7, .inl (1, 5, .inr (.inl t))), (a, .inl (1, 111, .inr (.inl (va_up (va_up (va_up (va_up (va_up (va_up (va_up (va_up (va_up (va_up (va_up (va_up r 9 ((r 9) + ((impQ t r 0 0) / 2))) 14 ((r 14) - ((impQ t r 0 0) / 2))) 10 ((r 10) + ((impQ t r 0 1) / 2))) 15 ((r 15) - ((impQ t r 0 1) / 2))) 9 (((r 9) + ((impQ t r 0 0) / 2)) + ((impQ t r 1 0) / 2))) 19 ((r 19) - ((impQ t r 1 0) / 2))) 10 (((r 10) + ((impQ t r 0 1) / 2)) + ((impQ t r 1 1) / 2))) 20 ((r 20) - ((impQ t r 1 1) / 2))) 14 (((r 14) - ((impQ t r 0 0) / 2)) + ((impQ t r 2 0) / 2))) 19 (((r 19) - ((impQ t r 1 0) / 2)) - ((impQ t r 2 0) / 2))) 15 (((r 15) - ((impQ t r 0 1) / 2)) + ((impQ t r 2 1) / 2))) 20 (((r 20) - ((impQ t r 1 1) / 2)) - ((impQ t r 2 1) / 2)))))), (b 23, .inl (1, 6, .inr (.inl (va_up (va_up (va_up (va_up (va_up (va_up g 0 ((impQ t r 0 0) / 2)) 1 ((impQ t r 0 1) / 2)) 2 ((impQ t r 1 0) / 2)) 3 ((impQ t r 1 1) / 2)) 4 ((impQ t r 2 0) / 2)) 5 ((impQ t r 2 1) / 2)))))], ⟨(va_up (va_up (va_up (va_up (va_up (va_up g 0 ((impQ t r 0 0) / 2)) 1 ((impQ t r 0 1) / 2)) 2 ((impQ t r 1 0) / 2)) 3 ((impQ t r 1 1) / 2)) 4 ((impQ t r 2 0) / 2)) 5 ((impQ t r 2 1) / 2)), rfl, by rw [kick_eq10]⟩, by rw [← hV0, ← hF]; exact h⟩) dX6_kicks_170
set_option maxHeartbeats 4000000 in
set_option maxRecDepth 100000 in
theorem kick_eq11 (t r : Nat → Int64) : va_up (va_up (va_up (va_up (va_up (va_up (va_up (va_up (va_up (va_up (va_up (va_up r 9 ((r 9) + (-((impQ t r 0 0) / 2)))) 14 ((r 14) - (-((impQ t r 0 0) / 2)))) 10 ((r 10) + (-((impQ t r 0 1) / 2)))) 15 ((r 15) - (-((impQ t r 0 1) / 2)))) 9 (((r 9) + (-((impQ t r 0 0) / 2))) + (-((impQ t r 1 0) / 2)))) 19 ((r 19) - (-((impQ t r 1 0) / 2)))) 10 (((r 10) + (-((impQ t r 0 1) / 2))) + (-((impQ t r 1 1) / 2)))) 20 ((r 20) - (-((impQ t r 1 1) / 2)))) 14 (((r 14) - (-((impQ t r 0 0) / 2))) + (-((impQ t r 2 0) / 2)))) 19 (((r 19) - (-((impQ t r 1 0) / 2))) - (-((impQ t r 2 0) / 2)))) 15 (((r 15) - (-((impQ t r 0 1) / 2))) + (-((impQ t r 2 1) / 2)))) 20 (((r 20) - (-((impQ t r 1 1) / 2))) - (-((impQ t r 2 1) / 2))) = kickQ t r true true := by
  funext k
  by_cases h9 : k = 9
  · subst h9; simp [kickQ, gQ, va_up]
  by_cases h10 : k = 10
  · subst h10; simp [kickQ, gQ, va_up]
  by_cases h14 : k = 14
  · subst h14; simp [kickQ, gQ, va_up]
  by_cases h15 : k = 15
  · subst h15; simp [kickQ, gQ, va_up]
  by_cases h19 : k = 19
  · subst h19; simp [kickQ, gQ, va_up]
  by_cases h20 : k = 20
  · subst h20; simp [kickQ, gQ, va_up]
  simp only [kickQ, va_up, h9, h10, h14, h15, h19, h20, if_false]
set_option maxHeartbeats 4000000 in
set_option maxRecDepth 100000 in
theorem metX6_kicks11 (l : Launch) (G : xG) (hG : xGood G) (b : Nat → Nat) (i : Nat → Int32) (j : Nat → Int64) (t : Nat → Int64) (a : Nat) (r : Nat → Int64) (g : Nat → Int64) (hok : rowOK t r) : xWm l G yX6_kicks (Cond.code yX6_kicks cX6_kicks 8 none) { frames := 5, locals := 124, cells := 0, slots := 0 } [.ref (b 0), .ref a, .int 1, .int 1] [(b 0, .inr (5, mF b i j)), (b 7, .inl (1, 5, .inr (.inl t))), (a, .inl (1, 111, .inr (.inl r))), (b 23, .inl (1, 6, .inr (.inl g)))] (fun v w' => ∃ g' : Nat → Int64, v = none ∧ w' = [(b 0, .inr (5, mF b i j)), (b 7, .inl (1, 5, .inr (.inl t))), (a, .inl (1, 111, .inr (.inl (kickQ t r true true)))), (b 23, .inl (1, 6, .inr (.inl g')))]) (fun _ _ => False) := by
  intro V hV
  refine xMet_of RX6 hG rfl (by decide) (Nat.le_of_ble_eq_true rfl) fun C hC hQ hX hl hg _ => ?_
  subst hl hg
  obtain ⟨V0, hV0⟩ : ∃ V0, V0 = V := ⟨_, rfl⟩
  obtain ⟨F, hF⟩ : ∃ F, F = xF [(b 0, .inr (5, mF b i j)), (b 7, .inl (1, 5, .inr (.inl t))), (a, .inl (1, 111, .inr (.inl r))), (b 23, .inl (1, 6, .inr (.inl g)))] := ⟨_, rfl⟩
  refine rn.mono (J := xSt F V0 [(b 0, .inr (5, mF b i j)), (b 7, .inl (1, 5, .inr (.inl t))), (a, .inl (1, 111, .inr (.inl r))), (b 23, .inl (1, 6, .inr (.inl g)))]) (fun V9 h => by rw [h, hV0, hF]; exact hV.st) ?_
  show rn C (xSt F V0 [(b 0, .inr (5, mF b i j)), (b 7, .inl (1, 5, .inr (.inl t))), (a, .inl (1, 111, .inr (.inl r))), (b 23, .inl (1, 6, .inr (.inl g)))]) 0 0 0 [(0, .ref (b 0)), (1, .ref a), (2, .int 1), (3, .int 1)] []
  refine r_iconst hC 0 dX6_kicks_0 ic_0 1 rfl ?_
  refine r_istore hC 4 [(4, .int 0), (0, .ref (b 0)), (1, .ref a), (2, .int 1), (3, .int 1)] dX6_kicks_1 (Nat.le_of_ble_eq_true rfl) rfl 3 rfl ?_
  refine r_iload hC 0 dX6_kicks_3 rfl 5 rfl ?_
  refine r_iconst hC 3 dX6_kicks_5 ic_3 6 rfl ?_
  refine r_icge hC 82 dX6_kicks_6 (by decide) 9 rfl (fun h => absurd h (by decide)) (fun _ => ?_)
  refine r_iconst hC 0 dX6_kicks_9 ic_0 10 rfl ?_
  refine r_istore hC 5 [(5, .int 0), (4, .int 0), (0, .ref (b 0)), (1, .ref a), (2, .int 1), (3, .int 1)] dX6_kicks_10 (Nat.le_of_ble_eq_true rfl) rfl 12 rfl ?_
  refine r_iload hC 0 dX6_kicks_12 rfl 14 rfl ?_
  refine r_iconst hC 2 dX6_kicks_14 ic_2 15 rfl ?_
  refine r_icge hC 76 dX6_kicks_15 (by decide) 18 rfl (fun h => absurd h (by decide)) (fun _ => ?_)
  refine r_aload_n hC 2 dX6_kicks_18 rfl 19 rfl ?_
  refine r_aload_n hC 3 dX6_kicks_19 rfl 20 rfl ?_
  refine r_iload hC 1 dX6_kicks_20 rfl 22 rfl ?_
  refine r_iload hC 0 dX6_kicks_22 rfl 24 rfl ?_
  refine r_invVr hC kX6 (b 0) [.ref a, .int 0, .int 0] (.long (impQ t r 0 0)) mVX6_impulseOf q3014 (fun _ h => h.get 0 rfl) (metX6_impulseOf _ _ hG b _ _ _ a _ 0 0 (Nat.le_of_ble_eq_true rfl) (Nat.le_of_ble_eq_true rfl) (hok)) (fun _ h => h.in.sub [0, 1, 2] rfl rfl) ⟨rfl, rfl⟩ 0 0 rfl rfl (Nat.le_of_ble_eq_true rfl) (Nat.le_of_ble_eq_true rfl) rfl (Nat.le_of_ble_eq_true rfl) dX6_kicks_24 27 rfl ?_
  refine r_lstore hC 6 [(6, .long (impQ t r 0 0)), (5, .int 0), (4, .int 0), (0, .ref (b 0)), (1, .ref a), (2, .int 1), (3, .int 1)] dX6_kicks_27 (Nat.le_of_ble_eq_true rfl) rfl 29 rfl ?_
  refine r_iload_n hC 5 dX6_kicks_29 rfl 30 rfl ?_
  refine r_ifeq hC 42 dX6_kicks_30 (by decide) 33 rfl (fun h => absurd h (by decide)) (fun _ => ?_)
  refine r_lload hC 0 dX6_kicks_33 rfl 35 rfl ?_
  refine r_ldc2 hC q2728 dX6_kicks_35 38 rfl ?_
  refine r_ldiv hC ((impQ t r 0 0) / 2) dX6_kicks_38 (by decide) (rfl) 39 rfl ?_
  refine r_goto hC 44 dX6_kicks_39 (by decide) ?_
  refine r_lstore hC 6 [(6, .long ((impQ t r 0 0) / 2)), (5, .int 0), (4, .int 0), (0, .ref (b 0)), (1, .ref a), (2, .int 1), (3, .int 1)] dX6_kicks_44 (Nat.le_of_ble_eq_true rfl) rfl 46 rfl ?_
  refine r_aload_n hC 3 dX6_kicks_46 rfl 47 rfl ?_
  refine r_get (v := .ref (b 23)) hC kX6 23 rfl q2776 (fun _ h => h.get 0 rfl) rfl dX6_kicks_47 50 rfl ?_
  refine r_iconst hC 2 dX6_kicks_50 ic_2 51 rfl ?_
  refine r_iload hC 2 dX6_kicks_51 rfl 53 rfl ?_
  refine r_imul hC 0 dX6_kicks_53  (by decide) 54 rfl ?_
  refine r_iload hC 1 dX6_kicks_54 rfl 56 rfl ?_
  refine r_iadd hC 0 dX6_kicks_56  (by decide) 57 rfl ?_
  refine r_iload_n hC 6 dX6_kicks_57 rfl 58 rfl ?_
  refine r_ifeq hC 67 dX6_kicks_58 (by decide) 61 rfl (fun h => absurd h (by decide)) (fun _ => ?_)
  refine r_lload hC 0 dX6_kicks_61 rfl 63 rfl ?_
  refine r_lneg hC (-((impQ t r 0 0) / 2)) dX6_kicks_63 (rfl) 64 rfl ?_
  refine r_goto hC 69 dX6_kicks_64 (by decide) ?_
  refine r_last (J := xSt F V0 [(b 0, .inr (5, mF b i j)), (b 7, .inl (1, 5, .inr (.inl t))), (a, .inl (1, 111, .inr (.inl r))), (b 23, .inl (1, 6, .inr (.inl (va_up g 0 (-((impQ t r 0 0) / 2))))))]) hC 0 (xix_n 0 (Nat.le_of_ble_eq_true rfl) (Nat.le_of_ble_eq_true rfl)) (fun _ h => h.get 3 rfl) dX6_kicks_69 (fun _ h => h.set 3 _ rfl) 70 rfl ?_
  generalize hu1 : va_up g 0 (-((impQ t r 0 0) / 2)) = u1
  refine r_iinc hC 1 5 1 [(5, .int 1), (6, .long ((impQ t r 0 0) / 2)), (4, .int 0), (0, .ref (b 0)), (1, .ref a), (2, .int 1), (3, .int 1)] dX6_kicks_70 rfl (by decide) (Nat.le_of_ble_eq_true rfl) rfl 73 rfl ?_
  refine r_goto hC 12 dX6_kicks_73 (by decide) ?_
  refine r_iload hC 0 dX6_kicks_12 rfl 14 rfl ?_
  refine r_iconst hC 2 dX6_kicks_14 ic_2 15 rfl ?_
  refine r_icge hC 76 dX6_kicks_15 (by decide) 18 rfl (fun h => absurd h (by decide)) (fun _ => ?_)
  refine r_aload_n hC 3 dX6_kicks_18 rfl 19 rfl ?_
  refine r_aload_n hC 4 dX6_kicks_19 rfl 20 rfl ?_
  refine r_iload hC 2 dX6_kicks_20 rfl 22 rfl ?_
  refine r_iload hC 0 dX6_kicks_22 rfl 24 rfl ?_
  refine r_invVr hC kX6 (b 0) [.ref a, .int 0, .int 1] (.long (impQ t r 0 1)) mVX6_impulseOf q3014 (fun _ h => h.get 0 rfl) (metX6_impulseOf _ _ hG b _ _ _ a _ 0 1 (Nat.le_of_ble_eq_true rfl) (Nat.le_of_ble_eq_true rfl) (hok)) (fun _ h => h.in.sub [0, 1, 2] rfl rfl) ⟨rfl, rfl⟩ 0 0 rfl rfl (Nat.le_of_ble_eq_true rfl) (Nat.le_of_ble_eq_true rfl) rfl (Nat.le_of_ble_eq_true rfl) dX6_kicks_24 27 rfl ?_
  refine r_lstore hC 6 [(6, .long (impQ t r 0 1)), (5, .int 1), (4, .int 0), (0, .ref (b 0)), (1, .ref a), (2, .int 1), (3, .int 1)] dX6_kicks_27 (Nat.le_of_ble_eq_true rfl) rfl 29 rfl ?_
  refine r_iload_n hC 5 dX6_kicks_29 rfl 30 rfl ?_
  refine r_ifeq hC 42 dX6_kicks_30 (by decide) 33 rfl (fun h => absurd h (by decide)) (fun _ => ?_)
  refine r_lload hC 0 dX6_kicks_33 rfl 35 rfl ?_
  refine r_ldc2 hC q2728 dX6_kicks_35 38 rfl ?_
  refine r_ldiv hC ((impQ t r 0 1) / 2) dX6_kicks_38 (by decide) (rfl) 39 rfl ?_
  refine r_goto hC 44 dX6_kicks_39 (by decide) ?_
  refine r_lstore hC 6 [(6, .long ((impQ t r 0 1) / 2)), (5, .int 1), (4, .int 0), (0, .ref (b 0)), (1, .ref a), (2, .int 1), (3, .int 1)] dX6_kicks_44 (Nat.le_of_ble_eq_true rfl) rfl 46 rfl ?_
  refine r_aload_n hC 3 dX6_kicks_46 rfl 47 rfl ?_
  refine r_get (v := .ref (b 23)) hC kX6 23 rfl q2776 (fun _ h => h.get 0 rfl) rfl dX6_kicks_47 50 rfl ?_
  refine r_iconst hC 2 dX6_kicks_50 ic_2 51 rfl ?_
  refine r_iload hC 2 dX6_kicks_51 rfl 53 rfl ?_
  refine r_imul hC 0 dX6_kicks_53  (by decide) 54 rfl ?_
  refine r_iload hC 1 dX6_kicks_54 rfl 56 rfl ?_
  refine r_iadd hC 1 dX6_kicks_56  (by decide) 57 rfl ?_
  refine r_iload_n hC 6 dX6_kicks_57 rfl 58 rfl ?_
  refine r_ifeq hC 67 dX6_kicks_58 (by decide) 61 rfl (fun h => absurd h (by decide)) (fun _ => ?_)
  refine r_lload hC 0 dX6_kicks_61 rfl 63 rfl ?_
  refine r_lneg hC (-((impQ t r 0 1) / 2)) dX6_kicks_63 (rfl) 64 rfl ?_
  refine r_goto hC 69 dX6_kicks_64 (by decide) ?_
  refine r_last (J := xSt F V0 [(b 0, .inr (5, mF b i j)), (b 7, .inl (1, 5, .inr (.inl t))), (a, .inl (1, 111, .inr (.inl r))), (b 23, .inl (1, 6, .inr (.inl (va_up u1 1 (-((impQ t r 0 1) / 2))))))]) hC 1 (xix_n 1 (Nat.le_of_ble_eq_true rfl) (Nat.le_of_ble_eq_true rfl)) (fun _ h => h.get 3 rfl) dX6_kicks_69 (fun _ h => h.set 3 _ rfl) 70 rfl ?_
  generalize hu2 : va_up u1 1 (-((impQ t r 0 1) / 2)) = u2
  refine r_iinc hC 2 5 1 [(5, .int 2), (6, .long ((impQ t r 0 1) / 2)), (4, .int 0), (0, .ref (b 0)), (1, .ref a), (2, .int 1), (3, .int 1)] dX6_kicks_70 rfl (by decide) (Nat.le_of_ble_eq_true rfl) rfl 73 rfl ?_
  refine r_goto hC 12 dX6_kicks_73 (by decide) ?_
  refine r_iload hC 0 dX6_kicks_12 rfl 14 rfl ?_
  refine r_iconst hC 2 dX6_kicks_14 ic_2 15 rfl ?_
  refine r_icge hC 76 dX6_kicks_15 (by decide) 18 rfl (fun _ => ?_) (fun h => absurd h (by decide))
  refine r_iinc hC 1 4 2 [(4, .int 1), (5, .int 2), (6, .long ((impQ t r 0 1) / 2)), (0, .ref (b 0)), (1, .ref a), (2, .int 1), (3, .int 1)] dX6_kicks_76 rfl (by decide) (Nat.le_of_ble_eq_true rfl) rfl 79 rfl ?_
  refine r_goto hC 3 dX6_kicks_79 (by decide) ?_
  refine r_iload hC 0 dX6_kicks_3 rfl 5 rfl ?_
  refine r_iconst hC 3 dX6_kicks_5 ic_3 6 rfl ?_
  refine r_icge hC 82 dX6_kicks_6 (by decide) 9 rfl (fun h => absurd h (by decide)) (fun _ => ?_)
  refine r_iconst hC 0 dX6_kicks_9 ic_0 10 rfl ?_
  refine r_istore hC 5 [(5, .int 0), (4, .int 1), (6, .long ((impQ t r 0 1) / 2)), (0, .ref (b 0)), (1, .ref a), (2, .int 1), (3, .int 1)] dX6_kicks_10 (Nat.le_of_ble_eq_true rfl) rfl 12 rfl ?_
  refine r_iload hC 0 dX6_kicks_12 rfl 14 rfl ?_
  refine r_iconst hC 2 dX6_kicks_14 ic_2 15 rfl ?_
  refine r_icge hC 76 dX6_kicks_15 (by decide) 18 rfl (fun h => absurd h (by decide)) (fun _ => ?_)
  refine r_aload_n hC 3 dX6_kicks_18 rfl 19 rfl ?_
  refine r_aload_n hC 4 dX6_kicks_19 rfl 20 rfl ?_
  refine r_iload hC 1 dX6_kicks_20 rfl 22 rfl ?_
  refine r_iload hC 0 dX6_kicks_22 rfl 24 rfl ?_
  refine r_invVr hC kX6 (b 0) [.ref a, .int 1, .int 0] (.long (impQ t r 1 0)) mVX6_impulseOf q3014 (fun _ h => h.get 0 rfl) (metX6_impulseOf _ _ hG b _ _ _ a _ 1 0 (Nat.le_of_ble_eq_true rfl) (Nat.le_of_ble_eq_true rfl) (hok)) (fun _ h => h.in.sub [0, 1, 2] rfl rfl) ⟨rfl, rfl⟩ 0 0 rfl rfl (Nat.le_of_ble_eq_true rfl) (Nat.le_of_ble_eq_true rfl) rfl (Nat.le_of_ble_eq_true rfl) dX6_kicks_24 27 rfl ?_
  refine r_lstore hC 6 [(6, .long (impQ t r 1 0)), (5, .int 0), (4, .int 1), (0, .ref (b 0)), (1, .ref a), (2, .int 1), (3, .int 1)] dX6_kicks_27 (Nat.le_of_ble_eq_true rfl) rfl 29 rfl ?_
  refine r_iload_n hC 5 dX6_kicks_29 rfl 30 rfl ?_
  refine r_ifeq hC 42 dX6_kicks_30 (by decide) 33 rfl (fun h => absurd h (by decide)) (fun _ => ?_)
  refine r_lload hC 0 dX6_kicks_33 rfl 35 rfl ?_
  refine r_ldc2 hC q2728 dX6_kicks_35 38 rfl ?_
  refine r_ldiv hC ((impQ t r 1 0) / 2) dX6_kicks_38 (by decide) (rfl) 39 rfl ?_
  refine r_goto hC 44 dX6_kicks_39 (by decide) ?_
  refine r_lstore hC 6 [(6, .long ((impQ t r 1 0) / 2)), (5, .int 0), (4, .int 1), (0, .ref (b 0)), (1, .ref a), (2, .int 1), (3, .int 1)] dX6_kicks_44 (Nat.le_of_ble_eq_true rfl) rfl 46 rfl ?_
  refine r_aload_n hC 3 dX6_kicks_46 rfl 47 rfl ?_
  refine r_get (v := .ref (b 23)) hC kX6 23 rfl q2776 (fun _ h => h.get 0 rfl) rfl dX6_kicks_47 50 rfl ?_
  refine r_iconst hC 2 dX6_kicks_50 ic_2 51 rfl ?_
  refine r_iload hC 2 dX6_kicks_51 rfl 53 rfl ?_
  refine r_imul hC 2 dX6_kicks_53  (by decide) 54 rfl ?_
  refine r_iload hC 1 dX6_kicks_54 rfl 56 rfl ?_
  refine r_iadd hC 2 dX6_kicks_56  (by decide) 57 rfl ?_
  refine r_iload_n hC 6 dX6_kicks_57 rfl 58 rfl ?_
  refine r_ifeq hC 67 dX6_kicks_58 (by decide) 61 rfl (fun h => absurd h (by decide)) (fun _ => ?_)
  refine r_lload hC 0 dX6_kicks_61 rfl 63 rfl ?_
  refine r_lneg hC (-((impQ t r 1 0) / 2)) dX6_kicks_63 (rfl) 64 rfl ?_
  refine r_goto hC 69 dX6_kicks_64 (by decide) ?_
  refine r_last (J := xSt F V0 [(b 0, .inr (5, mF b i j)), (b 7, .inl (1, 5, .inr (.inl t))), (a, .inl (1, 111, .inr (.inl r))), (b 23, .inl (1, 6, .inr (.inl (va_up u2 2 (-((impQ t r 1 0) / 2))))))]) hC 2 (xix_n 2 (Nat.le_of_ble_eq_true rfl) (Nat.le_of_ble_eq_true rfl)) (fun _ h => h.get 3 rfl) dX6_kicks_69 (fun _ h => h.set 3 _ rfl) 70 rfl ?_
  generalize hu3 : va_up u2 2 (-((impQ t r 1 0) / 2)) = u3
  refine r_iinc hC 1 5 1 [(5, .int 1), (6, .long ((impQ t r 1 0) / 2)), (4, .int 1), (0, .ref (b 0)), (1, .ref a), (2, .int 1), (3, .int 1)] dX6_kicks_70 rfl (by decide) (Nat.le_of_ble_eq_true rfl) rfl 73 rfl ?_
  refine r_goto hC 12 dX6_kicks_73 (by decide) ?_
  refine r_iload hC 0 dX6_kicks_12 rfl 14 rfl ?_
  refine r_iconst hC 2 dX6_kicks_14 ic_2 15 rfl ?_
  refine r_icge hC 76 dX6_kicks_15 (by decide) 18 rfl (fun h => absurd h (by decide)) (fun _ => ?_)
  refine r_aload_n hC 3 dX6_kicks_18 rfl 19 rfl ?_
  refine r_aload_n hC 4 dX6_kicks_19 rfl 20 rfl ?_
  refine r_iload hC 2 dX6_kicks_20 rfl 22 rfl ?_
  refine r_iload hC 0 dX6_kicks_22 rfl 24 rfl ?_
  refine r_invVr hC kX6 (b 0) [.ref a, .int 1, .int 1] (.long (impQ t r 1 1)) mVX6_impulseOf q3014 (fun _ h => h.get 0 rfl) (metX6_impulseOf _ _ hG b _ _ _ a _ 1 1 (Nat.le_of_ble_eq_true rfl) (Nat.le_of_ble_eq_true rfl) (hok)) (fun _ h => h.in.sub [0, 1, 2] rfl rfl) ⟨rfl, rfl⟩ 0 0 rfl rfl (Nat.le_of_ble_eq_true rfl) (Nat.le_of_ble_eq_true rfl) rfl (Nat.le_of_ble_eq_true rfl) dX6_kicks_24 27 rfl ?_
  refine r_lstore hC 6 [(6, .long (impQ t r 1 1)), (5, .int 1), (4, .int 1), (0, .ref (b 0)), (1, .ref a), (2, .int 1), (3, .int 1)] dX6_kicks_27 (Nat.le_of_ble_eq_true rfl) rfl 29 rfl ?_
  refine r_iload_n hC 5 dX6_kicks_29 rfl 30 rfl ?_
  refine r_ifeq hC 42 dX6_kicks_30 (by decide) 33 rfl (fun h => absurd h (by decide)) (fun _ => ?_)
  refine r_lload hC 0 dX6_kicks_33 rfl 35 rfl ?_
  refine r_ldc2 hC q2728 dX6_kicks_35 38 rfl ?_
  refine r_ldiv hC ((impQ t r 1 1) / 2) dX6_kicks_38 (by decide) (rfl) 39 rfl ?_
  refine r_goto hC 44 dX6_kicks_39 (by decide) ?_
  refine r_lstore hC 6 [(6, .long ((impQ t r 1 1) / 2)), (5, .int 1), (4, .int 1), (0, .ref (b 0)), (1, .ref a), (2, .int 1), (3, .int 1)] dX6_kicks_44 (Nat.le_of_ble_eq_true rfl) rfl 46 rfl ?_
  refine r_aload_n hC 3 dX6_kicks_46 rfl 47 rfl ?_
  refine r_get (v := .ref (b 23)) hC kX6 23 rfl q2776 (fun _ h => h.get 0 rfl) rfl dX6_kicks_47 50 rfl ?_
  refine r_iconst hC 2 dX6_kicks_50 ic_2 51 rfl ?_
  refine r_iload hC 2 dX6_kicks_51 rfl 53 rfl ?_
  refine r_imul hC 2 dX6_kicks_53  (by decide) 54 rfl ?_
  refine r_iload hC 1 dX6_kicks_54 rfl 56 rfl ?_
  refine r_iadd hC 3 dX6_kicks_56  (by decide) 57 rfl ?_
  refine r_iload_n hC 6 dX6_kicks_57 rfl 58 rfl ?_
  refine r_ifeq hC 67 dX6_kicks_58 (by decide) 61 rfl (fun h => absurd h (by decide)) (fun _ => ?_)
  refine r_lload hC 0 dX6_kicks_61 rfl 63 rfl ?_
  refine r_lneg hC (-((impQ t r 1 1) / 2)) dX6_kicks_63 (rfl) 64 rfl ?_
  refine r_goto hC 69 dX6_kicks_64 (by decide) ?_
  refine r_last (J := xSt F V0 [(b 0, .inr (5, mF b i j)), (b 7, .inl (1, 5, .inr (.inl t))), (a, .inl (1, 111, .inr (.inl r))), (b 23, .inl (1, 6, .inr (.inl (va_up u3 3 (-((impQ t r 1 1) / 2))))))]) hC 3 (xix_n 3 (Nat.le_of_ble_eq_true rfl) (Nat.le_of_ble_eq_true rfl)) (fun _ h => h.get 3 rfl) dX6_kicks_69 (fun _ h => h.set 3 _ rfl) 70 rfl ?_
  generalize hu4 : va_up u3 3 (-((impQ t r 1 1) / 2)) = u4
  refine r_iinc hC 2 5 1 [(5, .int 2), (6, .long ((impQ t r 1 1) / 2)), (4, .int 1), (0, .ref (b 0)), (1, .ref a), (2, .int 1), (3, .int 1)] dX6_kicks_70 rfl (by decide) (Nat.le_of_ble_eq_true rfl) rfl 73 rfl ?_
  refine r_goto hC 12 dX6_kicks_73 (by decide) ?_
  refine r_iload hC 0 dX6_kicks_12 rfl 14 rfl ?_
  refine r_iconst hC 2 dX6_kicks_14 ic_2 15 rfl ?_
  refine r_icge hC 76 dX6_kicks_15 (by decide) 18 rfl (fun _ => ?_) (fun h => absurd h (by decide))
  refine r_iinc hC 2 4 2 [(4, .int 2), (5, .int 2), (6, .long ((impQ t r 1 1) / 2)), (0, .ref (b 0)), (1, .ref a), (2, .int 1), (3, .int 1)] dX6_kicks_76 rfl (by decide) (Nat.le_of_ble_eq_true rfl) rfl 79 rfl ?_
  refine r_goto hC 3 dX6_kicks_79 (by decide) ?_
  refine r_iload hC 0 dX6_kicks_3 rfl 5 rfl ?_
  refine r_iconst hC 3 dX6_kicks_5 ic_3 6 rfl ?_
  refine r_icge hC 82 dX6_kicks_6 (by decide) 9 rfl (fun h => absurd h (by decide)) (fun _ => ?_)
  refine r_iconst hC 0 dX6_kicks_9 ic_0 10 rfl ?_
  refine r_istore hC 5 [(5, .int 0), (4, .int 2), (6, .long ((impQ t r 1 1) / 2)), (0, .ref (b 0)), (1, .ref a), (2, .int 1), (3, .int 1)] dX6_kicks_10 (Nat.le_of_ble_eq_true rfl) rfl 12 rfl ?_
  refine r_iload hC 0 dX6_kicks_12 rfl 14 rfl ?_
  refine r_iconst hC 2 dX6_kicks_14 ic_2 15 rfl ?_
  refine r_icge hC 76 dX6_kicks_15 (by decide) 18 rfl (fun h => absurd h (by decide)) (fun _ => ?_)
  refine r_aload_n hC 3 dX6_kicks_18 rfl 19 rfl ?_
  refine r_aload_n hC 4 dX6_kicks_19 rfl 20 rfl ?_
  refine r_iload hC 1 dX6_kicks_20 rfl 22 rfl ?_
  refine r_iload hC 0 dX6_kicks_22 rfl 24 rfl ?_
  refine r_invVr hC kX6 (b 0) [.ref a, .int 2, .int 0] (.long (impQ t r 2 0)) mVX6_impulseOf q3014 (fun _ h => h.get 0 rfl) (metX6_impulseOf _ _ hG b _ _ _ a _ 2 0 (Nat.le_of_ble_eq_true rfl) (Nat.le_of_ble_eq_true rfl) (hok)) (fun _ h => h.in.sub [0, 1, 2] rfl rfl) ⟨rfl, rfl⟩ 0 0 rfl rfl (Nat.le_of_ble_eq_true rfl) (Nat.le_of_ble_eq_true rfl) rfl (Nat.le_of_ble_eq_true rfl) dX6_kicks_24 27 rfl ?_
  refine r_lstore hC 6 [(6, .long (impQ t r 2 0)), (5, .int 0), (4, .int 2), (0, .ref (b 0)), (1, .ref a), (2, .int 1), (3, .int 1)] dX6_kicks_27 (Nat.le_of_ble_eq_true rfl) rfl 29 rfl ?_
  refine r_iload_n hC 5 dX6_kicks_29 rfl 30 rfl ?_
  refine r_ifeq hC 42 dX6_kicks_30 (by decide) 33 rfl (fun h => absurd h (by decide)) (fun _ => ?_)
  refine r_lload hC 0 dX6_kicks_33 rfl 35 rfl ?_
  refine r_ldc2 hC q2728 dX6_kicks_35 38 rfl ?_
  refine r_ldiv hC ((impQ t r 2 0) / 2) dX6_kicks_38 (by decide) (rfl) 39 rfl ?_
  refine r_goto hC 44 dX6_kicks_39 (by decide) ?_
  refine r_lstore hC 6 [(6, .long ((impQ t r 2 0) / 2)), (5, .int 0), (4, .int 2), (0, .ref (b 0)), (1, .ref a), (2, .int 1), (3, .int 1)] dX6_kicks_44 (Nat.le_of_ble_eq_true rfl) rfl 46 rfl ?_
  refine r_aload_n hC 3 dX6_kicks_46 rfl 47 rfl ?_
  refine r_get (v := .ref (b 23)) hC kX6 23 rfl q2776 (fun _ h => h.get 0 rfl) rfl dX6_kicks_47 50 rfl ?_
  refine r_iconst hC 2 dX6_kicks_50 ic_2 51 rfl ?_
  refine r_iload hC 2 dX6_kicks_51 rfl 53 rfl ?_
  refine r_imul hC 4 dX6_kicks_53  (by decide) 54 rfl ?_
  refine r_iload hC 1 dX6_kicks_54 rfl 56 rfl ?_
  refine r_iadd hC 4 dX6_kicks_56  (by decide) 57 rfl ?_
  refine r_iload_n hC 6 dX6_kicks_57 rfl 58 rfl ?_
  refine r_ifeq hC 67 dX6_kicks_58 (by decide) 61 rfl (fun h => absurd h (by decide)) (fun _ => ?_)
  refine r_lload hC 0 dX6_kicks_61 rfl 63 rfl ?_
  refine r_lneg hC (-((impQ t r 2 0) / 2)) dX6_kicks_63 (rfl) 64 rfl ?_
  refine r_goto hC 69 dX6_kicks_64 (by decide) ?_
  refine r_last (J := xSt F V0 [(b 0, .inr (5, mF b i j)), (b 7, .inl (1, 5, .inr (.inl t))), (a, .inl (1, 111, .inr (.inl r))), (b 23, .inl (1, 6, .inr (.inl (va_up u4 4 (-((impQ t r 2 0) / 2))))))]) hC 4 (xix_n 4 (Nat.le_of_ble_eq_true rfl) (Nat.le_of_ble_eq_true rfl)) (fun _ h => h.get 3 rfl) dX6_kicks_69 (fun _ h => h.set 3 _ rfl) 70 rfl ?_
  generalize hu5 : va_up u4 4 (-((impQ t r 2 0) / 2)) = u5
  refine r_iinc hC 1 5 1 [(5, .int 1), (6, .long ((impQ t r 2 0) / 2)), (4, .int 2), (0, .ref (b 0)), (1, .ref a), (2, .int 1), (3, .int 1)] dX6_kicks_70 rfl (by decide) (Nat.le_of_ble_eq_true rfl) rfl 73 rfl ?_
  refine r_goto hC 12 dX6_kicks_73 (by decide) ?_
  refine r_iload hC 0 dX6_kicks_12 rfl 14 rfl ?_
  refine r_iconst hC 2 dX6_kicks_14 ic_2 15 rfl ?_
  refine r_icge hC 76 dX6_kicks_15 (by decide) 18 rfl (fun h => absurd h (by decide)) (fun _ => ?_)
  refine r_aload_n hC 3 dX6_kicks_18 rfl 19 rfl ?_
  refine r_aload_n hC 4 dX6_kicks_19 rfl 20 rfl ?_
  refine r_iload hC 2 dX6_kicks_20 rfl 22 rfl ?_
  refine r_iload hC 0 dX6_kicks_22 rfl 24 rfl ?_
  refine r_invVr hC kX6 (b 0) [.ref a, .int 2, .int 1] (.long (impQ t r 2 1)) mVX6_impulseOf q3014 (fun _ h => h.get 0 rfl) (metX6_impulseOf _ _ hG b _ _ _ a _ 2 1 (Nat.le_of_ble_eq_true rfl) (Nat.le_of_ble_eq_true rfl) (hok)) (fun _ h => h.in.sub [0, 1, 2] rfl rfl) ⟨rfl, rfl⟩ 0 0 rfl rfl (Nat.le_of_ble_eq_true rfl) (Nat.le_of_ble_eq_true rfl) rfl (Nat.le_of_ble_eq_true rfl) dX6_kicks_24 27 rfl ?_
  refine r_lstore hC 6 [(6, .long (impQ t r 2 1)), (5, .int 1), (4, .int 2), (0, .ref (b 0)), (1, .ref a), (2, .int 1), (3, .int 1)] dX6_kicks_27 (Nat.le_of_ble_eq_true rfl) rfl 29 rfl ?_
  refine r_iload_n hC 5 dX6_kicks_29 rfl 30 rfl ?_
  refine r_ifeq hC 42 dX6_kicks_30 (by decide) 33 rfl (fun h => absurd h (by decide)) (fun _ => ?_)
  refine r_lload hC 0 dX6_kicks_33 rfl 35 rfl ?_
  refine r_ldc2 hC q2728 dX6_kicks_35 38 rfl ?_
  refine r_ldiv hC ((impQ t r 2 1) / 2) dX6_kicks_38 (by decide) (rfl) 39 rfl ?_
  refine r_goto hC 44 dX6_kicks_39 (by decide) ?_
  refine r_lstore hC 6 [(6, .long ((impQ t r 2 1) / 2)), (5, .int 1), (4, .int 2), (0, .ref (b 0)), (1, .ref a), (2, .int 1), (3, .int 1)] dX6_kicks_44 (Nat.le_of_ble_eq_true rfl) rfl 46 rfl ?_
  refine r_aload_n hC 3 dX6_kicks_46 rfl 47 rfl ?_
  refine r_get (v := .ref (b 23)) hC kX6 23 rfl q2776 (fun _ h => h.get 0 rfl) rfl dX6_kicks_47 50 rfl ?_
  refine r_iconst hC 2 dX6_kicks_50 ic_2 51 rfl ?_
  refine r_iload hC 2 dX6_kicks_51 rfl 53 rfl ?_
  refine r_imul hC 4 dX6_kicks_53  (by decide) 54 rfl ?_
  refine r_iload hC 1 dX6_kicks_54 rfl 56 rfl ?_
  refine r_iadd hC 5 dX6_kicks_56  (by decide) 57 rfl ?_
  refine r_iload_n hC 6 dX6_kicks_57 rfl 58 rfl ?_
  refine r_ifeq hC 67 dX6_kicks_58 (by decide) 61 rfl (fun h => absurd h (by decide)) (fun _ => ?_)
  refine r_lload hC 0 dX6_kicks_61 rfl 63 rfl ?_
  refine r_lneg hC (-((impQ t r 2 1) / 2)) dX6_kicks_63 (rfl) 64 rfl ?_
  refine r_goto hC 69 dX6_kicks_64 (by decide) ?_
  refine r_last (J := xSt F V0 [(b 0, .inr (5, mF b i j)), (b 7, .inl (1, 5, .inr (.inl t))), (a, .inl (1, 111, .inr (.inl r))), (b 23, .inl (1, 6, .inr (.inl (va_up u5 5 (-((impQ t r 2 1) / 2))))))]) hC 5 (xix_n 5 (Nat.le_of_ble_eq_true rfl) (Nat.le_of_ble_eq_true rfl)) (fun _ h => h.get 3 rfl) dX6_kicks_69 (fun _ h => h.set 3 _ rfl) 70 rfl ?_
  generalize hu6 : va_up u5 5 (-((impQ t r 2 1) / 2)) = u6
  refine r_iinc hC 2 5 1 [(5, .int 2), (6, .long ((impQ t r 2 1) / 2)), (4, .int 2), (0, .ref (b 0)), (1, .ref a), (2, .int 1), (3, .int 1)] dX6_kicks_70 rfl (by decide) (Nat.le_of_ble_eq_true rfl) rfl 73 rfl ?_
  refine r_goto hC 12 dX6_kicks_73 (by decide) ?_
  refine r_iload hC 0 dX6_kicks_12 rfl 14 rfl ?_
  refine r_iconst hC 2 dX6_kicks_14 ic_2 15 rfl ?_
  refine r_icge hC 76 dX6_kicks_15 (by decide) 18 rfl (fun _ => ?_) (fun h => absurd h (by decide))
  refine r_iinc hC 3 4 2 [(4, .int 3), (5, .int 2), (6, .long ((impQ t r 2 1) / 2)), (0, .ref (b 0)), (1, .ref a), (2, .int 1), (3, .int 1)] dX6_kicks_76 rfl (by decide) (Nat.le_of_ble_eq_true rfl) rfl 79 rfl ?_
  refine r_goto hC 3 dX6_kicks_79 (by decide) ?_
  refine r_iload hC 0 dX6_kicks_3 rfl 5 rfl ?_
  refine r_iconst hC 3 dX6_kicks_5 ic_3 6 rfl ?_
  refine r_icge hC 82 dX6_kicks_6 (by decide) 9 rfl (fun _ => ?_) (fun h => absurd h (by decide))
  refine r_iconst hC 0 dX6_kicks_82 ic_0 83 rfl ?_
  refine r_istore hC 4 [(4, .int 0), (5, .int 2), (6, .long ((impQ t r 2 1) / 2)), (0, .ref (b 0)), (1, .ref a), (2, .int 1), (3, .int 1)] dX6_kicks_83 (Nat.le_of_ble_eq_true rfl) rfl 85 rfl ?_
  refine r_iload hC 0 dX6_kicks_85 rfl 87 rfl ?_
  refine r_iconst hC 3 dX6_kicks_87 ic_3 88 rfl ?_
  refine r_icge hC 170 dX6_kicks_88 (by decide) 91 rfl (fun h => absurd h (by decide)) (fun _ => ?_)
  refine r_iconst hC 0 dX6_kicks_91 ic_0 92 rfl ?_
  refine r_istore hC 5 [(5, .int 0), (4, .int 0), (6, .long ((impQ t r 2 1) / 2)), (0, .ref (b 0)), (1, .ref a), (2, .int 1), (3, .int 1)] dX6_kicks_92 (Nat.le_of_ble_eq_true rfl) rfl 94 rfl ?_
  refine r_iload hC 0 dX6_kicks_94 rfl 96 rfl ?_
  refine r_iconst hC 2 dX6_kicks_96 ic_2 97 rfl ?_
  refine r_icge hC 164 dX6_kicks_97 (by decide) 100 rfl (fun h => absurd h (by decide)) (fun _ => ?_)
  refine r_aload_n hC 4 dX6_kicks_100 rfl 101 rfl ?_
  refine r_iload hC 1 dX6_kicks_101 rfl 103 rfl ?_
  refine r_invSr hC [.int 0] (.int 0) mSX6_firstOf q2733 (metX6_firstOf _ _ hG 0 (Nat.le_of_ble_eq_true rfl)) (fun _ _ => xIn.nil) ⟨rfl, rfl⟩ 0 0 rfl rfl (Nat.le_of_ble_eq_true rfl) (Nat.le_of_ble_eq_true rfl) rfl (Nat.le_of_ble_eq_true rfl) dX6_kicks_103 106 rfl ?_
  refine r_iconst hC 3 dX6_kicks_106 ic_3 107 rfl ?_
  refine r_iload hC 0 dX6_kicks_107 rfl 109 rfl ?_
  refine r_iadd hC 3 dX6_kicks_109  (by decide) 110 rfl ?_
  refine r_invSr hC [.int 0, .int 3] (.int 9) mSX6_at q2711 (metX6_at _ _ hG 0 3) (fun _ _ => xIn.nil) ⟨rfl, rfl⟩ 0 0 rfl rfl (Nat.le_of_ble_eq_true rfl) (Nat.le_of_ble_eq_true rfl) rfl (Nat.le_of_ble_eq_true rfl) dX6_kicks_110 113 rfl ?_
  refine r_dup2 hC dX6_kicks_113 rfl rfl 114 rfl ?_
  refine r_lald hC 9 (xix_n 9 (Nat.le_of_ble_eq_true rfl) (Nat.le_of_ble_eq_true rfl)) (fun _ h => h.get 2 rfl) (r 9) (rfl) dX6_kicks_114 115 rfl ?_
  refine r_aload_n hC 3 dX6_kicks_115 rfl 116 rfl ?_
  refine r_get (v := .ref (b 23)) hC kX6 23 rfl q2776 (fun _ h => h.get 0 rfl) rfl dX6_kicks_116 119 rfl ?_
  refine r_iconst hC 2 dX6_kicks_119 ic_2 120 rfl ?_
  refine r_iload hC 1 dX6_kicks_120 rfl 122 rfl ?_
  refine r_imul hC 0 dX6_kicks_122  (by decide) 123 rfl ?_
  refine r_iload hC 0 dX6_kicks_123 rfl 125 rfl ?_
  refine r_iadd hC 0 dX6_kicks_125  (by decide) 126 rfl ?_
  refine r_lald hC 0 (xix_n 0 (Nat.le_of_ble_eq_true rfl) (Nat.le_of_ble_eq_true rfl)) (fun _ h => h.get 3 rfl) (-((impQ t r 0 0) / 2)) (by rw [← hu6, ← hu5, ← hu4, ← hu3, ← hu2, ← hu1]; rfl) dX6_kicks_126 127 rfl ?_
  refine r_ladd hC ((r 9) + (-((impQ t r 0 0) / 2))) dX6_kicks_127  (rfl) 128 rfl ?_
  refine r_last (J := xSt F V0 [(b 0, .inr (5, mF b i j)), (b 7, .inl (1, 5, .inr (.inl t))), (a, .inl (1, 111, .inr (.inl (va_up r 9 ((r 9) + (-((impQ t r 0 0) / 2))))))), (b 23, .inl (1, 6, .inr (.inl u6)))]) hC 9 (xix_n 9 (Nat.le_of_ble_eq_true rfl) (Nat.le_of_ble_eq_true rfl)) (fun _ h => h.get 2 rfl) dX6_kicks_128 (fun _ h => h.set 2 _ rfl) 129 rfl ?_
  generalize hu7 : va_up r 9 ((r 9) + (-((impQ t r 0 0) / 2))) = u7
  refine r_aload_n hC 4 dX6_kicks_129 rfl 130 rfl ?_
  refine r_iload hC 1 dX6_kicks_130 rfl 132 rfl ?_
  refine r_invSr hC [.int 0] (.int 1) mSX6_secondOf q2736 (metX6_secondOf _ _ hG 0 (Nat.le_of_ble_eq_true rfl)) (fun _ _ => xIn.nil) ⟨rfl, rfl⟩ 0 0 rfl rfl (Nat.le_of_ble_eq_true rfl) (Nat.le_of_ble_eq_true rfl) rfl (Nat.le_of_ble_eq_true rfl) dX6_kicks_132 135 rfl ?_
  refine r_iconst hC 3 dX6_kicks_135 ic_3 136 rfl ?_
  refine r_iload hC 0 dX6_kicks_136 rfl 138 rfl ?_
  refine r_iadd hC 3 dX6_kicks_138  (by decide) 139 rfl ?_
  refine r_invSr hC [.int 1, .int 3] (.int 14) mSX6_at q2711 (metX6_at _ _ hG 1 3) (fun _ _ => xIn.nil) ⟨rfl, rfl⟩ 0 0 rfl rfl (Nat.le_of_ble_eq_true rfl) (Nat.le_of_ble_eq_true rfl) rfl (Nat.le_of_ble_eq_true rfl) dX6_kicks_139 142 rfl ?_
  refine r_dup2 hC dX6_kicks_142 rfl rfl 143 rfl ?_
  refine r_lald hC 14 (xix_n 14 (Nat.le_of_ble_eq_true rfl) (Nat.le_of_ble_eq_true rfl)) (fun _ h => h.get 2 rfl) (r 14) (by rw [← hu7]; rfl) dX6_kicks_143 144 rfl ?_
  refine r_aload_n hC 3 dX6_kicks_144 rfl 145 rfl ?_
  refine r_get (v := .ref (b 23)) hC kX6 23 rfl q2776 (fun _ h => h.get 0 rfl) rfl dX6_kicks_145 148 rfl ?_
  refine r_iconst hC 2 dX6_kicks_148 ic_2 149 rfl ?_
  refine r_iload hC 1 dX6_kicks_149 rfl 151 rfl ?_
  refine r_imul hC 0 dX6_kicks_151  (by decide) 152 rfl ?_
  refine r_iload hC 0 dX6_kicks_152 rfl 154 rfl ?_
  refine r_iadd hC 0 dX6_kicks_154  (by decide) 155 rfl ?_
  refine r_lald hC 0 (xix_n 0 (Nat.le_of_ble_eq_true rfl) (Nat.le_of_ble_eq_true rfl)) (fun _ h => h.get 3 rfl) (-((impQ t r 0 0) / 2)) (by rw [← hu6, ← hu5, ← hu4, ← hu3, ← hu2, ← hu1]; rfl) dX6_kicks_155 156 rfl ?_
  refine r_lsub hC ((r 14) - (-((impQ t r 0 0) / 2))) dX6_kicks_156  (rfl) 157 rfl ?_
  refine r_last (J := xSt F V0 [(b 0, .inr (5, mF b i j)), (b 7, .inl (1, 5, .inr (.inl t))), (a, .inl (1, 111, .inr (.inl (va_up u7 14 ((r 14) - (-((impQ t r 0 0) / 2))))))), (b 23, .inl (1, 6, .inr (.inl u6)))]) hC 14 (xix_n 14 (Nat.le_of_ble_eq_true rfl) (Nat.le_of_ble_eq_true rfl)) (fun _ h => h.get 2 rfl) dX6_kicks_157 (fun _ h => h.set 2 _ rfl) 158 rfl ?_
  generalize hu8 : va_up u7 14 ((r 14) - (-((impQ t r 0 0) / 2))) = u8
  refine r_iinc hC 1 5 0 [(5, .int 1), (4, .int 0), (6, .long ((impQ t r 2 1) / 2)), (0, .ref (b 0)), (1, .ref a), (2, .int 1), (3, .int 1)] dX6_kicks_158 rfl (by decide) (Nat.le_of_ble_eq_true rfl) rfl 161 rfl ?_
  refine r_goto hC 94 dX6_kicks_161 (by decide) ?_
  refine r_iload hC 0 dX6_kicks_94 rfl 96 rfl ?_
  refine r_iconst hC 2 dX6_kicks_96 ic_2 97 rfl ?_
  refine r_icge hC 164 dX6_kicks_97 (by decide) 100 rfl (fun h => absurd h (by decide)) (fun _ => ?_)
  refine r_aload_n hC 4 dX6_kicks_100 rfl 101 rfl ?_
  refine r_iload hC 1 dX6_kicks_101 rfl 103 rfl ?_
  refine r_invSr hC [.int 0] (.int 0) mSX6_firstOf q2733 (metX6_firstOf _ _ hG 0 (Nat.le_of_ble_eq_true rfl)) (fun _ _ => xIn.nil) ⟨rfl, rfl⟩ 0 0 rfl rfl (Nat.le_of_ble_eq_true rfl) (Nat.le_of_ble_eq_true rfl) rfl (Nat.le_of_ble_eq_true rfl) dX6_kicks_103 106 rfl ?_
  refine r_iconst hC 3 dX6_kicks_106 ic_3 107 rfl ?_
  refine r_iload hC 0 dX6_kicks_107 rfl 109 rfl ?_
  refine r_iadd hC 4 dX6_kicks_109  (by decide) 110 rfl ?_
  refine r_invSr hC [.int 0, .int 4] (.int 10) mSX6_at q2711 (metX6_at _ _ hG 0 4) (fun _ _ => xIn.nil) ⟨rfl, rfl⟩ 0 0 rfl rfl (Nat.le_of_ble_eq_true rfl) (Nat.le_of_ble_eq_true rfl) rfl (Nat.le_of_ble_eq_true rfl) dX6_kicks_110 113 rfl ?_
  refine r_dup2 hC dX6_kicks_113 rfl rfl 114 rfl ?_
  refine r_lald hC 10 (xix_n 10 (Nat.le_of_ble_eq_true rfl) (Nat.le_of_ble_eq_true rfl)) (fun _ h => h.get 2 rfl) (r 10) (by rw [← hu8, ← hu7]; rfl) dX6_kicks_114 115 rfl ?_
  refine r_aload_n hC 3 dX6_kicks_115 rfl 116 rfl ?_
  refine r_get (v := .ref (b 23)) hC kX6 23 rfl q2776 (fun _ h => h.get 0 rfl) rfl dX6_kicks_116 119 rfl ?_
  refine r_iconst hC 2 dX6_kicks_119 ic_2 120 rfl ?_
  refine r_iload hC 1 dX6_kicks_120 rfl 122 rfl ?_
  refine r_imul hC 0 dX6_kicks_122  (by decide) 123 rfl ?_
  refine r_iload hC 0 dX6_kicks_123 rfl 125 rfl ?_
  refine r_iadd hC 1 dX6_kicks_125  (by decide) 126 rfl ?_
  refine r_lald hC 1 (xix_n 1 (Nat.le_of_ble_eq_true rfl) (Nat.le_of_ble_eq_true rfl)) (fun _ h => h.get 3 rfl) (-((impQ t r 0 1) / 2)) (by rw [← hu6, ← hu5, ← hu4, ← hu3, ← hu2]; rfl) dX6_kicks_126 127 rfl ?_
  refine r_ladd hC ((r 10) + (-((impQ t r 0 1) / 2))) dX6_kicks_127  (rfl) 128 rfl ?_
  refine r_last (J := xSt F V0 [(b 0, .inr (5, mF b i j)), (b 7, .inl (1, 5, .inr (.inl t))), (a, .inl (1, 111, .inr (.inl (va_up u8 10 ((r 10) + (-((impQ t r 0 1) / 2))))))), (b 23, .inl (1, 6, .inr (.inl u6)))]) hC 10 (xix_n 10 (Nat.le_of_ble_eq_true rfl) (Nat.le_of_ble_eq_true rfl)) (fun _ h => h.get 2 rfl) dX6_kicks_128 (fun _ h => h.set 2 _ rfl) 129 rfl ?_
  generalize hu9 : va_up u8 10 ((r 10) + (-((impQ t r 0 1) / 2))) = u9
  refine r_aload_n hC 4 dX6_kicks_129 rfl 130 rfl ?_
  refine r_iload hC 1 dX6_kicks_130 rfl 132 rfl ?_
  refine r_invSr hC [.int 0] (.int 1) mSX6_secondOf q2736 (metX6_secondOf _ _ hG 0 (Nat.le_of_ble_eq_true rfl)) (fun _ _ => xIn.nil) ⟨rfl, rfl⟩ 0 0 rfl rfl (Nat.le_of_ble_eq_true rfl) (Nat.le_of_ble_eq_true rfl) rfl (Nat.le_of_ble_eq_true rfl) dX6_kicks_132 135 rfl ?_
  refine r_iconst hC 3 dX6_kicks_135 ic_3 136 rfl ?_
  refine r_iload hC 0 dX6_kicks_136 rfl 138 rfl ?_
  refine r_iadd hC 4 dX6_kicks_138  (by decide) 139 rfl ?_
  refine r_invSr hC [.int 1, .int 4] (.int 15) mSX6_at q2711 (metX6_at _ _ hG 1 4) (fun _ _ => xIn.nil) ⟨rfl, rfl⟩ 0 0 rfl rfl (Nat.le_of_ble_eq_true rfl) (Nat.le_of_ble_eq_true rfl) rfl (Nat.le_of_ble_eq_true rfl) dX6_kicks_139 142 rfl ?_
  refine r_dup2 hC dX6_kicks_142 rfl rfl 143 rfl ?_
  refine r_lald hC 15 (xix_n 15 (Nat.le_of_ble_eq_true rfl) (Nat.le_of_ble_eq_true rfl)) (fun _ h => h.get 2 rfl) (r 15) (by rw [← hu9, ← hu8, ← hu7]; rfl) dX6_kicks_143 144 rfl ?_
  refine r_aload_n hC 3 dX6_kicks_144 rfl 145 rfl ?_
  refine r_get (v := .ref (b 23)) hC kX6 23 rfl q2776 (fun _ h => h.get 0 rfl) rfl dX6_kicks_145 148 rfl ?_
  refine r_iconst hC 2 dX6_kicks_148 ic_2 149 rfl ?_
  refine r_iload hC 1 dX6_kicks_149 rfl 151 rfl ?_
  refine r_imul hC 0 dX6_kicks_151  (by decide) 152 rfl ?_
  refine r_iload hC 0 dX6_kicks_152 rfl 154 rfl ?_
  refine r_iadd hC 1 dX6_kicks_154  (by decide) 155 rfl ?_
  refine r_lald hC 1 (xix_n 1 (Nat.le_of_ble_eq_true rfl) (Nat.le_of_ble_eq_true rfl)) (fun _ h => h.get 3 rfl) (-((impQ t r 0 1) / 2)) (by rw [← hu6, ← hu5, ← hu4, ← hu3, ← hu2]; rfl) dX6_kicks_155 156 rfl ?_
  refine r_lsub hC ((r 15) - (-((impQ t r 0 1) / 2))) dX6_kicks_156  (rfl) 157 rfl ?_
  refine r_last (J := xSt F V0 [(b 0, .inr (5, mF b i j)), (b 7, .inl (1, 5, .inr (.inl t))), (a, .inl (1, 111, .inr (.inl (va_up u9 15 ((r 15) - (-((impQ t r 0 1) / 2))))))), (b 23, .inl (1, 6, .inr (.inl u6)))]) hC 15 (xix_n 15 (Nat.le_of_ble_eq_true rfl) (Nat.le_of_ble_eq_true rfl)) (fun _ h => h.get 2 rfl) dX6_kicks_157 (fun _ h => h.set 2 _ rfl) 158 rfl ?_
  generalize hu10 : va_up u9 15 ((r 15) - (-((impQ t r 0 1) / 2))) = u10
  refine r_iinc hC 2 5 0 [(5, .int 2), (4, .int 0), (6, .long ((impQ t r 2 1) / 2)), (0, .ref (b 0)), (1, .ref a), (2, .int 1), (3, .int 1)] dX6_kicks_158 rfl (by decide) (Nat.le_of_ble_eq_true rfl) rfl 161 rfl ?_
  refine r_goto hC 94 dX6_kicks_161 (by decide) ?_
  refine r_iload hC 0 dX6_kicks_94 rfl 96 rfl ?_
  refine r_iconst hC 2 dX6_kicks_96 ic_2 97 rfl ?_
  refine r_icge hC 164 dX6_kicks_97 (by decide) 100 rfl (fun _ => ?_) (fun h => absurd h (by decide))
  refine r_iinc hC 1 4 1 [(4, .int 1), (5, .int 2), (6, .long ((impQ t r 2 1) / 2)), (0, .ref (b 0)), (1, .ref a), (2, .int 1), (3, .int 1)] dX6_kicks_164 rfl (by decide) (Nat.le_of_ble_eq_true rfl) rfl 167 rfl ?_
  refine r_goto hC 85 dX6_kicks_167 (by decide) ?_
  refine r_iload hC 0 dX6_kicks_85 rfl 87 rfl ?_
  refine r_iconst hC 3 dX6_kicks_87 ic_3 88 rfl ?_
  refine r_icge hC 170 dX6_kicks_88 (by decide) 91 rfl (fun h => absurd h (by decide)) (fun _ => ?_)
  refine r_iconst hC 0 dX6_kicks_91 ic_0 92 rfl ?_
  refine r_istore hC 5 [(5, .int 0), (4, .int 1), (6, .long ((impQ t r 2 1) / 2)), (0, .ref (b 0)), (1, .ref a), (2, .int 1), (3, .int 1)] dX6_kicks_92 (Nat.le_of_ble_eq_true rfl) rfl 94 rfl ?_
  refine r_iload hC 0 dX6_kicks_94 rfl 96 rfl ?_
  refine r_iconst hC 2 dX6_kicks_96 ic_2 97 rfl ?_
  refine r_icge hC 164 dX6_kicks_97 (by decide) 100 rfl (fun h => absurd h (by decide)) (fun _ => ?_)
  refine r_aload_n hC 4 dX6_kicks_100 rfl 101 rfl ?_
  refine r_iload hC 1 dX6_kicks_101 rfl 103 rfl ?_
  refine r_invSr hC [.int 1] (.int 0) mSX6_firstOf q2733 (metX6_firstOf _ _ hG 1 (Nat.le_of_ble_eq_true rfl)) (fun _ _ => xIn.nil) ⟨rfl, rfl⟩ 0 0 rfl rfl (Nat.le_of_ble_eq_true rfl) (Nat.le_of_ble_eq_true rfl) rfl (Nat.le_of_ble_eq_true rfl) dX6_kicks_103 106 rfl ?_
  refine r_iconst hC 3 dX6_kicks_106 ic_3 107 rfl ?_
  refine r_iload hC 0 dX6_kicks_107 rfl 109 rfl ?_
  refine r_iadd hC 3 dX6_kicks_109  (by decide) 110 rfl ?_
  refine r_invSr hC [.int 0, .int 3] (.int 9) mSX6_at q2711 (metX6_at _ _ hG 0 3) (fun _ _ => xIn.nil) ⟨rfl, rfl⟩ 0 0 rfl rfl (Nat.le_of_ble_eq_true rfl) (Nat.le_of_ble_eq_true rfl) rfl (Nat.le_of_ble_eq_true rfl) dX6_kicks_110 113 rfl ?_
  refine r_dup2 hC dX6_kicks_113 rfl rfl 114 rfl ?_
  refine r_lald hC 9 (xix_n 9 (Nat.le_of_ble_eq_true rfl) (Nat.le_of_ble_eq_true rfl)) (fun _ h => h.get 2 rfl) ((r 9) + (-((impQ t r 0 0) / 2))) (by rw [← hu10, ← hu9, ← hu8, ← hu7]; rfl) dX6_kicks_114 115 rfl ?_
  refine r_aload_n hC 3 dX6_kicks_115 rfl 116 rfl ?_
  refine r_get (v := .ref (b 23)) hC kX6 23 rfl q2776 (fun _ h => h.get 0 rfl) rfl dX6_kicks_116 119 rfl ?_
  refine r_iconst hC 2 dX6_kicks_119 ic_2 120 rfl ?_
  refine r_iload hC 1 dX6_kicks_120 rfl 122 rfl ?_
  refine r_imul hC 2 dX6_kicks_122  (by decide) 123 rfl ?_
  refine r_iload hC 0 dX6_kicks_123 rfl 125 rfl ?_
  refine r_iadd hC 2 dX6_kicks_125  (by decide) 126 rfl ?_
  refine r_lald hC 2 (xix_n 2 (Nat.le_of_ble_eq_true rfl) (Nat.le_of_ble_eq_true rfl)) (fun _ h => h.get 3 rfl) (-((impQ t r 1 0) / 2)) (by rw [← hu6, ← hu5, ← hu4, ← hu3]; rfl) dX6_kicks_126 127 rfl ?_
  refine r_ladd hC (((r 9) + (-((impQ t r 0 0) / 2))) + (-((impQ t r 1 0) / 2))) dX6_kicks_127  (rfl) 128 rfl ?_
  refine r_last (J := xSt F V0 [(b 0, .inr (5, mF b i j)), (b 7, .inl (1, 5, .inr (.inl t))), (a, .inl (1, 111, .inr (.inl (va_up u10 9 (((r 9) + (-((impQ t r 0 0) / 2))) + (-((impQ t r 1 0) / 2))))))), (b 23, .inl (1, 6, .inr (.inl u6)))]) hC 9 (xix_n 9 (Nat.le_of_ble_eq_true rfl) (Nat.le_of_ble_eq_true rfl)) (fun _ h => h.get 2 rfl) dX6_kicks_128 (fun _ h => h.set 2 _ rfl) 129 rfl ?_
  generalize hu11 : va_up u10 9 (((r 9) + (-((impQ t r 0 0) / 2))) + (-((impQ t r 1 0) / 2))) = u11
  refine r_aload_n hC 4 dX6_kicks_129 rfl 130 rfl ?_
  refine r_iload hC 1 dX6_kicks_130 rfl 132 rfl ?_
  refine r_invSr hC [.int 1] (.int 2) mSX6_secondOf q2736 (metX6_secondOf _ _ hG 1 (Nat.le_of_ble_eq_true rfl)) (fun _ _ => xIn.nil) ⟨rfl, rfl⟩ 0 0 rfl rfl (Nat.le_of_ble_eq_true rfl) (Nat.le_of_ble_eq_true rfl) rfl (Nat.le_of_ble_eq_true rfl) dX6_kicks_132 135 rfl ?_
  refine r_iconst hC 3 dX6_kicks_135 ic_3 136 rfl ?_
  refine r_iload hC 0 dX6_kicks_136 rfl 138 rfl ?_
  refine r_iadd hC 3 dX6_kicks_138  (by decide) 139 rfl ?_
  refine r_invSr hC [.int 2, .int 3] (.int 19) mSX6_at q2711 (metX6_at _ _ hG 2 3) (fun _ _ => xIn.nil) ⟨rfl, rfl⟩ 0 0 rfl rfl (Nat.le_of_ble_eq_true rfl) (Nat.le_of_ble_eq_true rfl) rfl (Nat.le_of_ble_eq_true rfl) dX6_kicks_139 142 rfl ?_
  refine r_dup2 hC dX6_kicks_142 rfl rfl 143 rfl ?_
  refine r_lald hC 19 (xix_n 19 (Nat.le_of_ble_eq_true rfl) (Nat.le_of_ble_eq_true rfl)) (fun _ h => h.get 2 rfl) (r 19) (by rw [← hu11, ← hu10, ← hu9, ← hu8, ← hu7]; rfl) dX6_kicks_143 144 rfl ?_
  refine r_aload_n hC 3 dX6_kicks_144 rfl 145 rfl ?_
  refine r_get (v := .ref (b 23)) hC kX6 23 rfl q2776 (fun _ h => h.get 0 rfl) rfl dX6_kicks_145 148 rfl ?_
  refine r_iconst hC 2 dX6_kicks_148 ic_2 149 rfl ?_
  refine r_iload hC 1 dX6_kicks_149 rfl 151 rfl ?_
  refine r_imul hC 2 dX6_kicks_151  (by decide) 152 rfl ?_
  refine r_iload hC 0 dX6_kicks_152 rfl 154 rfl ?_
  refine r_iadd hC 2 dX6_kicks_154  (by decide) 155 rfl ?_
  refine r_lald hC 2 (xix_n 2 (Nat.le_of_ble_eq_true rfl) (Nat.le_of_ble_eq_true rfl)) (fun _ h => h.get 3 rfl) (-((impQ t r 1 0) / 2)) (by rw [← hu6, ← hu5, ← hu4, ← hu3]; rfl) dX6_kicks_155 156 rfl ?_
  refine r_lsub hC ((r 19) - (-((impQ t r 1 0) / 2))) dX6_kicks_156  (rfl) 157 rfl ?_
  refine r_last (J := xSt F V0 [(b 0, .inr (5, mF b i j)), (b 7, .inl (1, 5, .inr (.inl t))), (a, .inl (1, 111, .inr (.inl (va_up u11 19 ((r 19) - (-((impQ t r 1 0) / 2))))))), (b 23, .inl (1, 6, .inr (.inl u6)))]) hC 19 (xix_n 19 (Nat.le_of_ble_eq_true rfl) (Nat.le_of_ble_eq_true rfl)) (fun _ h => h.get 2 rfl) dX6_kicks_157 (fun _ h => h.set 2 _ rfl) 158 rfl ?_
  generalize hu12 : va_up u11 19 ((r 19) - (-((impQ t r 1 0) / 2))) = u12
  refine r_iinc hC 1 5 0 [(5, .int 1), (4, .int 1), (6, .long ((impQ t r 2 1) / 2)), (0, .ref (b 0)), (1, .ref a), (2, .int 1), (3, .int 1)] dX6_kicks_158 rfl (by decide) (Nat.le_of_ble_eq_true rfl) rfl 161 rfl ?_
  refine r_goto hC 94 dX6_kicks_161 (by decide) ?_
  refine r_iload hC 0 dX6_kicks_94 rfl 96 rfl ?_
  refine r_iconst hC 2 dX6_kicks_96 ic_2 97 rfl ?_
  refine r_icge hC 164 dX6_kicks_97 (by decide) 100 rfl (fun h => absurd h (by decide)) (fun _ => ?_)
  refine r_aload_n hC 4 dX6_kicks_100 rfl 101 rfl ?_
  refine r_iload hC 1 dX6_kicks_101 rfl 103 rfl ?_
  refine r_invSr hC [.int 1] (.int 0) mSX6_firstOf q2733 (metX6_firstOf _ _ hG 1 (Nat.le_of_ble_eq_true rfl)) (fun _ _ => xIn.nil) ⟨rfl, rfl⟩ 0 0 rfl rfl (Nat.le_of_ble_eq_true rfl) (Nat.le_of_ble_eq_true rfl) rfl (Nat.le_of_ble_eq_true rfl) dX6_kicks_103 106 rfl ?_
  refine r_iconst hC 3 dX6_kicks_106 ic_3 107 rfl ?_
  refine r_iload hC 0 dX6_kicks_107 rfl 109 rfl ?_
  refine r_iadd hC 4 dX6_kicks_109  (by decide) 110 rfl ?_
  refine r_invSr hC [.int 0, .int 4] (.int 10) mSX6_at q2711 (metX6_at _ _ hG 0 4) (fun _ _ => xIn.nil) ⟨rfl, rfl⟩ 0 0 rfl rfl (Nat.le_of_ble_eq_true rfl) (Nat.le_of_ble_eq_true rfl) rfl (Nat.le_of_ble_eq_true rfl) dX6_kicks_110 113 rfl ?_
  refine r_dup2 hC dX6_kicks_113 rfl rfl 114 rfl ?_
  refine r_lald hC 10 (xix_n 10 (Nat.le_of_ble_eq_true rfl) (Nat.le_of_ble_eq_true rfl)) (fun _ h => h.get 2 rfl) ((r 10) + (-((impQ t r 0 1) / 2))) (by rw [← hu12, ← hu11, ← hu10, ← hu9]; rfl) dX6_kicks_114 115 rfl ?_
  refine r_aload_n hC 3 dX6_kicks_115 rfl 116 rfl ?_
  refine r_get (v := .ref (b 23)) hC kX6 23 rfl q2776 (fun _ h => h.get 0 rfl) rfl dX6_kicks_116 119 rfl ?_
  refine r_iconst hC 2 dX6_kicks_119 ic_2 120 rfl ?_
  refine r_iload hC 1 dX6_kicks_120 rfl 122 rfl ?_
  refine r_imul hC 2 dX6_kicks_122  (by decide) 123 rfl ?_
  refine r_iload hC 0 dX6_kicks_123 rfl 125 rfl ?_
  refine r_iadd hC 3 dX6_kicks_125  (by decide) 126 rfl ?_
  refine r_lald hC 3 (xix_n 3 (Nat.le_of_ble_eq_true rfl) (Nat.le_of_ble_eq_true rfl)) (fun _ h => h.get 3 rfl) (-((impQ t r 1 1) / 2)) (by rw [← hu6, ← hu5, ← hu4]; rfl) dX6_kicks_126 127 rfl ?_
  refine r_ladd hC (((r 10) + (-((impQ t r 0 1) / 2))) + (-((impQ t r 1 1) / 2))) dX6_kicks_127  (rfl) 128 rfl ?_
  refine r_last (J := xSt F V0 [(b 0, .inr (5, mF b i j)), (b 7, .inl (1, 5, .inr (.inl t))), (a, .inl (1, 111, .inr (.inl (va_up u12 10 (((r 10) + (-((impQ t r 0 1) / 2))) + (-((impQ t r 1 1) / 2))))))), (b 23, .inl (1, 6, .inr (.inl u6)))]) hC 10 (xix_n 10 (Nat.le_of_ble_eq_true rfl) (Nat.le_of_ble_eq_true rfl)) (fun _ h => h.get 2 rfl) dX6_kicks_128 (fun _ h => h.set 2 _ rfl) 129 rfl ?_
  generalize hu13 : va_up u12 10 (((r 10) + (-((impQ t r 0 1) / 2))) + (-((impQ t r 1 1) / 2))) = u13
  refine r_aload_n hC 4 dX6_kicks_129 rfl 130 rfl ?_
  refine r_iload hC 1 dX6_kicks_130 rfl 132 rfl ?_
  refine r_invSr hC [.int 1] (.int 2) mSX6_secondOf q2736 (metX6_secondOf _ _ hG 1 (Nat.le_of_ble_eq_true rfl)) (fun _ _ => xIn.nil) ⟨rfl, rfl⟩ 0 0 rfl rfl (Nat.le_of_ble_eq_true rfl) (Nat.le_of_ble_eq_true rfl) rfl (Nat.le_of_ble_eq_true rfl) dX6_kicks_132 135 rfl ?_
  refine r_iconst hC 3 dX6_kicks_135 ic_3 136 rfl ?_
  refine r_iload hC 0 dX6_kicks_136 rfl 138 rfl ?_
  refine r_iadd hC 4 dX6_kicks_138  (by decide) 139 rfl ?_
  refine r_invSr hC [.int 2, .int 4] (.int 20) mSX6_at q2711 (metX6_at _ _ hG 2 4) (fun _ _ => xIn.nil) ⟨rfl, rfl⟩ 0 0 rfl rfl (Nat.le_of_ble_eq_true rfl) (Nat.le_of_ble_eq_true rfl) rfl (Nat.le_of_ble_eq_true rfl) dX6_kicks_139 142 rfl ?_
  refine r_dup2 hC dX6_kicks_142 rfl rfl 143 rfl ?_
  refine r_lald hC 20 (xix_n 20 (Nat.le_of_ble_eq_true rfl) (Nat.le_of_ble_eq_true rfl)) (fun _ h => h.get 2 rfl) (r 20) (by rw [← hu13, ← hu12, ← hu11, ← hu10, ← hu9, ← hu8, ← hu7]; rfl) dX6_kicks_143 144 rfl ?_
  refine r_aload_n hC 3 dX6_kicks_144 rfl 145 rfl ?_
  refine r_get (v := .ref (b 23)) hC kX6 23 rfl q2776 (fun _ h => h.get 0 rfl) rfl dX6_kicks_145 148 rfl ?_
  refine r_iconst hC 2 dX6_kicks_148 ic_2 149 rfl ?_
  refine r_iload hC 1 dX6_kicks_149 rfl 151 rfl ?_
  refine r_imul hC 2 dX6_kicks_151  (by decide) 152 rfl ?_
  refine r_iload hC 0 dX6_kicks_152 rfl 154 rfl ?_
  refine r_iadd hC 3 dX6_kicks_154  (by decide) 155 rfl ?_
  refine r_lald hC 3 (xix_n 3 (Nat.le_of_ble_eq_true rfl) (Nat.le_of_ble_eq_true rfl)) (fun _ h => h.get 3 rfl) (-((impQ t r 1 1) / 2)) (by rw [← hu6, ← hu5, ← hu4]; rfl) dX6_kicks_155 156 rfl ?_
  refine r_lsub hC ((r 20) - (-((impQ t r 1 1) / 2))) dX6_kicks_156  (rfl) 157 rfl ?_
  refine r_last (J := xSt F V0 [(b 0, .inr (5, mF b i j)), (b 7, .inl (1, 5, .inr (.inl t))), (a, .inl (1, 111, .inr (.inl (va_up u13 20 ((r 20) - (-((impQ t r 1 1) / 2))))))), (b 23, .inl (1, 6, .inr (.inl u6)))]) hC 20 (xix_n 20 (Nat.le_of_ble_eq_true rfl) (Nat.le_of_ble_eq_true rfl)) (fun _ h => h.get 2 rfl) dX6_kicks_157 (fun _ h => h.set 2 _ rfl) 158 rfl ?_
  generalize hu14 : va_up u13 20 ((r 20) - (-((impQ t r 1 1) / 2))) = u14
  refine r_iinc hC 2 5 0 [(5, .int 2), (4, .int 1), (6, .long ((impQ t r 2 1) / 2)), (0, .ref (b 0)), (1, .ref a), (2, .int 1), (3, .int 1)] dX6_kicks_158 rfl (by decide) (Nat.le_of_ble_eq_true rfl) rfl 161 rfl ?_
  refine r_goto hC 94 dX6_kicks_161 (by decide) ?_
  refine r_iload hC 0 dX6_kicks_94 rfl 96 rfl ?_
  refine r_iconst hC 2 dX6_kicks_96 ic_2 97 rfl ?_
  refine r_icge hC 164 dX6_kicks_97 (by decide) 100 rfl (fun _ => ?_) (fun h => absurd h (by decide))
  refine r_iinc hC 2 4 1 [(4, .int 2), (5, .int 2), (6, .long ((impQ t r 2 1) / 2)), (0, .ref (b 0)), (1, .ref a), (2, .int 1), (3, .int 1)] dX6_kicks_164 rfl (by decide) (Nat.le_of_ble_eq_true rfl) rfl 167 rfl ?_
  refine r_goto hC 85 dX6_kicks_167 (by decide) ?_
  refine r_iload hC 0 dX6_kicks_85 rfl 87 rfl ?_
  refine r_iconst hC 3 dX6_kicks_87 ic_3 88 rfl ?_
  refine r_icge hC 170 dX6_kicks_88 (by decide) 91 rfl (fun h => absurd h (by decide)) (fun _ => ?_)
  refine r_iconst hC 0 dX6_kicks_91 ic_0 92 rfl ?_
  refine r_istore hC 5 [(5, .int 0), (4, .int 2), (6, .long ((impQ t r 2 1) / 2)), (0, .ref (b 0)), (1, .ref a), (2, .int 1), (3, .int 1)] dX6_kicks_92 (Nat.le_of_ble_eq_true rfl) rfl 94 rfl ?_
  refine r_iload hC 0 dX6_kicks_94 rfl 96 rfl ?_
  refine r_iconst hC 2 dX6_kicks_96 ic_2 97 rfl ?_
  refine r_icge hC 164 dX6_kicks_97 (by decide) 100 rfl (fun h => absurd h (by decide)) (fun _ => ?_)
  refine r_aload_n hC 4 dX6_kicks_100 rfl 101 rfl ?_
  refine r_iload hC 1 dX6_kicks_101 rfl 103 rfl ?_
  refine r_invSr hC [.int 2] (.int 1) mSX6_firstOf q2733 (metX6_firstOf _ _ hG 2 (Nat.le_of_ble_eq_true rfl)) (fun _ _ => xIn.nil) ⟨rfl, rfl⟩ 0 0 rfl rfl (Nat.le_of_ble_eq_true rfl) (Nat.le_of_ble_eq_true rfl) rfl (Nat.le_of_ble_eq_true rfl) dX6_kicks_103 106 rfl ?_
  refine r_iconst hC 3 dX6_kicks_106 ic_3 107 rfl ?_
  refine r_iload hC 0 dX6_kicks_107 rfl 109 rfl ?_
  refine r_iadd hC 3 dX6_kicks_109  (by decide) 110 rfl ?_
  refine r_invSr hC [.int 1, .int 3] (.int 14) mSX6_at q2711 (metX6_at _ _ hG 1 3) (fun _ _ => xIn.nil) ⟨rfl, rfl⟩ 0 0 rfl rfl (Nat.le_of_ble_eq_true rfl) (Nat.le_of_ble_eq_true rfl) rfl (Nat.le_of_ble_eq_true rfl) dX6_kicks_110 113 rfl ?_
  refine r_dup2 hC dX6_kicks_113 rfl rfl 114 rfl ?_
  refine r_lald hC 14 (xix_n 14 (Nat.le_of_ble_eq_true rfl) (Nat.le_of_ble_eq_true rfl)) (fun _ h => h.get 2 rfl) ((r 14) - (-((impQ t r 0 0) / 2))) (by rw [← hu14, ← hu13, ← hu12, ← hu11, ← hu10, ← hu9, ← hu8]; rfl) dX6_kicks_114 115 rfl ?_
  refine r_aload_n hC 3 dX6_kicks_115 rfl 116 rfl ?_
  refine r_get (v := .ref (b 23)) hC kX6 23 rfl q2776 (fun _ h => h.get 0 rfl) rfl dX6_kicks_116 119 rfl ?_
  refine r_iconst hC 2 dX6_kicks_119 ic_2 120 rfl ?_
  refine r_iload hC 1 dX6_kicks_120 rfl 122 rfl ?_
  refine r_imul hC 4 dX6_kicks_122  (by decide) 123 rfl ?_
  refine r_iload hC 0 dX6_kicks_123 rfl 125 rfl ?_
  refine r_iadd hC 4 dX6_kicks_125  (by decide) 126 rfl ?_
  refine r_lald hC 4 (xix_n 4 (Nat.le_of_ble_eq_true rfl) (Nat.le_of_ble_eq_true rfl)) (fun _ h => h.get 3 rfl) (-((impQ t r 2 0) / 2)) (by rw [← hu6, ← hu5]; rfl) dX6_kicks_126 127 rfl ?_
  refine r_ladd hC (((r 14) - (-((impQ t r 0 0) / 2))) + (-((impQ t r 2 0) / 2))) dX6_kicks_127  (rfl) 128 rfl ?_
  refine r_last (J := xSt F V0 [(b 0, .inr (5, mF b i j)), (b 7, .inl (1, 5, .inr (.inl t))), (a, .inl (1, 111, .inr (.inl (va_up u14 14 (((r 14) - (-((impQ t r 0 0) / 2))) + (-((impQ t r 2 0) / 2))))))), (b 23, .inl (1, 6, .inr (.inl u6)))]) hC 14 (xix_n 14 (Nat.le_of_ble_eq_true rfl) (Nat.le_of_ble_eq_true rfl)) (fun _ h => h.get 2 rfl) dX6_kicks_128 (fun _ h => h.set 2 _ rfl) 129 rfl ?_
  generalize hu15 : va_up u14 14 (((r 14) - (-((impQ t r 0 0) / 2))) + (-((impQ t r 2 0) / 2))) = u15
  refine r_aload_n hC 4 dX6_kicks_129 rfl 130 rfl ?_
  refine r_iload hC 1 dX6_kicks_130 rfl 132 rfl ?_
  refine r_invSr hC [.int 2] (.int 2) mSX6_secondOf q2736 (metX6_secondOf _ _ hG 2 (Nat.le_of_ble_eq_true rfl)) (fun _ _ => xIn.nil) ⟨rfl, rfl⟩ 0 0 rfl rfl (Nat.le_of_ble_eq_true rfl) (Nat.le_of_ble_eq_true rfl) rfl (Nat.le_of_ble_eq_true rfl) dX6_kicks_132 135 rfl ?_
  refine r_iconst hC 3 dX6_kicks_135 ic_3 136 rfl ?_
  refine r_iload hC 0 dX6_kicks_136 rfl 138 rfl ?_
  refine r_iadd hC 3 dX6_kicks_138  (by decide) 139 rfl ?_
  refine r_invSr hC [.int 2, .int 3] (.int 19) mSX6_at q2711 (metX6_at _ _ hG 2 3) (fun _ _ => xIn.nil) ⟨rfl, rfl⟩ 0 0 rfl rfl (Nat.le_of_ble_eq_true rfl) (Nat.le_of_ble_eq_true rfl) rfl (Nat.le_of_ble_eq_true rfl) dX6_kicks_139 142 rfl ?_
  refine r_dup2 hC dX6_kicks_142 rfl rfl 143 rfl ?_
  refine r_lald hC 19 (xix_n 19 (Nat.le_of_ble_eq_true rfl) (Nat.le_of_ble_eq_true rfl)) (fun _ h => h.get 2 rfl) ((r 19) - (-((impQ t r 1 0) / 2))) (by rw [← hu15, ← hu14, ← hu13, ← hu12]; rfl) dX6_kicks_143 144 rfl ?_
  refine r_aload_n hC 3 dX6_kicks_144 rfl 145 rfl ?_
  refine r_get (v := .ref (b 23)) hC kX6 23 rfl q2776 (fun _ h => h.get 0 rfl) rfl dX6_kicks_145 148 rfl ?_
  refine r_iconst hC 2 dX6_kicks_148 ic_2 149 rfl ?_
  refine r_iload hC 1 dX6_kicks_149 rfl 151 rfl ?_
  refine r_imul hC 4 dX6_kicks_151  (by decide) 152 rfl ?_
  refine r_iload hC 0 dX6_kicks_152 rfl 154 rfl ?_
  refine r_iadd hC 4 dX6_kicks_154  (by decide) 155 rfl ?_
  refine r_lald hC 4 (xix_n 4 (Nat.le_of_ble_eq_true rfl) (Nat.le_of_ble_eq_true rfl)) (fun _ h => h.get 3 rfl) (-((impQ t r 2 0) / 2)) (by rw [← hu6, ← hu5]; rfl) dX6_kicks_155 156 rfl ?_
  refine r_lsub hC (((r 19) - (-((impQ t r 1 0) / 2))) - (-((impQ t r 2 0) / 2))) dX6_kicks_156  (rfl) 157 rfl ?_
  refine r_last (J := xSt F V0 [(b 0, .inr (5, mF b i j)), (b 7, .inl (1, 5, .inr (.inl t))), (a, .inl (1, 111, .inr (.inl (va_up u15 19 (((r 19) - (-((impQ t r 1 0) / 2))) - (-((impQ t r 2 0) / 2))))))), (b 23, .inl (1, 6, .inr (.inl u6)))]) hC 19 (xix_n 19 (Nat.le_of_ble_eq_true rfl) (Nat.le_of_ble_eq_true rfl)) (fun _ h => h.get 2 rfl) dX6_kicks_157 (fun _ h => h.set 2 _ rfl) 158 rfl ?_
  generalize hu16 : va_up u15 19 (((r 19) - (-((impQ t r 1 0) / 2))) - (-((impQ t r 2 0) / 2))) = u16
  refine r_iinc hC 1 5 0 [(5, .int 1), (4, .int 2), (6, .long ((impQ t r 2 1) / 2)), (0, .ref (b 0)), (1, .ref a), (2, .int 1), (3, .int 1)] dX6_kicks_158 rfl (by decide) (Nat.le_of_ble_eq_true rfl) rfl 161 rfl ?_
  refine r_goto hC 94 dX6_kicks_161 (by decide) ?_
  refine r_iload hC 0 dX6_kicks_94 rfl 96 rfl ?_
  refine r_iconst hC 2 dX6_kicks_96 ic_2 97 rfl ?_
  refine r_icge hC 164 dX6_kicks_97 (by decide) 100 rfl (fun h => absurd h (by decide)) (fun _ => ?_)
  refine r_aload_n hC 4 dX6_kicks_100 rfl 101 rfl ?_
  refine r_iload hC 1 dX6_kicks_101 rfl 103 rfl ?_
  refine r_invSr hC [.int 2] (.int 1) mSX6_firstOf q2733 (metX6_firstOf _ _ hG 2 (Nat.le_of_ble_eq_true rfl)) (fun _ _ => xIn.nil) ⟨rfl, rfl⟩ 0 0 rfl rfl (Nat.le_of_ble_eq_true rfl) (Nat.le_of_ble_eq_true rfl) rfl (Nat.le_of_ble_eq_true rfl) dX6_kicks_103 106 rfl ?_
  refine r_iconst hC 3 dX6_kicks_106 ic_3 107 rfl ?_
  refine r_iload hC 0 dX6_kicks_107 rfl 109 rfl ?_
  refine r_iadd hC 4 dX6_kicks_109  (by decide) 110 rfl ?_
  refine r_invSr hC [.int 1, .int 4] (.int 15) mSX6_at q2711 (metX6_at _ _ hG 1 4) (fun _ _ => xIn.nil) ⟨rfl, rfl⟩ 0 0 rfl rfl (Nat.le_of_ble_eq_true rfl) (Nat.le_of_ble_eq_true rfl) rfl (Nat.le_of_ble_eq_true rfl) dX6_kicks_110 113 rfl ?_
  refine r_dup2 hC dX6_kicks_113 rfl rfl 114 rfl ?_
  refine r_lald hC 15 (xix_n 15 (Nat.le_of_ble_eq_true rfl) (Nat.le_of_ble_eq_true rfl)) (fun _ h => h.get 2 rfl) ((r 15) - (-((impQ t r 0 1) / 2))) (by rw [← hu16, ← hu15, ← hu14, ← hu13, ← hu12, ← hu11, ← hu10]; rfl) dX6_kicks_114 115 rfl ?_
  refine r_aload_n hC 3 dX6_kicks_115 rfl 116 rfl ?_
  refine r_get (v := .ref (b 23)) hC kX6 23 rfl q2776 (fun _ h => h.get 0 rfl) rfl dX6_kicks_116 119 rfl ?_
  refine r_iconst hC 2 dX6_kicks_119 ic_2 120 rfl ?_
  refine r_iload hC 1 dX6_kicks_120 rfl 122 rfl ?_
  refine r_imul hC 4 dX6_kicks_122  (by decide) 123 rfl ?_
  refine r_iload hC 0 dX6_kicks_123 rfl 125 rfl ?_
  refine r_iadd hC 5 dX6_kicks_125  (by decide) 126 rfl ?_
  refine r_lald hC 5 (xix_n 5 (Nat.le_of_ble_eq_true rfl) (Nat.le_of_ble_eq_true rfl)) (fun _ h => h.get 3 rfl) (-((impQ t r 2 1) / 2)) (by rw [← hu6]; rfl) dX6_kicks_126 127 rfl ?_
  refine r_ladd hC (((r 15) - (-((impQ t r 0 1) / 2))) + (-((impQ t r 2 1) / 2))) dX6_kicks_127  (rfl) 128 rfl ?_
  refine r_last (J := xSt F V0 [(b 0, .inr (5, mF b i j)), (b 7, .inl (1, 5, .inr (.inl t))), (a, .inl (1, 111, .inr (.inl (va_up u16 15 (((r 15) - (-((impQ t r 0 1) / 2))) + (-((impQ t r 2 1) / 2))))))), (b 23, .inl (1, 6, .inr (.inl u6)))]) hC 15 (xix_n 15 (Nat.le_of_ble_eq_true rfl) (Nat.le_of_ble_eq_true rfl)) (fun _ h => h.get 2 rfl) dX6_kicks_128 (fun _ h => h.set 2 _ rfl) 129 rfl ?_
  generalize hu17 : va_up u16 15 (((r 15) - (-((impQ t r 0 1) / 2))) + (-((impQ t r 2 1) / 2))) = u17
  refine r_aload_n hC 4 dX6_kicks_129 rfl 130 rfl ?_
  refine r_iload hC 1 dX6_kicks_130 rfl 132 rfl ?_
  refine r_invSr hC [.int 2] (.int 2) mSX6_secondOf q2736 (metX6_secondOf _ _ hG 2 (Nat.le_of_ble_eq_true rfl)) (fun _ _ => xIn.nil) ⟨rfl, rfl⟩ 0 0 rfl rfl (Nat.le_of_ble_eq_true rfl) (Nat.le_of_ble_eq_true rfl) rfl (Nat.le_of_ble_eq_true rfl) dX6_kicks_132 135 rfl ?_
  refine r_iconst hC 3 dX6_kicks_135 ic_3 136 rfl ?_
  refine r_iload hC 0 dX6_kicks_136 rfl 138 rfl ?_
  refine r_iadd hC 4 dX6_kicks_138  (by decide) 139 rfl ?_
  refine r_invSr hC [.int 2, .int 4] (.int 20) mSX6_at q2711 (metX6_at _ _ hG 2 4) (fun _ _ => xIn.nil) ⟨rfl, rfl⟩ 0 0 rfl rfl (Nat.le_of_ble_eq_true rfl) (Nat.le_of_ble_eq_true rfl) rfl (Nat.le_of_ble_eq_true rfl) dX6_kicks_139 142 rfl ?_
  refine r_dup2 hC dX6_kicks_142 rfl rfl 143 rfl ?_
  refine r_lald hC 20 (xix_n 20 (Nat.le_of_ble_eq_true rfl) (Nat.le_of_ble_eq_true rfl)) (fun _ h => h.get 2 rfl) ((r 20) - (-((impQ t r 1 1) / 2))) (by rw [← hu17, ← hu16, ← hu15, ← hu14]; rfl) dX6_kicks_143 144 rfl ?_
  refine r_aload_n hC 3 dX6_kicks_144 rfl 145 rfl ?_
  refine r_get (v := .ref (b 23)) hC kX6 23 rfl q2776 (fun _ h => h.get 0 rfl) rfl dX6_kicks_145 148 rfl ?_
  refine r_iconst hC 2 dX6_kicks_148 ic_2 149 rfl ?_
  refine r_iload hC 1 dX6_kicks_149 rfl 151 rfl ?_
  refine r_imul hC 4 dX6_kicks_151  (by decide) 152 rfl ?_
  refine r_iload hC 0 dX6_kicks_152 rfl 154 rfl ?_
  refine r_iadd hC 5 dX6_kicks_154  (by decide) 155 rfl ?_
  refine r_lald hC 5 (xix_n 5 (Nat.le_of_ble_eq_true rfl) (Nat.le_of_ble_eq_true rfl)) (fun _ h => h.get 3 rfl) (-((impQ t r 2 1) / 2)) (by rw [← hu6]; rfl) dX6_kicks_155 156 rfl ?_
  refine r_lsub hC (((r 20) - (-((impQ t r 1 1) / 2))) - (-((impQ t r 2 1) / 2))) dX6_kicks_156  (rfl) 157 rfl ?_
  refine r_last (J := xSt F V0 [(b 0, .inr (5, mF b i j)), (b 7, .inl (1, 5, .inr (.inl t))), (a, .inl (1, 111, .inr (.inl (va_up u17 20 (((r 20) - (-((impQ t r 1 1) / 2))) - (-((impQ t r 2 1) / 2))))))), (b 23, .inl (1, 6, .inr (.inl u6)))]) hC 20 (xix_n 20 (Nat.le_of_ble_eq_true rfl) (Nat.le_of_ble_eq_true rfl)) (fun _ h => h.get 2 rfl) dX6_kicks_157 (fun _ h => h.set 2 _ rfl) 158 rfl ?_
  generalize hu18 : va_up u17 20 (((r 20) - (-((impQ t r 1 1) / 2))) - (-((impQ t r 2 1) / 2))) = u18
  refine r_iinc hC 2 5 0 [(5, .int 2), (4, .int 2), (6, .long ((impQ t r 2 1) / 2)), (0, .ref (b 0)), (1, .ref a), (2, .int 1), (3, .int 1)] dX6_kicks_158 rfl (by decide) (Nat.le_of_ble_eq_true rfl) rfl 161 rfl ?_
  refine r_goto hC 94 dX6_kicks_161 (by decide) ?_
  refine r_iload hC 0 dX6_kicks_94 rfl 96 rfl ?_
  refine r_iconst hC 2 dX6_kicks_96 ic_2 97 rfl ?_
  refine r_icge hC 164 dX6_kicks_97 (by decide) 100 rfl (fun _ => ?_) (fun h => absurd h (by decide))
  refine r_iinc hC 3 4 1 [(4, .int 3), (5, .int 2), (6, .long ((impQ t r 2 1) / 2)), (0, .ref (b 0)), (1, .ref a), (2, .int 1), (3, .int 1)] dX6_kicks_164 rfl (by decide) (Nat.le_of_ble_eq_true rfl) rfl 167 rfl ?_
  refine r_goto hC 85 dX6_kicks_167 (by decide) ?_
  refine r_iload hC 0 dX6_kicks_85 rfl 87 rfl ?_
  refine r_iconst hC 3 dX6_kicks_87 ic_3 88 rfl ?_
  refine r_icge hC 170 dX6_kicks_88 (by decide) 91 rfl (fun _ => ?_) (fun h => absurd h (by decide))
  subst hu18
  subst hu17
  subst hu16
  subst hu15
  subst hu14
  subst hu13
  subst hu12
  subst hu11
  subst hu10
  subst hu9
  subst hu8
  subst hu7
  subst hu6
  subst hu5
  subst hu4
  subst hu3
  subst hu2
  subst hu1
  exact r_vret hC (Nat.le_of_ble_eq_true rfl) (Nat.le_of_ble_eq_true rfl) (fun V9 h => hQ _ _ ⟨[(b 0, .inr (5, mF b i j)), (b 7, .inl (1, 5, .inr (.inl t))), (a, .inl (1, 111, .inr (.inl (va_up (va_up (va_up (va_up (va_up (va_up (va_up (va_up (va_up (va_up (va_up (va_up r 9 ((r 9) + (-((impQ t r 0 0) / 2)))) 14 ((r 14) - (-((impQ t r 0 0) / 2)))) 10 ((r 10) + (-((impQ t r 0 1) / 2)))) 15 ((r 15) - (-((impQ t r 0 1) / 2)))) 9 (((r 9) + (-((impQ t r 0 0) / 2))) + (-((impQ t r 1 0) / 2)))) 19 ((r 19) - (-((impQ t r 1 0) / 2)))) 10 (((r 10) + (-((impQ t r 0 1) / 2))) + (-((impQ t r 1 1) / 2)))) 20 ((r 20) - (-((impQ t r 1 1) / 2)))) 14 (((r 14) - (-((impQ t r 0 0) / 2))) + (-((impQ t r 2 0) / 2)))) 19 (((r 19) - (-((impQ t r 1 0) / 2))) - (-((impQ t r 2 0) / 2)))) 15 (((r 15) - (-((impQ t r 0 1) / 2))) + (-((impQ t r 2 1) / 2)))) 20 (((r 20) - (-((impQ t r 1 1) / 2))) - (-((impQ t r 2 1) / 2))))))), (b 23, .inl (1, 6, .inr (.inl (va_up (va_up (va_up (va_up (va_up (va_up g 0 (-((impQ t r 0 0) / 2))) 1 (-((impQ t r 0 1) / 2))) 2 (-((impQ t r 1 0) / 2))) 3 (-((impQ t r 1 1) / 2))) 4 (-((impQ t r 2 0) / 2))) 5 (-((impQ t r 2 1) / 2))))))], ⟨(va_up (va_up (va_up (va_up (va_up (va_up g 0 (-((impQ t r 0 0) / 2))) 1 (-((impQ t r 0 1) / 2))) 2 (-((impQ t r 1 0) / 2))) 3 (-((impQ t r 1 1) / 2))) 4 (-((impQ t r 2 0) / 2))) 5 (-((impQ t r 2 1) / 2))), rfl, by rw [kick_eq11]⟩, by rw [← hV0, ← hF]; exact h⟩) dX6_kicks_170
set_option maxHeartbeats 4000000 in
set_option maxRecDepth 100000 in
theorem metX6_drifts00 (l : Launch) (G : xG) (hG : xGood G) (b : Nat → Nat) (i : Nat → Int32) (j : Nat → Int64) (t : Nat → Int64) (a : Nat) (r : Nat → Int64) (hok : rowOK t r) : xWm l G yX6_drifts (Cond.code yX6_drifts cX6_drifts 8 none) { frames := 1, locals := 25, cells := 0, slots := 0 } [.ref (b 0), .ref a, .int 0, .int 0] [(b 0, .inr (5, mF b i j)), (b 7, .inl (1, 5, .inr (.inl t))), (a, .inl (1, 111, .inr (.inl r)))] (fun v w' => v = none ∧ w' = [(b 0, .inr (5, mF b i j)), (b 7, .inl (1, 5, .inr (.inl t))), (a, .inl (1, 111, .inr (.inl (driftQ t r false false))))]) (fun _ _ => False) := by
  intro V hV
  refine xMet_of RX6 hG rfl (by decide) (Nat.le_of_ble_eq_true rfl) fun C hC hQ hX hl hg _ => ?_
  subst hl hg
  obtain ⟨V0, hV0⟩ : ∃ V0, V0 = V := ⟨_, rfl⟩
  obtain ⟨F, hF⟩ : ∃ F, F = xF [(b 0, .inr (5, mF b i j)), (b 7, .inl (1, 5, .inr (.inl t))), (a, .inl (1, 111, .inr (.inl r)))] := ⟨_, rfl⟩
  refine rn.mono (J := xSt F V0 [(b 0, .inr (5, mF b i j)), (b 7, .inl (1, 5, .inr (.inl t))), (a, .inl (1, 111, .inr (.inl r)))]) (fun V9 h => by rw [h, hV0, hF]; exact hV.st) ?_
  show rn C (xSt F V0 [(b 0, .inr (5, mF b i j)), (b 7, .inl (1, 5, .inr (.inl t))), (a, .inl (1, 111, .inr (.inl r)))]) 0 0 0 [(0, .ref (b 0)), (1, .ref a), (2, .int 0), (3, .int 0)] []
  refine r_iconst hC 0 dX6_drifts_0 ic_0 1 rfl ?_
  refine r_istore hC 4 [(4, .int 0), (0, .ref (b 0)), (1, .ref a), (2, .int 0), (3, .int 0)] dX6_drifts_1 (Nat.le_of_ble_eq_true rfl) rfl 3 rfl ?_
  refine r_iload hC 0 dX6_drifts_3 rfl 5 rfl ?_
  refine r_iconst hC 3 dX6_drifts_5 ic_3 6 rfl ?_
  refine r_icge hC 106 dX6_drifts_6 (by decide) 9 rfl (fun h => absurd h (by decide)) (fun _ => ?_)
  refine r_iconst hC 0 dX6_drifts_9 ic_0 10 rfl ?_
  refine r_istore hC 5 [(5, .int 0), (4, .int 0), (0, .ref (b 0)), (1, .ref a), (2, .int 0), (3, .int 0)] dX6_drifts_10 (Nat.le_of_ble_eq_true rfl) rfl 12 rfl ?_
  refine r_iload hC 0 dX6_drifts_12 rfl 14 rfl ?_
  refine r_iconst hC 2 dX6_drifts_14 ic_2 15 rfl ?_
  refine r_icge hC 100 dX6_drifts_15 (by decide) 18 rfl (fun h => absurd h (by decide)) (fun _ => ?_)
  refine r_aload_n hC 2 dX6_drifts_18 rfl 19 rfl ?_
  refine r_get (v := .ref (b 7)) hC kX6 7 rfl q2760 (fun _ h => h.get 0 rfl) rfl dX6_drifts_19 22 rfl ?_
  refine r_iconst hC 2 dX6_drifts_22 ic_2 23 rfl ?_
  refine r_lald hC 2 (xix_n 2 (Nat.le_of_ble_eq_true rfl) (Nat.le_of_ble_eq_true rfl)) (fun _ h => h.get 1 rfl) (t 2) (rfl) dX6_drifts_23 24 rfl ?_
  refine r_aload_n hC 3 dX6_drifts_24 rfl 25 rfl ?_
  refine r_iload hC 1 dX6_drifts_25 rfl 27 rfl ?_
  refine r_iconst hC 3 dX6_drifts_27 ic_3 28 rfl ?_
  refine r_iload hC 0 dX6_drifts_28 rfl 30 rfl ?_
  refine r_iadd hC 3 dX6_drifts_30  (by decide) 31 rfl ?_
  refine r_invSr hC [.int 0, .int 3] (.int 9) mSX6_at q2711 (metX6_at _ _ hG 0 3) (fun _ _ => xIn.nil) ⟨rfl, rfl⟩ 0 0 rfl rfl (Nat.le_of_ble_eq_true rfl) (Nat.le_of_ble_eq_true rfl) rfl (Nat.le_of_ble_eq_true rfl) dX6_drifts_31 34 rfl ?_
  refine r_lald hC 9 (xix_n 9 (Nat.le_of_ble_eq_true rfl) (Nat.le_of_ble_eq_true rfl)) (fun _ h => h.get 2 rfl) (r 9) (rfl) dX6_drifts_34 35 rfl ?_
  refine r_lmul hC ((t 2) * (r 9)) dX6_drifts_35  (rfl) 36 rfl ?_
  refine r_iload_n hC 4 dX6_drifts_36 rfl 37 rfl ?_
  refine r_ifeq hC 55 dX6_drifts_37 (by decide) 40 rfl (fun _ => ?_) (fun h => absurd h (by decide))
  refine r_aload_n hC 3 dX6_drifts_55 rfl 56 rfl ?_
  refine r_iload hC 1 dX6_drifts_56 rfl 58 rfl ?_
  refine r_iconst hC 0 dX6_drifts_58 ic_0 59 rfl ?_
  refine r_invSr hC [.int 0, .int 0] (.int 6) mSX6_at q2711 (metX6_at _ _ hG 0 0) (fun _ _ => xIn.nil) ⟨rfl, rfl⟩ 0 0 rfl rfl (Nat.le_of_ble_eq_true rfl) (Nat.le_of_ble_eq_true rfl) rfl (Nat.le_of_ble_eq_true rfl) dX6_drifts_59 62 rfl ?_
  refine r_lald hC 6 (xix_n 6 (Nat.le_of_ble_eq_true rfl) (Nat.le_of_ble_eq_true rfl)) (fun _ h => h.get 2 rfl) (r 6) (rfl) dX6_drifts_62 63 rfl ?_
  refine r_invSr hC [.long ((t 2) * (r 9)), .long (r 6)] (.long (m_floored ((t 2) * (r 9)) (r 6))) mSX6_floored q3042 (metX6_floored _ _ hG ((t 2) * (r 9)) (r 6) (hok.2.2.1.1)) (fun _ _ => xIn.nil) ⟨rfl, rfl⟩ 0 0 rfl rfl (Nat.le_of_ble_eq_true rfl) (Nat.le_of_ble_eq_true rfl) rfl (Nat.le_of_ble_eq_true rfl) dX6_drifts_63 66 rfl ?_
  refine r_lstore hC 6 [(6, .long (m_floored ((t 2) * (r 9)) (r 6))), (5, .int 0), (4, .int 0), (0, .ref (b 0)), (1, .ref a), (2, .int 0), (3, .int 0)] dX6_drifts_66 (Nat.le_of_ble_eq_true rfl) rfl 68 rfl ?_
  refine r_aload_n hC 4 dX6_drifts_68 rfl 69 rfl ?_
  refine r_iload hC 2 dX6_drifts_69 rfl 71 rfl ?_
  refine r_iconst hC 1 dX6_drifts_71 ic_1 72 rfl ?_
  refine r_iload hC 1 dX6_drifts_72 rfl 74 rfl ?_
  refine r_iadd hC 1 dX6_drifts_74  (by decide) 75 rfl ?_
  refine r_invSr hC [.int 0, .int 1] (.int 7) mSX6_at q2711 (metX6_at _ _ hG 0 1) (fun _ _ => xIn.nil) ⟨rfl, rfl⟩ 0 0 rfl rfl (Nat.le_of_ble_eq_true rfl) (Nat.le_of_ble_eq_true rfl) rfl (Nat.le_of_ble_eq_true rfl) dX6_drifts_75 78 rfl ?_
  refine r_dup2 hC dX6_drifts_78 rfl rfl 79 rfl ?_
  refine r_lald hC 7 (xix_n 7 (Nat.le_of_ble_eq_true rfl) (Nat.le_of_ble_eq_true rfl)) (fun _ h => h.get 2 rfl) (r 7) (rfl) dX6_drifts_79 80 rfl ?_
  refine r_iload_n hC 6 dX6_drifts_80 rfl 81 rfl ?_
  refine r_ifeq hC 90 dX6_drifts_81 (by decide) 84 rfl (fun _ => ?_) (fun h => absurd h (by decide))
  refine r_lload hC 0 dX6_drifts_90 rfl 92 rfl ?_
  refine r_ladd hC ((r 7) + (m_floored ((t 2) * (r 9)) (r 6))) dX6_drifts_92  (rfl) 93 rfl ?_
  refine r_last (J := xSt F V0 [(b 0, .inr (5, mF b i j)), (b 7, .inl (1, 5, .inr (.inl t))), (a, .inl (1, 111, .inr (.inl (va_up r 7 ((r 7) + (m_floored ((t 2) * (r 9)) (r 6)))))))]) hC 7 (xix_n 7 (Nat.le_of_ble_eq_true rfl) (Nat.le_of_ble_eq_true rfl)) (fun _ h => h.get 2 rfl) dX6_drifts_93 (fun _ h => h.set 2 _ rfl) 94 rfl ?_
  generalize hu1 : va_up r 7 ((r 7) + (m_floored ((t 2) * (r 9)) (r 6))) = u1
  refine r_iinc hC 1 5 1 [(5, .int 1), (6, .long (m_floored ((t 2) * (r 9)) (r 6))), (4, .int 0), (0, .ref (b 0)), (1, .ref a), (2, .int 0), (3, .int 0)] dX6_drifts_94 rfl (by decide) (Nat.le_of_ble_eq_true rfl) rfl 97 rfl ?_
  refine r_goto hC 12 dX6_drifts_97 (by decide) ?_
  refine r_iload hC 0 dX6_drifts_12 rfl 14 rfl ?_
  refine r_iconst hC 2 dX6_drifts_14 ic_2 15 rfl ?_
  refine r_icge hC 100 dX6_drifts_15 (by decide) 18 rfl (fun h => absurd h (by decide)) (fun _ => ?_)
  refine r_aload_n hC 3 dX6_drifts_18 rfl 19 rfl ?_
  refine r_get (v := .ref (b 7)) hC kX6 7 rfl q2760 (fun _ h => h.get 0 rfl) rfl dX6_drifts_19 22 rfl ?_
  refine r_iconst hC 2 dX6_drifts_22 ic_2 23 rfl ?_
  refine r_lald hC 2 (xix_n 2 (Nat.le_of_ble_eq_true rfl) (Nat.le_of_ble_eq_true rfl)) (fun _ h => h.get 1 rfl) (t 2) (rfl) dX6_drifts_23 24 rfl ?_
  refine r_aload_n hC 4 dX6_drifts_24 rfl 25 rfl ?_
  refine r_iload hC 2 dX6_drifts_25 rfl 27 rfl ?_
  refine r_iconst hC 3 dX6_drifts_27 ic_3 28 rfl ?_
  refine r_iload hC 0 dX6_drifts_28 rfl 30 rfl ?_
  refine r_iadd hC 4 dX6_drifts_30  (by decide) 31 rfl ?_
  refine r_invSr hC [.int 0, .int 4] (.int 10) mSX6_at q2711 (metX6_at _ _ hG 0 4) (fun _ _ => xIn.nil) ⟨rfl, rfl⟩ 0 0 rfl rfl (Nat.le_of_ble_eq_true rfl) (Nat.le_of_ble_eq_true rfl) rfl (Nat.le_of_ble_eq_true rfl) dX6_drifts_31 34 rfl ?_
  refine r_lald hC 10 (xix_n 10 (Nat.le_of_ble_eq_true rfl) (Nat.le_of_ble_eq_true rfl)) (fun _ h => h.get 2 rfl) (r 10) (by rw [← hu1]; rfl) dX6_drifts_34 35 rfl ?_
  refine r_lmul hC ((t 2) * (r 10)) dX6_drifts_35  (rfl) 36 rfl ?_
  refine r_iload_n hC 5 dX6_drifts_36 rfl 37 rfl ?_
  refine r_ifeq hC 55 dX6_drifts_37 (by decide) 40 rfl (fun _ => ?_) (fun h => absurd h (by decide))
  refine r_aload_n hC 4 dX6_drifts_55 rfl 56 rfl ?_
  refine r_iload hC 2 dX6_drifts_56 rfl 58 rfl ?_
  refine r_iconst hC 0 dX6_drifts_58 ic_0 59 rfl ?_
  refine r_invSr hC [.int 0, .int 0] (.int 6) mSX6_at q2711 (metX6_at _ _ hG 0 0) (fun _ _ => xIn.nil) ⟨rfl, rfl⟩ 0 0 rfl rfl (Nat.le_of_ble_eq_true rfl) (Nat.le_of_ble_eq_true rfl) rfl (Nat.le_of_ble_eq_true rfl) dX6_drifts_59 62 rfl ?_
  refine r_lald hC 6 (xix_n 6 (Nat.le_of_ble_eq_true rfl) (Nat.le_of_ble_eq_true rfl)) (fun _ h => h.get 2 rfl) (r 6) (by rw [← hu1]; rfl) dX6_drifts_62 63 rfl ?_
  refine r_invSr hC [.long ((t 2) * (r 10)), .long (r 6)] (.long (m_floored ((t 2) * (r 10)) (r 6))) mSX6_floored q3042 (metX6_floored _ _ hG ((t 2) * (r 10)) (r 6) (hok.2.2.1.1)) (fun _ _ => xIn.nil) ⟨rfl, rfl⟩ 0 0 rfl rfl (Nat.le_of_ble_eq_true rfl) (Nat.le_of_ble_eq_true rfl) rfl (Nat.le_of_ble_eq_true rfl) dX6_drifts_63 66 rfl ?_
  refine r_lstore hC 6 [(6, .long (m_floored ((t 2) * (r 10)) (r 6))), (5, .int 1), (4, .int 0), (0, .ref (b 0)), (1, .ref a), (2, .int 0), (3, .int 0)] dX6_drifts_66 (Nat.le_of_ble_eq_true rfl) rfl 68 rfl ?_
  refine r_aload_n hC 4 dX6_drifts_68 rfl 69 rfl ?_
  refine r_iload hC 2 dX6_drifts_69 rfl 71 rfl ?_
  refine r_iconst hC 1 dX6_drifts_71 ic_1 72 rfl ?_
  refine r_iload hC 1 dX6_drifts_72 rfl 74 rfl ?_
  refine r_iadd hC 2 dX6_drifts_74  (by decide) 75 rfl ?_
  refine r_invSr hC [.int 0, .int 2] (.int 8) mSX6_at q2711 (metX6_at _ _ hG 0 2) (fun _ _ => xIn.nil) ⟨rfl, rfl⟩ 0 0 rfl rfl (Nat.le_of_ble_eq_true rfl) (Nat.le_of_ble_eq_true rfl) rfl (Nat.le_of_ble_eq_true rfl) dX6_drifts_75 78 rfl ?_
  refine r_dup2 hC dX6_drifts_78 rfl rfl 79 rfl ?_
  refine r_lald hC 8 (xix_n 8 (Nat.le_of_ble_eq_true rfl) (Nat.le_of_ble_eq_true rfl)) (fun _ h => h.get 2 rfl) (r 8) (by rw [← hu1]; rfl) dX6_drifts_79 80 rfl ?_
  refine r_iload_n hC 6 dX6_drifts_80 rfl 81 rfl ?_
  refine r_ifeq hC 90 dX6_drifts_81 (by decide) 84 rfl (fun _ => ?_) (fun h => absurd h (by decide))
  refine r_lload hC 0 dX6_drifts_90 rfl 92 rfl ?_
  refine r_ladd hC ((r 8) + (m_floored ((t 2) * (r 10)) (r 6))) dX6_drifts_92  (rfl) 93 rfl ?_
  refine r_last (J := xSt F V0 [(b 0, .inr (5, mF b i j)), (b 7, .inl (1, 5, .inr (.inl t))), (a, .inl (1, 111, .inr (.inl (va_up u1 8 ((r 8) + (m_floored ((t 2) * (r 10)) (r 6)))))))]) hC 8 (xix_n 8 (Nat.le_of_ble_eq_true rfl) (Nat.le_of_ble_eq_true rfl)) (fun _ h => h.get 2 rfl) dX6_drifts_93 (fun _ h => h.set 2 _ rfl) 94 rfl ?_
  generalize hu2 : va_up u1 8 ((r 8) + (m_floored ((t 2) * (r 10)) (r 6))) = u2
  refine r_iinc hC 2 5 1 [(5, .int 2), (6, .long (m_floored ((t 2) * (r 10)) (r 6))), (4, .int 0), (0, .ref (b 0)), (1, .ref a), (2, .int 0), (3, .int 0)] dX6_drifts_94 rfl (by decide) (Nat.le_of_ble_eq_true rfl) rfl 97 rfl ?_
  refine r_goto hC 12 dX6_drifts_97 (by decide) ?_
  refine r_iload hC 0 dX6_drifts_12 rfl 14 rfl ?_
  refine r_iconst hC 2 dX6_drifts_14 ic_2 15 rfl ?_
  refine r_icge hC 100 dX6_drifts_15 (by decide) 18 rfl (fun _ => ?_) (fun h => absurd h (by decide))
  refine r_iinc hC 1 4 2 [(4, .int 1), (5, .int 2), (6, .long (m_floored ((t 2) * (r 10)) (r 6))), (0, .ref (b 0)), (1, .ref a), (2, .int 0), (3, .int 0)] dX6_drifts_100 rfl (by decide) (Nat.le_of_ble_eq_true rfl) rfl 103 rfl ?_
  refine r_goto hC 3 dX6_drifts_103 (by decide) ?_
  refine r_iload hC 0 dX6_drifts_3 rfl 5 rfl ?_
  refine r_iconst hC 3 dX6_drifts_5 ic_3 6 rfl ?_
  refine r_icge hC 106 dX6_drifts_6 (by decide) 9 rfl (fun h => absurd h (by decide)) (fun _ => ?_)
  refine r_iconst hC 0 dX6_drifts_9 ic_0 10 rfl ?_
  refine r_istore hC 5 [(5, .int 0), (4, .int 1), (6, .long (m_floored ((t 2) * (r 10)) (r 6))), (0, .ref (b 0)), (1, .ref a), (2, .int 0), (3, .int 0)] dX6_drifts_10 (Nat.le_of_ble_eq_true rfl) rfl 12 rfl ?_
  refine r_iload hC 0 dX6_drifts_12 rfl 14 rfl ?_
  refine r_iconst hC 2 dX6_drifts_14 ic_2 15 rfl ?_
  refine r_icge hC 100 dX6_drifts_15 (by decide) 18 rfl (fun h => absurd h (by decide)) (fun _ => ?_)
  refine r_aload_n hC 3 dX6_drifts_18 rfl 19 rfl ?_
  refine r_get (v := .ref (b 7)) hC kX6 7 rfl q2760 (fun _ h => h.get 0 rfl) rfl dX6_drifts_19 22 rfl ?_
  refine r_iconst hC 2 dX6_drifts_22 ic_2 23 rfl ?_
  refine r_lald hC 2 (xix_n 2 (Nat.le_of_ble_eq_true rfl) (Nat.le_of_ble_eq_true rfl)) (fun _ h => h.get 1 rfl) (t 2) (rfl) dX6_drifts_23 24 rfl ?_
  refine r_aload_n hC 4 dX6_drifts_24 rfl 25 rfl ?_
  refine r_iload hC 1 dX6_drifts_25 rfl 27 rfl ?_
  refine r_iconst hC 3 dX6_drifts_27 ic_3 28 rfl ?_
  refine r_iload hC 0 dX6_drifts_28 rfl 30 rfl ?_
  refine r_iadd hC 3 dX6_drifts_30  (by decide) 31 rfl ?_
  refine r_invSr hC [.int 1, .int 3] (.int 14) mSX6_at q2711 (metX6_at _ _ hG 1 3) (fun _ _ => xIn.nil) ⟨rfl, rfl⟩ 0 0 rfl rfl (Nat.le_of_ble_eq_true rfl) (Nat.le_of_ble_eq_true rfl) rfl (Nat.le_of_ble_eq_true rfl) dX6_drifts_31 34 rfl ?_
  refine r_lald hC 14 (xix_n 14 (Nat.le_of_ble_eq_true rfl) (Nat.le_of_ble_eq_true rfl)) (fun _ h => h.get 2 rfl) (r 14) (by rw [← hu2, ← hu1]; rfl) dX6_drifts_34 35 rfl ?_
  refine r_lmul hC ((t 2) * (r 14)) dX6_drifts_35  (rfl) 36 rfl ?_
  refine r_iload_n hC 5 dX6_drifts_36 rfl 37 rfl ?_
  refine r_ifeq hC 55 dX6_drifts_37 (by decide) 40 rfl (fun _ => ?_) (fun h => absurd h (by decide))
  refine r_aload_n hC 4 dX6_drifts_55 rfl 56 rfl ?_
  refine r_iload hC 1 dX6_drifts_56 rfl 58 rfl ?_
  refine r_iconst hC 0 dX6_drifts_58 ic_0 59 rfl ?_
  refine r_invSr hC [.int 1, .int 0] (.int 11) mSX6_at q2711 (metX6_at _ _ hG 1 0) (fun _ _ => xIn.nil) ⟨rfl, rfl⟩ 0 0 rfl rfl (Nat.le_of_ble_eq_true rfl) (Nat.le_of_ble_eq_true rfl) rfl (Nat.le_of_ble_eq_true rfl) dX6_drifts_59 62 rfl ?_
  refine r_lald hC 11 (xix_n 11 (Nat.le_of_ble_eq_true rfl) (Nat.le_of_ble_eq_true rfl)) (fun _ h => h.get 2 rfl) (r 11) (by rw [← hu2, ← hu1]; rfl) dX6_drifts_62 63 rfl ?_
  refine r_invSr hC [.long ((t 2) * (r 14)), .long (r 11)] (.long (m_floored ((t 2) * (r 14)) (r 11))) mSX6_floored q3042 (metX6_floored _ _ hG ((t 2) * (r 14)) (r 11) (hok.2.2.1.2.1)) (fun _ _ => xIn.nil) ⟨rfl, rfl⟩ 0 0 rfl rfl (Nat.le_of_ble_eq_true rfl) (Nat.le_of_ble_eq_true rfl) rfl (Nat.le_of_ble_eq_true rfl) dX6_drifts_63 66 rfl ?_
  refine r_lstore hC 6 [(6, .long (m_floored ((t 2) * (r 14)) (r 11))), (5, .int 0), (4, .int 1), (0, .ref (b 0)), (1, .ref a), (2, .int 0), (3, .int 0)] dX6_drifts_66 (Nat.le_of_ble_eq_true rfl) rfl 68 rfl ?_
  refine r_aload_n hC 4 dX6_drifts_68 rfl 69 rfl ?_
  refine r_iload hC 2 dX6_drifts_69 rfl 71 rfl ?_
  refine r_iconst hC 1 dX6_drifts_71 ic_1 72 rfl ?_
  refine r_iload hC 1 dX6_drifts_72 rfl 74 rfl ?_
  refine r_iadd hC 1 dX6_drifts_74  (by decide) 75 rfl ?_
  refine r_invSr hC [.int 1, .int 1] (.int 12) mSX6_at q2711 (metX6_at _ _ hG 1 1) (fun _ _ => xIn.nil) ⟨rfl, rfl⟩ 0 0 rfl rfl (Nat.le_of_ble_eq_true rfl) (Nat.le_of_ble_eq_true rfl) rfl (Nat.le_of_ble_eq_true rfl) dX6_drifts_75 78 rfl ?_
  refine r_dup2 hC dX6_drifts_78 rfl rfl 79 rfl ?_
  refine r_lald hC 12 (xix_n 12 (Nat.le_of_ble_eq_true rfl) (Nat.le_of_ble_eq_true rfl)) (fun _ h => h.get 2 rfl) (r 12) (by rw [← hu2, ← hu1]; rfl) dX6_drifts_79 80 rfl ?_
  refine r_iload_n hC 6 dX6_drifts_80 rfl 81 rfl ?_
  refine r_ifeq hC 90 dX6_drifts_81 (by decide) 84 rfl (fun _ => ?_) (fun h => absurd h (by decide))
  refine r_lload hC 0 dX6_drifts_90 rfl 92 rfl ?_
  refine r_ladd hC ((r 12) + (m_floored ((t 2) * (r 14)) (r 11))) dX6_drifts_92  (rfl) 93 rfl ?_
  refine r_last (J := xSt F V0 [(b 0, .inr (5, mF b i j)), (b 7, .inl (1, 5, .inr (.inl t))), (a, .inl (1, 111, .inr (.inl (va_up u2 12 ((r 12) + (m_floored ((t 2) * (r 14)) (r 11)))))))]) hC 12 (xix_n 12 (Nat.le_of_ble_eq_true rfl) (Nat.le_of_ble_eq_true rfl)) (fun _ h => h.get 2 rfl) dX6_drifts_93 (fun _ h => h.set 2 _ rfl) 94 rfl ?_
  generalize hu3 : va_up u2 12 ((r 12) + (m_floored ((t 2) * (r 14)) (r 11))) = u3
  refine r_iinc hC 1 5 1 [(5, .int 1), (6, .long (m_floored ((t 2) * (r 14)) (r 11))), (4, .int 1), (0, .ref (b 0)), (1, .ref a), (2, .int 0), (3, .int 0)] dX6_drifts_94 rfl (by decide) (Nat.le_of_ble_eq_true rfl) rfl 97 rfl ?_
  refine r_goto hC 12 dX6_drifts_97 (by decide) ?_
  refine r_iload hC 0 dX6_drifts_12 rfl 14 rfl ?_
  refine r_iconst hC 2 dX6_drifts_14 ic_2 15 rfl ?_
  refine r_icge hC 100 dX6_drifts_15 (by decide) 18 rfl (fun h => absurd h (by decide)) (fun _ => ?_)
  refine r_aload_n hC 3 dX6_drifts_18 rfl 19 rfl ?_
  refine r_get (v := .ref (b 7)) hC kX6 7 rfl q2760 (fun _ h => h.get 0 rfl) rfl dX6_drifts_19 22 rfl ?_
  refine r_iconst hC 2 dX6_drifts_22 ic_2 23 rfl ?_
  refine r_lald hC 2 (xix_n 2 (Nat.le_of_ble_eq_true rfl) (Nat.le_of_ble_eq_true rfl)) (fun _ h => h.get 1 rfl) (t 2) (rfl) dX6_drifts_23 24 rfl ?_
  refine r_aload_n hC 4 dX6_drifts_24 rfl 25 rfl ?_
  refine r_iload hC 2 dX6_drifts_25 rfl 27 rfl ?_
  refine r_iconst hC 3 dX6_drifts_27 ic_3 28 rfl ?_
  refine r_iload hC 0 dX6_drifts_28 rfl 30 rfl ?_
  refine r_iadd hC 4 dX6_drifts_30  (by decide) 31 rfl ?_
  refine r_invSr hC [.int 1, .int 4] (.int 15) mSX6_at q2711 (metX6_at _ _ hG 1 4) (fun _ _ => xIn.nil) ⟨rfl, rfl⟩ 0 0 rfl rfl (Nat.le_of_ble_eq_true rfl) (Nat.le_of_ble_eq_true rfl) rfl (Nat.le_of_ble_eq_true rfl) dX6_drifts_31 34 rfl ?_
  refine r_lald hC 15 (xix_n 15 (Nat.le_of_ble_eq_true rfl) (Nat.le_of_ble_eq_true rfl)) (fun _ h => h.get 2 rfl) (r 15) (by rw [← hu3, ← hu2, ← hu1]; rfl) dX6_drifts_34 35 rfl ?_
  refine r_lmul hC ((t 2) * (r 15)) dX6_drifts_35  (rfl) 36 rfl ?_
  refine r_iload_n hC 5 dX6_drifts_36 rfl 37 rfl ?_
  refine r_ifeq hC 55 dX6_drifts_37 (by decide) 40 rfl (fun _ => ?_) (fun h => absurd h (by decide))
  refine r_aload_n hC 4 dX6_drifts_55 rfl 56 rfl ?_
  refine r_iload hC 2 dX6_drifts_56 rfl 58 rfl ?_
  refine r_iconst hC 0 dX6_drifts_58 ic_0 59 rfl ?_
  refine r_invSr hC [.int 1, .int 0] (.int 11) mSX6_at q2711 (metX6_at _ _ hG 1 0) (fun _ _ => xIn.nil) ⟨rfl, rfl⟩ 0 0 rfl rfl (Nat.le_of_ble_eq_true rfl) (Nat.le_of_ble_eq_true rfl) rfl (Nat.le_of_ble_eq_true rfl) dX6_drifts_59 62 rfl ?_
  refine r_lald hC 11 (xix_n 11 (Nat.le_of_ble_eq_true rfl) (Nat.le_of_ble_eq_true rfl)) (fun _ h => h.get 2 rfl) (r 11) (by rw [← hu3, ← hu2, ← hu1]; rfl) dX6_drifts_62 63 rfl ?_
  refine r_invSr hC [.long ((t 2) * (r 15)), .long (r 11)] (.long (m_floored ((t 2) * (r 15)) (r 11))) mSX6_floored q3042 (metX6_floored _ _ hG ((t 2) * (r 15)) (r 11) (hok.2.2.1.2.1)) (fun _ _ => xIn.nil) ⟨rfl, rfl⟩ 0 0 rfl rfl (Nat.le_of_ble_eq_true rfl) (Nat.le_of_ble_eq_true rfl) rfl (Nat.le_of_ble_eq_true rfl) dX6_drifts_63 66 rfl ?_
  refine r_lstore hC 6 [(6, .long (m_floored ((t 2) * (r 15)) (r 11))), (5, .int 1), (4, .int 1), (0, .ref (b 0)), (1, .ref a), (2, .int 0), (3, .int 0)] dX6_drifts_66 (Nat.le_of_ble_eq_true rfl) rfl 68 rfl ?_
  refine r_aload_n hC 4 dX6_drifts_68 rfl 69 rfl ?_
  refine r_iload hC 2 dX6_drifts_69 rfl 71 rfl ?_
  refine r_iconst hC 1 dX6_drifts_71 ic_1 72 rfl ?_
  refine r_iload hC 1 dX6_drifts_72 rfl 74 rfl ?_
  refine r_iadd hC 2 dX6_drifts_74  (by decide) 75 rfl ?_
  refine r_invSr hC [.int 1, .int 2] (.int 13) mSX6_at q2711 (metX6_at _ _ hG 1 2) (fun _ _ => xIn.nil) ⟨rfl, rfl⟩ 0 0 rfl rfl (Nat.le_of_ble_eq_true rfl) (Nat.le_of_ble_eq_true rfl) rfl (Nat.le_of_ble_eq_true rfl) dX6_drifts_75 78 rfl ?_
  refine r_dup2 hC dX6_drifts_78 rfl rfl 79 rfl ?_
  refine r_lald hC 13 (xix_n 13 (Nat.le_of_ble_eq_true rfl) (Nat.le_of_ble_eq_true rfl)) (fun _ h => h.get 2 rfl) (r 13) (by rw [← hu3, ← hu2, ← hu1]; rfl) dX6_drifts_79 80 rfl ?_
  refine r_iload_n hC 6 dX6_drifts_80 rfl 81 rfl ?_
  refine r_ifeq hC 90 dX6_drifts_81 (by decide) 84 rfl (fun _ => ?_) (fun h => absurd h (by decide))
  refine r_lload hC 0 dX6_drifts_90 rfl 92 rfl ?_
  refine r_ladd hC ((r 13) + (m_floored ((t 2) * (r 15)) (r 11))) dX6_drifts_92  (rfl) 93 rfl ?_
  refine r_last (J := xSt F V0 [(b 0, .inr (5, mF b i j)), (b 7, .inl (1, 5, .inr (.inl t))), (a, .inl (1, 111, .inr (.inl (va_up u3 13 ((r 13) + (m_floored ((t 2) * (r 15)) (r 11)))))))]) hC 13 (xix_n 13 (Nat.le_of_ble_eq_true rfl) (Nat.le_of_ble_eq_true rfl)) (fun _ h => h.get 2 rfl) dX6_drifts_93 (fun _ h => h.set 2 _ rfl) 94 rfl ?_
  generalize hu4 : va_up u3 13 ((r 13) + (m_floored ((t 2) * (r 15)) (r 11))) = u4
  refine r_iinc hC 2 5 1 [(5, .int 2), (6, .long (m_floored ((t 2) * (r 15)) (r 11))), (4, .int 1), (0, .ref (b 0)), (1, .ref a), (2, .int 0), (3, .int 0)] dX6_drifts_94 rfl (by decide) (Nat.le_of_ble_eq_true rfl) rfl 97 rfl ?_
  refine r_goto hC 12 dX6_drifts_97 (by decide) ?_
  refine r_iload hC 0 dX6_drifts_12 rfl 14 rfl ?_
  refine r_iconst hC 2 dX6_drifts_14 ic_2 15 rfl ?_
  refine r_icge hC 100 dX6_drifts_15 (by decide) 18 rfl (fun _ => ?_) (fun h => absurd h (by decide))
  refine r_iinc hC 2 4 2 [(4, .int 2), (5, .int 2), (6, .long (m_floored ((t 2) * (r 15)) (r 11))), (0, .ref (b 0)), (1, .ref a), (2, .int 0), (3, .int 0)] dX6_drifts_100 rfl (by decide) (Nat.le_of_ble_eq_true rfl) rfl 103 rfl ?_
  refine r_goto hC 3 dX6_drifts_103 (by decide) ?_
  refine r_iload hC 0 dX6_drifts_3 rfl 5 rfl ?_
  refine r_iconst hC 3 dX6_drifts_5 ic_3 6 rfl ?_
  refine r_icge hC 106 dX6_drifts_6 (by decide) 9 rfl (fun h => absurd h (by decide)) (fun _ => ?_)
  refine r_iconst hC 0 dX6_drifts_9 ic_0 10 rfl ?_
  refine r_istore hC 5 [(5, .int 0), (4, .int 2), (6, .long (m_floored ((t 2) * (r 15)) (r 11))), (0, .ref (b 0)), (1, .ref a), (2, .int 0), (3, .int 0)] dX6_drifts_10 (Nat.le_of_ble_eq_true rfl) rfl 12 rfl ?_
  refine r_iload hC 0 dX6_drifts_12 rfl 14 rfl ?_
  refine r_iconst hC 2 dX6_drifts_14 ic_2 15 rfl ?_
  refine r_icge hC 100 dX6_drifts_15 (by decide) 18 rfl (fun h => absurd h (by decide)) (fun _ => ?_)
  refine r_aload_n hC 3 dX6_drifts_18 rfl 19 rfl ?_
  refine r_get (v := .ref (b 7)) hC kX6 7 rfl q2760 (fun _ h => h.get 0 rfl) rfl dX6_drifts_19 22 rfl ?_
  refine r_iconst hC 2 dX6_drifts_22 ic_2 23 rfl ?_
  refine r_lald hC 2 (xix_n 2 (Nat.le_of_ble_eq_true rfl) (Nat.le_of_ble_eq_true rfl)) (fun _ h => h.get 1 rfl) (t 2) (rfl) dX6_drifts_23 24 rfl ?_
  refine r_aload_n hC 4 dX6_drifts_24 rfl 25 rfl ?_
  refine r_iload hC 1 dX6_drifts_25 rfl 27 rfl ?_
  refine r_iconst hC 3 dX6_drifts_27 ic_3 28 rfl ?_
  refine r_iload hC 0 dX6_drifts_28 rfl 30 rfl ?_
  refine r_iadd hC 3 dX6_drifts_30  (by decide) 31 rfl ?_
  refine r_invSr hC [.int 2, .int 3] (.int 19) mSX6_at q2711 (metX6_at _ _ hG 2 3) (fun _ _ => xIn.nil) ⟨rfl, rfl⟩ 0 0 rfl rfl (Nat.le_of_ble_eq_true rfl) (Nat.le_of_ble_eq_true rfl) rfl (Nat.le_of_ble_eq_true rfl) dX6_drifts_31 34 rfl ?_
  refine r_lald hC 19 (xix_n 19 (Nat.le_of_ble_eq_true rfl) (Nat.le_of_ble_eq_true rfl)) (fun _ h => h.get 2 rfl) (r 19) (by rw [← hu4, ← hu3, ← hu2, ← hu1]; rfl) dX6_drifts_34 35 rfl ?_
  refine r_lmul hC ((t 2) * (r 19)) dX6_drifts_35  (rfl) 36 rfl ?_
  refine r_iload_n hC 5 dX6_drifts_36 rfl 37 rfl ?_
  refine r_ifeq hC 55 dX6_drifts_37 (by decide) 40 rfl (fun _ => ?_) (fun h => absurd h (by decide))
  refine r_aload_n hC 4 dX6_drifts_55 rfl 56 rfl ?_
  refine r_iload hC 1 dX6_drifts_56 rfl 58 rfl ?_
  refine r_iconst hC 0 dX6_drifts_58 ic_0 59 rfl ?_
  refine r_invSr hC [.int 2, .int 0] (.int 16) mSX6_at q2711 (metX6_at _ _ hG 2 0) (fun _ _ => xIn.nil) ⟨rfl, rfl⟩ 0 0 rfl rfl (Nat.le_of_ble_eq_true rfl) (Nat.le_of_ble_eq_true rfl) rfl (Nat.le_of_ble_eq_true rfl) dX6_drifts_59 62 rfl ?_
  refine r_lald hC 16 (xix_n 16 (Nat.le_of_ble_eq_true rfl) (Nat.le_of_ble_eq_true rfl)) (fun _ h => h.get 2 rfl) (r 16) (by rw [← hu4, ← hu3, ← hu2, ← hu1]; rfl) dX6_drifts_62 63 rfl ?_
  refine r_invSr hC [.long ((t 2) * (r 19)), .long (r 16)] (.long (m_floored ((t 2) * (r 19)) (r 16))) mSX6_floored q3042 (metX6_floored _ _ hG ((t 2) * (r 19)) (r 16) (hok.2.2.1.2.2)) (fun _ _ => xIn.nil) ⟨rfl, rfl⟩ 0 0 rfl rfl (Nat.le_of_ble_eq_true rfl) (Nat.le_of_ble_eq_true rfl) rfl (Nat.le_of_ble_eq_true rfl) dX6_drifts_63 66 rfl ?_
  refine r_lstore hC 6 [(6, .long (m_floored ((t 2) * (r 19)) (r 16))), (5, .int 0), (4, .int 2), (0, .ref (b 0)), (1, .ref a), (2, .int 0), (3, .int 0)] dX6_drifts_66 (Nat.le_of_ble_eq_true rfl) rfl 68 rfl ?_
  refine r_aload_n hC 4 dX6_drifts_68 rfl 69 rfl ?_
  refine r_iload hC 2 dX6_drifts_69 rfl 71 rfl ?_
  refine r_iconst hC 1 dX6_drifts_71 ic_1 72 rfl ?_
  refine r_iload hC 1 dX6_drifts_72 rfl 74 rfl ?_
  refine r_iadd hC 1 dX6_drifts_74  (by decide) 75 rfl ?_
  refine r_invSr hC [.int 2, .int 1] (.int 17) mSX6_at q2711 (metX6_at _ _ hG 2 1) (fun _ _ => xIn.nil) ⟨rfl, rfl⟩ 0 0 rfl rfl (Nat.le_of_ble_eq_true rfl) (Nat.le_of_ble_eq_true rfl) rfl (Nat.le_of_ble_eq_true rfl) dX6_drifts_75 78 rfl ?_
  refine r_dup2 hC dX6_drifts_78 rfl rfl 79 rfl ?_
  refine r_lald hC 17 (xix_n 17 (Nat.le_of_ble_eq_true rfl) (Nat.le_of_ble_eq_true rfl)) (fun _ h => h.get 2 rfl) (r 17) (by rw [← hu4, ← hu3, ← hu2, ← hu1]; rfl) dX6_drifts_79 80 rfl ?_
  refine r_iload_n hC 6 dX6_drifts_80 rfl 81 rfl ?_
  refine r_ifeq hC 90 dX6_drifts_81 (by decide) 84 rfl (fun _ => ?_) (fun h => absurd h (by decide))
  refine r_lload hC 0 dX6_drifts_90 rfl 92 rfl ?_
  refine r_ladd hC ((r 17) + (m_floored ((t 2) * (r 19)) (r 16))) dX6_drifts_92  (rfl) 93 rfl ?_
  refine r_last (J := xSt F V0 [(b 0, .inr (5, mF b i j)), (b 7, .inl (1, 5, .inr (.inl t))), (a, .inl (1, 111, .inr (.inl (va_up u4 17 ((r 17) + (m_floored ((t 2) * (r 19)) (r 16)))))))]) hC 17 (xix_n 17 (Nat.le_of_ble_eq_true rfl) (Nat.le_of_ble_eq_true rfl)) (fun _ h => h.get 2 rfl) dX6_drifts_93 (fun _ h => h.set 2 _ rfl) 94 rfl ?_
  generalize hu5 : va_up u4 17 ((r 17) + (m_floored ((t 2) * (r 19)) (r 16))) = u5
  refine r_iinc hC 1 5 1 [(5, .int 1), (6, .long (m_floored ((t 2) * (r 19)) (r 16))), (4, .int 2), (0, .ref (b 0)), (1, .ref a), (2, .int 0), (3, .int 0)] dX6_drifts_94 rfl (by decide) (Nat.le_of_ble_eq_true rfl) rfl 97 rfl ?_
  refine r_goto hC 12 dX6_drifts_97 (by decide) ?_
  refine r_iload hC 0 dX6_drifts_12 rfl 14 rfl ?_
  refine r_iconst hC 2 dX6_drifts_14 ic_2 15 rfl ?_
  refine r_icge hC 100 dX6_drifts_15 (by decide) 18 rfl (fun h => absurd h (by decide)) (fun _ => ?_)
  refine r_aload_n hC 3 dX6_drifts_18 rfl 19 rfl ?_
  refine r_get (v := .ref (b 7)) hC kX6 7 rfl q2760 (fun _ h => h.get 0 rfl) rfl dX6_drifts_19 22 rfl ?_
  refine r_iconst hC 2 dX6_drifts_22 ic_2 23 rfl ?_
  refine r_lald hC 2 (xix_n 2 (Nat.le_of_ble_eq_true rfl) (Nat.le_of_ble_eq_true rfl)) (fun _ h => h.get 1 rfl) (t 2) (rfl) dX6_drifts_23 24 rfl ?_
  refine r_aload_n hC 4 dX6_drifts_24 rfl 25 rfl ?_
  refine r_iload hC 2 dX6_drifts_25 rfl 27 rfl ?_
  refine r_iconst hC 3 dX6_drifts_27 ic_3 28 rfl ?_
  refine r_iload hC 0 dX6_drifts_28 rfl 30 rfl ?_
  refine r_iadd hC 4 dX6_drifts_30  (by decide) 31 rfl ?_
  refine r_invSr hC [.int 2, .int 4] (.int 20) mSX6_at q2711 (metX6_at _ _ hG 2 4) (fun _ _ => xIn.nil) ⟨rfl, rfl⟩ 0 0 rfl rfl (Nat.le_of_ble_eq_true rfl) (Nat.le_of_ble_eq_true rfl) rfl (Nat.le_of_ble_eq_true rfl) dX6_drifts_31 34 rfl ?_
  refine r_lald hC 20 (xix_n 20 (Nat.le_of_ble_eq_true rfl) (Nat.le_of_ble_eq_true rfl)) (fun _ h => h.get 2 rfl) (r 20) (by rw [← hu5, ← hu4, ← hu3, ← hu2, ← hu1]; rfl) dX6_drifts_34 35 rfl ?_
  refine r_lmul hC ((t 2) * (r 20)) dX6_drifts_35  (rfl) 36 rfl ?_
  refine r_iload_n hC 5 dX6_drifts_36 rfl 37 rfl ?_
  refine r_ifeq hC 55 dX6_drifts_37 (by decide) 40 rfl (fun _ => ?_) (fun h => absurd h (by decide))
  refine r_aload_n hC 4 dX6_drifts_55 rfl 56 rfl ?_
  refine r_iload hC 2 dX6_drifts_56 rfl 58 rfl ?_
  refine r_iconst hC 0 dX6_drifts_58 ic_0 59 rfl ?_
  refine r_invSr hC [.int 2, .int 0] (.int 16) mSX6_at q2711 (metX6_at _ _ hG 2 0) (fun _ _ => xIn.nil) ⟨rfl, rfl⟩ 0 0 rfl rfl (Nat.le_of_ble_eq_true rfl) (Nat.le_of_ble_eq_true rfl) rfl (Nat.le_of_ble_eq_true rfl) dX6_drifts_59 62 rfl ?_
  refine r_lald hC 16 (xix_n 16 (Nat.le_of_ble_eq_true rfl) (Nat.le_of_ble_eq_true rfl)) (fun _ h => h.get 2 rfl) (r 16) (by rw [← hu5, ← hu4, ← hu3, ← hu2, ← hu1]; rfl) dX6_drifts_62 63 rfl ?_
  refine r_invSr hC [.long ((t 2) * (r 20)), .long (r 16)] (.long (m_floored ((t 2) * (r 20)) (r 16))) mSX6_floored q3042 (metX6_floored _ _ hG ((t 2) * (r 20)) (r 16) (hok.2.2.1.2.2)) (fun _ _ => xIn.nil) ⟨rfl, rfl⟩ 0 0 rfl rfl (Nat.le_of_ble_eq_true rfl) (Nat.le_of_ble_eq_true rfl) rfl (Nat.le_of_ble_eq_true rfl) dX6_drifts_63 66 rfl ?_
  refine r_lstore hC 6 [(6, .long (m_floored ((t 2) * (r 20)) (r 16))), (5, .int 1), (4, .int 2), (0, .ref (b 0)), (1, .ref a), (2, .int 0), (3, .int 0)] dX6_drifts_66 (Nat.le_of_ble_eq_true rfl) rfl 68 rfl ?_
  refine r_aload_n hC 4 dX6_drifts_68 rfl 69 rfl ?_
  refine r_iload hC 2 dX6_drifts_69 rfl 71 rfl ?_
  refine r_iconst hC 1 dX6_drifts_71 ic_1 72 rfl ?_
  refine r_iload hC 1 dX6_drifts_72 rfl 74 rfl ?_
  refine r_iadd hC 2 dX6_drifts_74  (by decide) 75 rfl ?_
  refine r_invSr hC [.int 2, .int 2] (.int 18) mSX6_at q2711 (metX6_at _ _ hG 2 2) (fun _ _ => xIn.nil) ⟨rfl, rfl⟩ 0 0 rfl rfl (Nat.le_of_ble_eq_true rfl) (Nat.le_of_ble_eq_true rfl) rfl (Nat.le_of_ble_eq_true rfl) dX6_drifts_75 78 rfl ?_
  refine r_dup2 hC dX6_drifts_78 rfl rfl 79 rfl ?_
  refine r_lald hC 18 (xix_n 18 (Nat.le_of_ble_eq_true rfl) (Nat.le_of_ble_eq_true rfl)) (fun _ h => h.get 2 rfl) (r 18) (by rw [← hu5, ← hu4, ← hu3, ← hu2, ← hu1]; rfl) dX6_drifts_79 80 rfl ?_
  refine r_iload_n hC 6 dX6_drifts_80 rfl 81 rfl ?_
  refine r_ifeq hC 90 dX6_drifts_81 (by decide) 84 rfl (fun _ => ?_) (fun h => absurd h (by decide))
  refine r_lload hC 0 dX6_drifts_90 rfl 92 rfl ?_
  refine r_ladd hC ((r 18) + (m_floored ((t 2) * (r 20)) (r 16))) dX6_drifts_92  (rfl) 93 rfl ?_
  refine r_last (J := xSt F V0 [(b 0, .inr (5, mF b i j)), (b 7, .inl (1, 5, .inr (.inl t))), (a, .inl (1, 111, .inr (.inl (va_up u5 18 ((r 18) + (m_floored ((t 2) * (r 20)) (r 16)))))))]) hC 18 (xix_n 18 (Nat.le_of_ble_eq_true rfl) (Nat.le_of_ble_eq_true rfl)) (fun _ h => h.get 2 rfl) dX6_drifts_93 (fun _ h => h.set 2 _ rfl) 94 rfl ?_
  generalize hu6 : va_up u5 18 ((r 18) + (m_floored ((t 2) * (r 20)) (r 16))) = u6
  refine r_iinc hC 2 5 1 [(5, .int 2), (6, .long (m_floored ((t 2) * (r 20)) (r 16))), (4, .int 2), (0, .ref (b 0)), (1, .ref a), (2, .int 0), (3, .int 0)] dX6_drifts_94 rfl (by decide) (Nat.le_of_ble_eq_true rfl) rfl 97 rfl ?_
  refine r_goto hC 12 dX6_drifts_97 (by decide) ?_
  refine r_iload hC 0 dX6_drifts_12 rfl 14 rfl ?_
  refine r_iconst hC 2 dX6_drifts_14 ic_2 15 rfl ?_
  refine r_icge hC 100 dX6_drifts_15 (by decide) 18 rfl (fun _ => ?_) (fun h => absurd h (by decide))
  refine r_iinc hC 3 4 2 [(4, .int 3), (5, .int 2), (6, .long (m_floored ((t 2) * (r 20)) (r 16))), (0, .ref (b 0)), (1, .ref a), (2, .int 0), (3, .int 0)] dX6_drifts_100 rfl (by decide) (Nat.le_of_ble_eq_true rfl) rfl 103 rfl ?_
  refine r_goto hC 3 dX6_drifts_103 (by decide) ?_
  refine r_iload hC 0 dX6_drifts_3 rfl 5 rfl ?_
  refine r_iconst hC 3 dX6_drifts_5 ic_3 6 rfl ?_
  refine r_icge hC 106 dX6_drifts_6 (by decide) 9 rfl (fun _ => ?_) (fun h => absurd h (by decide))
  subst hu6
  subst hu5
  subst hu4
  subst hu3
  subst hu2
  subst hu1
  exact r_vret hC (Nat.le_of_ble_eq_true rfl) (Nat.le_of_ble_eq_true rfl) (fun V9 h => hQ _ _ ⟨[(b 0, .inr (5, mF b i j)), (b 7, .inl (1, 5, .inr (.inl t))), (a, .inl (1, 111, .inr (.inl (va_up (va_up (va_up (va_up (va_up (va_up r 7 ((r 7) + (m_floored ((t 2) * (r 9)) (r 6)))) 8 ((r 8) + (m_floored ((t 2) * (r 10)) (r 6)))) 12 ((r 12) + (m_floored ((t 2) * (r 14)) (r 11)))) 13 ((r 13) + (m_floored ((t 2) * (r 15)) (r 11)))) 17 ((r 17) + (m_floored ((t 2) * (r 19)) (r 16)))) 18 ((r 18) + (m_floored ((t 2) * (r 20)) (r 16)))))))], ⟨rfl, rfl⟩, by rw [← hV0, ← hF]; exact h⟩) dX6_drifts_106
set_option maxHeartbeats 4000000 in
set_option maxRecDepth 100000 in
theorem metX6_drifts01 (l : Launch) (G : xG) (hG : xGood G) (b : Nat → Nat) (i : Nat → Int32) (j : Nat → Int64) (t : Nat → Int64) (a : Nat) (r : Nat → Int64) (hok : rowOK t r) : xWm l G yX6_drifts (Cond.code yX6_drifts cX6_drifts 8 none) { frames := 1, locals := 25, cells := 0, slots := 0 } [.ref (b 0), .ref a, .int 0, .int 1] [(b 0, .inr (5, mF b i j)), (b 7, .inl (1, 5, .inr (.inl t))), (a, .inl (1, 111, .inr (.inl r)))] (fun v w' => v = none ∧ w' = [(b 0, .inr (5, mF b i j)), (b 7, .inl (1, 5, .inr (.inl t))), (a, .inl (1, 111, .inr (.inl (driftQ t r false true))))]) (fun _ _ => False) := by
  intro V hV
  refine xMet_of RX6 hG rfl (by decide) (Nat.le_of_ble_eq_true rfl) fun C hC hQ hX hl hg _ => ?_
  subst hl hg
  obtain ⟨V0, hV0⟩ : ∃ V0, V0 = V := ⟨_, rfl⟩
  obtain ⟨F, hF⟩ : ∃ F, F = xF [(b 0, .inr (5, mF b i j)), (b 7, .inl (1, 5, .inr (.inl t))), (a, .inl (1, 111, .inr (.inl r)))] := ⟨_, rfl⟩
  refine rn.mono (J := xSt F V0 [(b 0, .inr (5, mF b i j)), (b 7, .inl (1, 5, .inr (.inl t))), (a, .inl (1, 111, .inr (.inl r)))]) (fun V9 h => by rw [h, hV0, hF]; exact hV.st) ?_
  show rn C (xSt F V0 [(b 0, .inr (5, mF b i j)), (b 7, .inl (1, 5, .inr (.inl t))), (a, .inl (1, 111, .inr (.inl r)))]) 0 0 0 [(0, .ref (b 0)), (1, .ref a), (2, .int 0), (3, .int 1)] []
  refine r_iconst hC 0 dX6_drifts_0 ic_0 1 rfl ?_
  refine r_istore hC 4 [(4, .int 0), (0, .ref (b 0)), (1, .ref a), (2, .int 0), (3, .int 1)] dX6_drifts_1 (Nat.le_of_ble_eq_true rfl) rfl 3 rfl ?_
  refine r_iload hC 0 dX6_drifts_3 rfl 5 rfl ?_
  refine r_iconst hC 3 dX6_drifts_5 ic_3 6 rfl ?_
  refine r_icge hC 106 dX6_drifts_6 (by decide) 9 rfl (fun h => absurd h (by decide)) (fun _ => ?_)
  refine r_iconst hC 0 dX6_drifts_9 ic_0 10 rfl ?_
  refine r_istore hC 5 [(5, .int 0), (4, .int 0), (0, .ref (b 0)), (1, .ref a), (2, .int 0), (3, .int 1)] dX6_drifts_10 (Nat.le_of_ble_eq_true rfl) rfl 12 rfl ?_
  refine r_iload hC 0 dX6_drifts_12 rfl 14 rfl ?_
  refine r_iconst hC 2 dX6_drifts_14 ic_2 15 rfl ?_
  refine r_icge hC 100 dX6_drifts_15 (by decide) 18 rfl (fun h => absurd h (by decide)) (fun _ => ?_)
  refine r_aload_n hC 2 dX6_drifts_18 rfl 19 rfl ?_
  refine r_get (v := .ref (b 7)) hC kX6 7 rfl q2760 (fun _ h => h.get 0 rfl) rfl dX6_drifts_19 22 rfl ?_
  refine r_iconst hC 2 dX6_drifts_22 ic_2 23 rfl ?_
  refine r_lald hC 2 (xix_n 2 (Nat.le_of_ble_eq_true rfl) (Nat.le_of_ble_eq_true rfl)) (fun _ h => h.get 1 rfl) (t 2) (rfl) dX6_drifts_23 24 rfl ?_
  refine r_aload_n hC 3 dX6_drifts_24 rfl 25 rfl ?_
  refine r_iload hC 1 dX6_drifts_25 rfl 27 rfl ?_
  refine r_iconst hC 3 dX6_drifts_27 ic_3 28 rfl ?_
  refine r_iload hC 0 dX6_drifts_28 rfl 30 rfl ?_
  refine r_iadd hC 3 dX6_drifts_30  (by decide) 31 rfl ?_
  refine r_invSr hC [.int 0, .int 3] (.int 9) mSX6_at q2711 (metX6_at _ _ hG 0 3) (fun _ _ => xIn.nil) ⟨rfl, rfl⟩ 0 0 rfl rfl (Nat.le_of_ble_eq_true rfl) (Nat.le_of_ble_eq_true rfl) rfl (Nat.le_of_ble_eq_true rfl) dX6_drifts_31 34 rfl ?_
  refine r_lald hC 9 (xix_n 9 (Nat.le_of_ble_eq_true rfl) (Nat.le_of_ble_eq_true rfl)) (fun _ h => h.get 2 rfl) (r 9) (rfl) dX6_drifts_34 35 rfl ?_
  refine r_lmul hC ((t 2) * (r 9)) dX6_drifts_35  (rfl) 36 rfl ?_
  refine r_iload_n hC 4 dX6_drifts_36 rfl 37 rfl ?_
  refine r_ifeq hC 55 dX6_drifts_37 (by decide) 40 rfl (fun _ => ?_) (fun h => absurd h (by decide))
  refine r_aload_n hC 3 dX6_drifts_55 rfl 56 rfl ?_
  refine r_iload hC 1 dX6_drifts_56 rfl 58 rfl ?_
  refine r_iconst hC 0 dX6_drifts_58 ic_0 59 rfl ?_
  refine r_invSr hC [.int 0, .int 0] (.int 6) mSX6_at q2711 (metX6_at _ _ hG 0 0) (fun _ _ => xIn.nil) ⟨rfl, rfl⟩ 0 0 rfl rfl (Nat.le_of_ble_eq_true rfl) (Nat.le_of_ble_eq_true rfl) rfl (Nat.le_of_ble_eq_true rfl) dX6_drifts_59 62 rfl ?_
  refine r_lald hC 6 (xix_n 6 (Nat.le_of_ble_eq_true rfl) (Nat.le_of_ble_eq_true rfl)) (fun _ h => h.get 2 rfl) (r 6) (rfl) dX6_drifts_62 63 rfl ?_
  refine r_invSr hC [.long ((t 2) * (r 9)), .long (r 6)] (.long (m_floored ((t 2) * (r 9)) (r 6))) mSX6_floored q3042 (metX6_floored _ _ hG ((t 2) * (r 9)) (r 6) (hok.2.2.1.1)) (fun _ _ => xIn.nil) ⟨rfl, rfl⟩ 0 0 rfl rfl (Nat.le_of_ble_eq_true rfl) (Nat.le_of_ble_eq_true rfl) rfl (Nat.le_of_ble_eq_true rfl) dX6_drifts_63 66 rfl ?_
  refine r_lstore hC 6 [(6, .long (m_floored ((t 2) * (r 9)) (r 6))), (5, .int 0), (4, .int 0), (0, .ref (b 0)), (1, .ref a), (2, .int 0), (3, .int 1)] dX6_drifts_66 (Nat.le_of_ble_eq_true rfl) rfl 68 rfl ?_
  refine r_aload_n hC 4 dX6_drifts_68 rfl 69 rfl ?_
  refine r_iload hC 2 dX6_drifts_69 rfl 71 rfl ?_
  refine r_iconst hC 1 dX6_drifts_71 ic_1 72 rfl ?_
  refine r_iload hC 1 dX6_drifts_72 rfl 74 rfl ?_
  refine r_iadd hC 1 dX6_drifts_74  (by decide) 75 rfl ?_
  refine r_invSr hC [.int 0, .int 1] (.int 7) mSX6_at q2711 (metX6_at _ _ hG 0 1) (fun _ _ => xIn.nil) ⟨rfl, rfl⟩ 0 0 rfl rfl (Nat.le_of_ble_eq_true rfl) (Nat.le_of_ble_eq_true rfl) rfl (Nat.le_of_ble_eq_true rfl) dX6_drifts_75 78 rfl ?_
  refine r_dup2 hC dX6_drifts_78 rfl rfl 79 rfl ?_
  refine r_lald hC 7 (xix_n 7 (Nat.le_of_ble_eq_true rfl) (Nat.le_of_ble_eq_true rfl)) (fun _ h => h.get 2 rfl) (r 7) (rfl) dX6_drifts_79 80 rfl ?_
  refine r_iload_n hC 6 dX6_drifts_80 rfl 81 rfl ?_
  refine r_ifeq hC 90 dX6_drifts_81 (by decide) 84 rfl (fun h => absurd h (by decide)) (fun _ => ?_)
  refine r_lload hC 0 dX6_drifts_84 rfl 86 rfl ?_
  refine r_lneg hC (-(m_floored ((t 2) * (r 9)) (r 6))) dX6_drifts_86 (rfl) 87 rfl ?_
  refine r_goto hC 92 dX6_drifts_87 (by decide) ?_
  refine r_ladd hC ((r 7) + (-(m_floored ((t 2) * (r 9)) (r 6)))) dX6_drifts_92  (rfl) 93 rfl ?_
  refine r_last (J := xSt F V0 [(b 0, .inr (5, mF b i j)), (b 7, .inl (1, 5, .inr (.inl t))), (a, .inl (1, 111, .inr (.inl (va_up r 7 ((r 7) + (-(m_floored ((t 2) * (r 9)) (r 6))))))))]) hC 7 (xix_n 7 (Nat.le_of_ble_eq_true rfl) (Nat.le_of_ble_eq_true rfl)) (fun _ h => h.get 2 rfl) dX6_drifts_93 (fun _ h => h.set 2 _ rfl) 94 rfl ?_
  generalize hu1 : va_up r 7 ((r 7) + (-(m_floored ((t 2) * (r 9)) (r 6)))) = u1
  refine r_iinc hC 1 5 1 [(5, .int 1), (6, .long (m_floored ((t 2) * (r 9)) (r 6))), (4, .int 0), (0, .ref (b 0)), (1, .ref a), (2, .int 0), (3, .int 1)] dX6_drifts_94 rfl (by decide) (Nat.le_of_ble_eq_true rfl) rfl 97 rfl ?_
  refine r_goto hC 12 dX6_drifts_97 (by decide) ?_
  refine r_iload hC 0 dX6_drifts_12 rfl 14 rfl ?_
  refine r_iconst hC 2 dX6_drifts_14 ic_2 15 rfl ?_
  refine r_icge hC 100 dX6_drifts_15 (by decide) 18 rfl (fun h => absurd h (by decide)) (fun _ => ?_)
  refine r_aload_n hC 3 dX6_drifts_18 rfl 19 rfl ?_
  refine r_get (v := .ref (b 7)) hC kX6 7 rfl q2760 (fun _ h => h.get 0 rfl) rfl dX6_drifts_19 22 rfl ?_
  refine r_iconst hC 2 dX6_drifts_22 ic_2 23 rfl ?_
  refine r_lald hC 2 (xix_n 2 (Nat.le_of_ble_eq_true rfl) (Nat.le_of_ble_eq_true rfl)) (fun _ h => h.get 1 rfl) (t 2) (rfl) dX6_drifts_23 24 rfl ?_
  refine r_aload_n hC 4 dX6_drifts_24 rfl 25 rfl ?_
  refine r_iload hC 2 dX6_drifts_25 rfl 27 rfl ?_
  refine r_iconst hC 3 dX6_drifts_27 ic_3 28 rfl ?_
  refine r_iload hC 0 dX6_drifts_28 rfl 30 rfl ?_
  refine r_iadd hC 4 dX6_drifts_30  (by decide) 31 rfl ?_
  refine r_invSr hC [.int 0, .int 4] (.int 10) mSX6_at q2711 (metX6_at _ _ hG 0 4) (fun _ _ => xIn.nil) ⟨rfl, rfl⟩ 0 0 rfl rfl (Nat.le_of_ble_eq_true rfl) (Nat.le_of_ble_eq_true rfl) rfl (Nat.le_of_ble_eq_true rfl) dX6_drifts_31 34 rfl ?_
  refine r_lald hC 10 (xix_n 10 (Nat.le_of_ble_eq_true rfl) (Nat.le_of_ble_eq_true rfl)) (fun _ h => h.get 2 rfl) (r 10) (by rw [← hu1]; rfl) dX6_drifts_34 35 rfl ?_
  refine r_lmul hC ((t 2) * (r 10)) dX6_drifts_35  (rfl) 36 rfl ?_
  refine r_iload_n hC 5 dX6_drifts_36 rfl 37 rfl ?_
  refine r_ifeq hC 55 dX6_drifts_37 (by decide) 40 rfl (fun _ => ?_) (fun h => absurd h (by decide))
  refine r_aload_n hC 4 dX6_drifts_55 rfl 56 rfl ?_
  refine r_iload hC 2 dX6_drifts_56 rfl 58 rfl ?_
  refine r_iconst hC 0 dX6_drifts_58 ic_0 59 rfl ?_
  refine r_invSr hC [.int 0, .int 0] (.int 6) mSX6_at q2711 (metX6_at _ _ hG 0 0) (fun _ _ => xIn.nil) ⟨rfl, rfl⟩ 0 0 rfl rfl (Nat.le_of_ble_eq_true rfl) (Nat.le_of_ble_eq_true rfl) rfl (Nat.le_of_ble_eq_true rfl) dX6_drifts_59 62 rfl ?_
  refine r_lald hC 6 (xix_n 6 (Nat.le_of_ble_eq_true rfl) (Nat.le_of_ble_eq_true rfl)) (fun _ h => h.get 2 rfl) (r 6) (by rw [← hu1]; rfl) dX6_drifts_62 63 rfl ?_
  refine r_invSr hC [.long ((t 2) * (r 10)), .long (r 6)] (.long (m_floored ((t 2) * (r 10)) (r 6))) mSX6_floored q3042 (metX6_floored _ _ hG ((t 2) * (r 10)) (r 6) (hok.2.2.1.1)) (fun _ _ => xIn.nil) ⟨rfl, rfl⟩ 0 0 rfl rfl (Nat.le_of_ble_eq_true rfl) (Nat.le_of_ble_eq_true rfl) rfl (Nat.le_of_ble_eq_true rfl) dX6_drifts_63 66 rfl ?_
  refine r_lstore hC 6 [(6, .long (m_floored ((t 2) * (r 10)) (r 6))), (5, .int 1), (4, .int 0), (0, .ref (b 0)), (1, .ref a), (2, .int 0), (3, .int 1)] dX6_drifts_66 (Nat.le_of_ble_eq_true rfl) rfl 68 rfl ?_
  refine r_aload_n hC 4 dX6_drifts_68 rfl 69 rfl ?_
  refine r_iload hC 2 dX6_drifts_69 rfl 71 rfl ?_
  refine r_iconst hC 1 dX6_drifts_71 ic_1 72 rfl ?_
  refine r_iload hC 1 dX6_drifts_72 rfl 74 rfl ?_
  refine r_iadd hC 2 dX6_drifts_74  (by decide) 75 rfl ?_
  refine r_invSr hC [.int 0, .int 2] (.int 8) mSX6_at q2711 (metX6_at _ _ hG 0 2) (fun _ _ => xIn.nil) ⟨rfl, rfl⟩ 0 0 rfl rfl (Nat.le_of_ble_eq_true rfl) (Nat.le_of_ble_eq_true rfl) rfl (Nat.le_of_ble_eq_true rfl) dX6_drifts_75 78 rfl ?_
  refine r_dup2 hC dX6_drifts_78 rfl rfl 79 rfl ?_
  refine r_lald hC 8 (xix_n 8 (Nat.le_of_ble_eq_true rfl) (Nat.le_of_ble_eq_true rfl)) (fun _ h => h.get 2 rfl) (r 8) (by rw [← hu1]; rfl) dX6_drifts_79 80 rfl ?_
  refine r_iload_n hC 6 dX6_drifts_80 rfl 81 rfl ?_
  refine r_ifeq hC 90 dX6_drifts_81 (by decide) 84 rfl (fun h => absurd h (by decide)) (fun _ => ?_)
  refine r_lload hC 0 dX6_drifts_84 rfl 86 rfl ?_
  refine r_lneg hC (-(m_floored ((t 2) * (r 10)) (r 6))) dX6_drifts_86 (rfl) 87 rfl ?_
  refine r_goto hC 92 dX6_drifts_87 (by decide) ?_
  refine r_ladd hC ((r 8) + (-(m_floored ((t 2) * (r 10)) (r 6)))) dX6_drifts_92  (rfl) 93 rfl ?_
  refine r_last (J := xSt F V0 [(b 0, .inr (5, mF b i j)), (b 7, .inl (1, 5, .inr (.inl t))), (a, .inl (1, 111, .inr (.inl (va_up u1 8 ((r 8) + (-(m_floored ((t 2) * (r 10)) (r 6))))))))]) hC 8 (xix_n 8 (Nat.le_of_ble_eq_true rfl) (Nat.le_of_ble_eq_true rfl)) (fun _ h => h.get 2 rfl) dX6_drifts_93 (fun _ h => h.set 2 _ rfl) 94 rfl ?_
  generalize hu2 : va_up u1 8 ((r 8) + (-(m_floored ((t 2) * (r 10)) (r 6)))) = u2
  refine r_iinc hC 2 5 1 [(5, .int 2), (6, .long (m_floored ((t 2) * (r 10)) (r 6))), (4, .int 0), (0, .ref (b 0)), (1, .ref a), (2, .int 0), (3, .int 1)] dX6_drifts_94 rfl (by decide) (Nat.le_of_ble_eq_true rfl) rfl 97 rfl ?_
  refine r_goto hC 12 dX6_drifts_97 (by decide) ?_
  refine r_iload hC 0 dX6_drifts_12 rfl 14 rfl ?_
  refine r_iconst hC 2 dX6_drifts_14 ic_2 15 rfl ?_
  refine r_icge hC 100 dX6_drifts_15 (by decide) 18 rfl (fun _ => ?_) (fun h => absurd h (by decide))
  refine r_iinc hC 1 4 2 [(4, .int 1), (5, .int 2), (6, .long (m_floored ((t 2) * (r 10)) (r 6))), (0, .ref (b 0)), (1, .ref a), (2, .int 0), (3, .int 1)] dX6_drifts_100 rfl (by decide) (Nat.le_of_ble_eq_true rfl) rfl 103 rfl ?_
  refine r_goto hC 3 dX6_drifts_103 (by decide) ?_
  refine r_iload hC 0 dX6_drifts_3 rfl 5 rfl ?_
  refine r_iconst hC 3 dX6_drifts_5 ic_3 6 rfl ?_
  refine r_icge hC 106 dX6_drifts_6 (by decide) 9 rfl (fun h => absurd h (by decide)) (fun _ => ?_)
  refine r_iconst hC 0 dX6_drifts_9 ic_0 10 rfl ?_
  refine r_istore hC 5 [(5, .int 0), (4, .int 1), (6, .long (m_floored ((t 2) * (r 10)) (r 6))), (0, .ref (b 0)), (1, .ref a), (2, .int 0), (3, .int 1)] dX6_drifts_10 (Nat.le_of_ble_eq_true rfl) rfl 12 rfl ?_
  refine r_iload hC 0 dX6_drifts_12 rfl 14 rfl ?_
  refine r_iconst hC 2 dX6_drifts_14 ic_2 15 rfl ?_
  refine r_icge hC 100 dX6_drifts_15 (by decide) 18 rfl (fun h => absurd h (by decide)) (fun _ => ?_)
  refine r_aload_n hC 3 dX6_drifts_18 rfl 19 rfl ?_
  refine r_get (v := .ref (b 7)) hC kX6 7 rfl q2760 (fun _ h => h.get 0 rfl) rfl dX6_drifts_19 22 rfl ?_
  refine r_iconst hC 2 dX6_drifts_22 ic_2 23 rfl ?_
  refine r_lald hC 2 (xix_n 2 (Nat.le_of_ble_eq_true rfl) (Nat.le_of_ble_eq_true rfl)) (fun _ h => h.get 1 rfl) (t 2) (rfl) dX6_drifts_23 24 rfl ?_
  refine r_aload_n hC 4 dX6_drifts_24 rfl 25 rfl ?_
  refine r_iload hC 1 dX6_drifts_25 rfl 27 rfl ?_
  refine r_iconst hC 3 dX6_drifts_27 ic_3 28 rfl ?_
  refine r_iload hC 0 dX6_drifts_28 rfl 30 rfl ?_
  refine r_iadd hC 3 dX6_drifts_30  (by decide) 31 rfl ?_
  refine r_invSr hC [.int 1, .int 3] (.int 14) mSX6_at q2711 (metX6_at _ _ hG 1 3) (fun _ _ => xIn.nil) ⟨rfl, rfl⟩ 0 0 rfl rfl (Nat.le_of_ble_eq_true rfl) (Nat.le_of_ble_eq_true rfl) rfl (Nat.le_of_ble_eq_true rfl) dX6_drifts_31 34 rfl ?_
  refine r_lald hC 14 (xix_n 14 (Nat.le_of_ble_eq_true rfl) (Nat.le_of_ble_eq_true rfl)) (fun _ h => h.get 2 rfl) (r 14) (by rw [← hu2, ← hu1]; rfl) dX6_drifts_34 35 rfl ?_
  refine r_lmul hC ((t 2) * (r 14)) dX6_drifts_35  (rfl) 36 rfl ?_
  refine r_iload_n hC 5 dX6_drifts_36 rfl 37 rfl ?_
  refine r_ifeq hC 55 dX6_drifts_37 (by decide) 40 rfl (fun _ => ?_) (fun h => absurd h (by decide))
  refine r_aload_n hC 4 dX6_drifts_55 rfl 56 rfl ?_
  refine r_iload hC 1 dX6_drifts_56 rfl 58 rfl ?_
  refine r_iconst hC 0 dX6_drifts_58 ic_0 59 rfl ?_
  refine r_invSr hC [.int 1, .int 0] (.int 11) mSX6_at q2711 (metX6_at _ _ hG 1 0) (fun _ _ => xIn.nil) ⟨rfl, rfl⟩ 0 0 rfl rfl (Nat.le_of_ble_eq_true rfl) (Nat.le_of_ble_eq_true rfl) rfl (Nat.le_of_ble_eq_true rfl) dX6_drifts_59 62 rfl ?_
  refine r_lald hC 11 (xix_n 11 (Nat.le_of_ble_eq_true rfl) (Nat.le_of_ble_eq_true rfl)) (fun _ h => h.get 2 rfl) (r 11) (by rw [← hu2, ← hu1]; rfl) dX6_drifts_62 63 rfl ?_
  refine r_invSr hC [.long ((t 2) * (r 14)), .long (r 11)] (.long (m_floored ((t 2) * (r 14)) (r 11))) mSX6_floored q3042 (metX6_floored _ _ hG ((t 2) * (r 14)) (r 11) (hok.2.2.1.2.1)) (fun _ _ => xIn.nil) ⟨rfl, rfl⟩ 0 0 rfl rfl (Nat.le_of_ble_eq_true rfl) (Nat.le_of_ble_eq_true rfl) rfl (Nat.le_of_ble_eq_true rfl) dX6_drifts_63 66 rfl ?_
  refine r_lstore hC 6 [(6, .long (m_floored ((t 2) * (r 14)) (r 11))), (5, .int 0), (4, .int 1), (0, .ref (b 0)), (1, .ref a), (2, .int 0), (3, .int 1)] dX6_drifts_66 (Nat.le_of_ble_eq_true rfl) rfl 68 rfl ?_
  refine r_aload_n hC 4 dX6_drifts_68 rfl 69 rfl ?_
  refine r_iload hC 2 dX6_drifts_69 rfl 71 rfl ?_
  refine r_iconst hC 1 dX6_drifts_71 ic_1 72 rfl ?_
  refine r_iload hC 1 dX6_drifts_72 rfl 74 rfl ?_
  refine r_iadd hC 1 dX6_drifts_74  (by decide) 75 rfl ?_
  refine r_invSr hC [.int 1, .int 1] (.int 12) mSX6_at q2711 (metX6_at _ _ hG 1 1) (fun _ _ => xIn.nil) ⟨rfl, rfl⟩ 0 0 rfl rfl (Nat.le_of_ble_eq_true rfl) (Nat.le_of_ble_eq_true rfl) rfl (Nat.le_of_ble_eq_true rfl) dX6_drifts_75 78 rfl ?_
  refine r_dup2 hC dX6_drifts_78 rfl rfl 79 rfl ?_
  refine r_lald hC 12 (xix_n 12 (Nat.le_of_ble_eq_true rfl) (Nat.le_of_ble_eq_true rfl)) (fun _ h => h.get 2 rfl) (r 12) (by rw [← hu2, ← hu1]; rfl) dX6_drifts_79 80 rfl ?_
  refine r_iload_n hC 6 dX6_drifts_80 rfl 81 rfl ?_
  refine r_ifeq hC 90 dX6_drifts_81 (by decide) 84 rfl (fun h => absurd h (by decide)) (fun _ => ?_)
  refine r_lload hC 0 dX6_drifts_84 rfl 86 rfl ?_
  refine r_lneg hC (-(m_floored ((t 2) * (r 14)) (r 11))) dX6_drifts_86 (rfl) 87 rfl ?_
  refine r_goto hC 92 dX6_drifts_87 (by decide) ?_
  refine r_ladd hC ((r 12) + (-(m_floored ((t 2) * (r 14)) (r 11)))) dX6_drifts_92  (rfl) 93 rfl ?_
  refine r_last (J := xSt F V0 [(b 0, .inr (5, mF b i j)), (b 7, .inl (1, 5, .inr (.inl t))), (a, .inl (1, 111, .inr (.inl (va_up u2 12 ((r 12) + (-(m_floored ((t 2) * (r 14)) (r 11))))))))]) hC 12 (xix_n 12 (Nat.le_of_ble_eq_true rfl) (Nat.le_of_ble_eq_true rfl)) (fun _ h => h.get 2 rfl) dX6_drifts_93 (fun _ h => h.set 2 _ rfl) 94 rfl ?_
  generalize hu3 : va_up u2 12 ((r 12) + (-(m_floored ((t 2) * (r 14)) (r 11)))) = u3
  refine r_iinc hC 1 5 1 [(5, .int 1), (6, .long (m_floored ((t 2) * (r 14)) (r 11))), (4, .int 1), (0, .ref (b 0)), (1, .ref a), (2, .int 0), (3, .int 1)] dX6_drifts_94 rfl (by decide) (Nat.le_of_ble_eq_true rfl) rfl 97 rfl ?_
  refine r_goto hC 12 dX6_drifts_97 (by decide) ?_
  refine r_iload hC 0 dX6_drifts_12 rfl 14 rfl ?_
  refine r_iconst hC 2 dX6_drifts_14 ic_2 15 rfl ?_
  refine r_icge hC 100 dX6_drifts_15 (by decide) 18 rfl (fun h => absurd h (by decide)) (fun _ => ?_)
  refine r_aload_n hC 3 dX6_drifts_18 rfl 19 rfl ?_
  refine r_get (v := .ref (b 7)) hC kX6 7 rfl q2760 (fun _ h => h.get 0 rfl) rfl dX6_drifts_19 22 rfl ?_
  refine r_iconst hC 2 dX6_drifts_22 ic_2 23 rfl ?_
  refine r_lald hC 2 (xix_n 2 (Nat.le_of_ble_eq_true rfl) (Nat.le_of_ble_eq_true rfl)) (fun _ h => h.get 1 rfl) (t 2) (rfl) dX6_drifts_23 24 rfl ?_
  refine r_aload_n hC 4 dX6_drifts_24 rfl 25 rfl ?_
  refine r_iload hC 2 dX6_drifts_25 rfl 27 rfl ?_
  refine r_iconst hC 3 dX6_drifts_27 ic_3 28 rfl ?_
  refine r_iload hC 0 dX6_drifts_28 rfl 30 rfl ?_
  refine r_iadd hC 4 dX6_drifts_30  (by decide) 31 rfl ?_
  refine r_invSr hC [.int 1, .int 4] (.int 15) mSX6_at q2711 (metX6_at _ _ hG 1 4) (fun _ _ => xIn.nil) ⟨rfl, rfl⟩ 0 0 rfl rfl (Nat.le_of_ble_eq_true rfl) (Nat.le_of_ble_eq_true rfl) rfl (Nat.le_of_ble_eq_true rfl) dX6_drifts_31 34 rfl ?_
  refine r_lald hC 15 (xix_n 15 (Nat.le_of_ble_eq_true rfl) (Nat.le_of_ble_eq_true rfl)) (fun _ h => h.get 2 rfl) (r 15) (by rw [← hu3, ← hu2, ← hu1]; rfl) dX6_drifts_34 35 rfl ?_
  refine r_lmul hC ((t 2) * (r 15)) dX6_drifts_35  (rfl) 36 rfl ?_
  refine r_iload_n hC 5 dX6_drifts_36 rfl 37 rfl ?_
  refine r_ifeq hC 55 dX6_drifts_37 (by decide) 40 rfl (fun _ => ?_) (fun h => absurd h (by decide))
  refine r_aload_n hC 4 dX6_drifts_55 rfl 56 rfl ?_
  refine r_iload hC 2 dX6_drifts_56 rfl 58 rfl ?_
  refine r_iconst hC 0 dX6_drifts_58 ic_0 59 rfl ?_
  refine r_invSr hC [.int 1, .int 0] (.int 11) mSX6_at q2711 (metX6_at _ _ hG 1 0) (fun _ _ => xIn.nil) ⟨rfl, rfl⟩ 0 0 rfl rfl (Nat.le_of_ble_eq_true rfl) (Nat.le_of_ble_eq_true rfl) rfl (Nat.le_of_ble_eq_true rfl) dX6_drifts_59 62 rfl ?_
  refine r_lald hC 11 (xix_n 11 (Nat.le_of_ble_eq_true rfl) (Nat.le_of_ble_eq_true rfl)) (fun _ h => h.get 2 rfl) (r 11) (by rw [← hu3, ← hu2, ← hu1]; rfl) dX6_drifts_62 63 rfl ?_
  refine r_invSr hC [.long ((t 2) * (r 15)), .long (r 11)] (.long (m_floored ((t 2) * (r 15)) (r 11))) mSX6_floored q3042 (metX6_floored _ _ hG ((t 2) * (r 15)) (r 11) (hok.2.2.1.2.1)) (fun _ _ => xIn.nil) ⟨rfl, rfl⟩ 0 0 rfl rfl (Nat.le_of_ble_eq_true rfl) (Nat.le_of_ble_eq_true rfl) rfl (Nat.le_of_ble_eq_true rfl) dX6_drifts_63 66 rfl ?_
  refine r_lstore hC 6 [(6, .long (m_floored ((t 2) * (r 15)) (r 11))), (5, .int 1), (4, .int 1), (0, .ref (b 0)), (1, .ref a), (2, .int 0), (3, .int 1)] dX6_drifts_66 (Nat.le_of_ble_eq_true rfl) rfl 68 rfl ?_
  refine r_aload_n hC 4 dX6_drifts_68 rfl 69 rfl ?_
  refine r_iload hC 2 dX6_drifts_69 rfl 71 rfl ?_
  refine r_iconst hC 1 dX6_drifts_71 ic_1 72 rfl ?_
  refine r_iload hC 1 dX6_drifts_72 rfl 74 rfl ?_
  refine r_iadd hC 2 dX6_drifts_74  (by decide) 75 rfl ?_
  refine r_invSr hC [.int 1, .int 2] (.int 13) mSX6_at q2711 (metX6_at _ _ hG 1 2) (fun _ _ => xIn.nil) ⟨rfl, rfl⟩ 0 0 rfl rfl (Nat.le_of_ble_eq_true rfl) (Nat.le_of_ble_eq_true rfl) rfl (Nat.le_of_ble_eq_true rfl) dX6_drifts_75 78 rfl ?_
  refine r_dup2 hC dX6_drifts_78 rfl rfl 79 rfl ?_
  refine r_lald hC 13 (xix_n 13 (Nat.le_of_ble_eq_true rfl) (Nat.le_of_ble_eq_true rfl)) (fun _ h => h.get 2 rfl) (r 13) (by rw [← hu3, ← hu2, ← hu1]; rfl) dX6_drifts_79 80 rfl ?_
  refine r_iload_n hC 6 dX6_drifts_80 rfl 81 rfl ?_
  refine r_ifeq hC 90 dX6_drifts_81 (by decide) 84 rfl (fun h => absurd h (by decide)) (fun _ => ?_)
  refine r_lload hC 0 dX6_drifts_84 rfl 86 rfl ?_
  refine r_lneg hC (-(m_floored ((t 2) * (r 15)) (r 11))) dX6_drifts_86 (rfl) 87 rfl ?_
  refine r_goto hC 92 dX6_drifts_87 (by decide) ?_
  refine r_ladd hC ((r 13) + (-(m_floored ((t 2) * (r 15)) (r 11)))) dX6_drifts_92  (rfl) 93 rfl ?_
  refine r_last (J := xSt F V0 [(b 0, .inr (5, mF b i j)), (b 7, .inl (1, 5, .inr (.inl t))), (a, .inl (1, 111, .inr (.inl (va_up u3 13 ((r 13) + (-(m_floored ((t 2) * (r 15)) (r 11))))))))]) hC 13 (xix_n 13 (Nat.le_of_ble_eq_true rfl) (Nat.le_of_ble_eq_true rfl)) (fun _ h => h.get 2 rfl) dX6_drifts_93 (fun _ h => h.set 2 _ rfl) 94 rfl ?_
  generalize hu4 : va_up u3 13 ((r 13) + (-(m_floored ((t 2) * (r 15)) (r 11)))) = u4
  refine r_iinc hC 2 5 1 [(5, .int 2), (6, .long (m_floored ((t 2) * (r 15)) (r 11))), (4, .int 1), (0, .ref (b 0)), (1, .ref a), (2, .int 0), (3, .int 1)] dX6_drifts_94 rfl (by decide) (Nat.le_of_ble_eq_true rfl) rfl 97 rfl ?_
  refine r_goto hC 12 dX6_drifts_97 (by decide) ?_
  refine r_iload hC 0 dX6_drifts_12 rfl 14 rfl ?_
  refine r_iconst hC 2 dX6_drifts_14 ic_2 15 rfl ?_
  refine r_icge hC 100 dX6_drifts_15 (by decide) 18 rfl (fun _ => ?_) (fun h => absurd h (by decide))
  refine r_iinc hC 2 4 2 [(4, .int 2), (5, .int 2), (6, .long (m_floored ((t 2) * (r 15)) (r 11))), (0, .ref (b 0)), (1, .ref a), (2, .int 0), (3, .int 1)] dX6_drifts_100 rfl (by decide) (Nat.le_of_ble_eq_true rfl) rfl 103 rfl ?_
  refine r_goto hC 3 dX6_drifts_103 (by decide) ?_
  refine r_iload hC 0 dX6_drifts_3 rfl 5 rfl ?_
  refine r_iconst hC 3 dX6_drifts_5 ic_3 6 rfl ?_
  refine r_icge hC 106 dX6_drifts_6 (by decide) 9 rfl (fun h => absurd h (by decide)) (fun _ => ?_)
  refine r_iconst hC 0 dX6_drifts_9 ic_0 10 rfl ?_
  refine r_istore hC 5 [(5, .int 0), (4, .int 2), (6, .long (m_floored ((t 2) * (r 15)) (r 11))), (0, .ref (b 0)), (1, .ref a), (2, .int 0), (3, .int 1)] dX6_drifts_10 (Nat.le_of_ble_eq_true rfl) rfl 12 rfl ?_
  refine r_iload hC 0 dX6_drifts_12 rfl 14 rfl ?_
  refine r_iconst hC 2 dX6_drifts_14 ic_2 15 rfl ?_
  refine r_icge hC 100 dX6_drifts_15 (by decide) 18 rfl (fun h => absurd h (by decide)) (fun _ => ?_)
  refine r_aload_n hC 3 dX6_drifts_18 rfl 19 rfl ?_
  refine r_get (v := .ref (b 7)) hC kX6 7 rfl q2760 (fun _ h => h.get 0 rfl) rfl dX6_drifts_19 22 rfl ?_
  refine r_iconst hC 2 dX6_drifts_22 ic_2 23 rfl ?_
  refine r_lald hC 2 (xix_n 2 (Nat.le_of_ble_eq_true rfl) (Nat.le_of_ble_eq_true rfl)) (fun _ h => h.get 1 rfl) (t 2) (rfl) dX6_drifts_23 24 rfl ?_
  refine r_aload_n hC 4 dX6_drifts_24 rfl 25 rfl ?_
  refine r_iload hC 1 dX6_drifts_25 rfl 27 rfl ?_
  refine r_iconst hC 3 dX6_drifts_27 ic_3 28 rfl ?_
  refine r_iload hC 0 dX6_drifts_28 rfl 30 rfl ?_
  refine r_iadd hC 3 dX6_drifts_30  (by decide) 31 rfl ?_
  refine r_invSr hC [.int 2, .int 3] (.int 19) mSX6_at q2711 (metX6_at _ _ hG 2 3) (fun _ _ => xIn.nil) ⟨rfl, rfl⟩ 0 0 rfl rfl (Nat.le_of_ble_eq_true rfl) (Nat.le_of_ble_eq_true rfl) rfl (Nat.le_of_ble_eq_true rfl) dX6_drifts_31 34 rfl ?_
  refine r_lald hC 19 (xix_n 19 (Nat.le_of_ble_eq_true rfl) (Nat.le_of_ble_eq_true rfl)) (fun _ h => h.get 2 rfl) (r 19) (by rw [← hu4, ← hu3, ← hu2, ← hu1]; rfl) dX6_drifts_34 35 rfl ?_
  refine r_lmul hC ((t 2) * (r 19)) dX6_drifts_35  (rfl) 36 rfl ?_
  refine r_iload_n hC 5 dX6_drifts_36 rfl 37 rfl ?_
  refine r_ifeq hC 55 dX6_drifts_37 (by decide) 40 rfl (fun _ => ?_) (fun h => absurd h (by decide))
  refine r_aload_n hC 4 dX6_drifts_55 rfl 56 rfl ?_
  refine r_iload hC 1 dX6_drifts_56 rfl 58 rfl ?_
  refine r_iconst hC 0 dX6_drifts_58 ic_0 59 rfl ?_
  refine r_invSr hC [.int 2, .int 0] (.int 16) mSX6_at q2711 (metX6_at _ _ hG 2 0) (fun _ _ => xIn.nil) ⟨rfl, rfl⟩ 0 0 rfl rfl (Nat.le_of_ble_eq_true rfl) (Nat.le_of_ble_eq_true rfl) rfl (Nat.le_of_ble_eq_true rfl) dX6_drifts_59 62 rfl ?_
  refine r_lald hC 16 (xix_n 16 (Nat.le_of_ble_eq_true rfl) (Nat.le_of_ble_eq_true rfl)) (fun _ h => h.get 2 rfl) (r 16) (by rw [← hu4, ← hu3, ← hu2, ← hu1]; rfl) dX6_drifts_62 63 rfl ?_
  refine r_invSr hC [.long ((t 2) * (r 19)), .long (r 16)] (.long (m_floored ((t 2) * (r 19)) (r 16))) mSX6_floored q3042 (metX6_floored _ _ hG ((t 2) * (r 19)) (r 16) (hok.2.2.1.2.2)) (fun _ _ => xIn.nil) ⟨rfl, rfl⟩ 0 0 rfl rfl (Nat.le_of_ble_eq_true rfl) (Nat.le_of_ble_eq_true rfl) rfl (Nat.le_of_ble_eq_true rfl) dX6_drifts_63 66 rfl ?_
  refine r_lstore hC 6 [(6, .long (m_floored ((t 2) * (r 19)) (r 16))), (5, .int 0), (4, .int 2), (0, .ref (b 0)), (1, .ref a), (2, .int 0), (3, .int 1)] dX6_drifts_66 (Nat.le_of_ble_eq_true rfl) rfl 68 rfl ?_
  refine r_aload_n hC 4 dX6_drifts_68 rfl 69 rfl ?_
  refine r_iload hC 2 dX6_drifts_69 rfl 71 rfl ?_
  refine r_iconst hC 1 dX6_drifts_71 ic_1 72 rfl ?_
  refine r_iload hC 1 dX6_drifts_72 rfl 74 rfl ?_
  refine r_iadd hC 1 dX6_drifts_74  (by decide) 75 rfl ?_
  refine r_invSr hC [.int 2, .int 1] (.int 17) mSX6_at q2711 (metX6_at _ _ hG 2 1) (fun _ _ => xIn.nil) ⟨rfl, rfl⟩ 0 0 rfl rfl (Nat.le_of_ble_eq_true rfl) (Nat.le_of_ble_eq_true rfl) rfl (Nat.le_of_ble_eq_true rfl) dX6_drifts_75 78 rfl ?_
  refine r_dup2 hC dX6_drifts_78 rfl rfl 79 rfl ?_
  refine r_lald hC 17 (xix_n 17 (Nat.le_of_ble_eq_true rfl) (Nat.le_of_ble_eq_true rfl)) (fun _ h => h.get 2 rfl) (r 17) (by rw [← hu4, ← hu3, ← hu2, ← hu1]; rfl) dX6_drifts_79 80 rfl ?_
  refine r_iload_n hC 6 dX6_drifts_80 rfl 81 rfl ?_
  refine r_ifeq hC 90 dX6_drifts_81 (by decide) 84 rfl (fun h => absurd h (by decide)) (fun _ => ?_)
  refine r_lload hC 0 dX6_drifts_84 rfl 86 rfl ?_
  refine r_lneg hC (-(m_floored ((t 2) * (r 19)) (r 16))) dX6_drifts_86 (rfl) 87 rfl ?_
  refine r_goto hC 92 dX6_drifts_87 (by decide) ?_
  refine r_ladd hC ((r 17) + (-(m_floored ((t 2) * (r 19)) (r 16)))) dX6_drifts_92  (rfl) 93 rfl ?_
  refine r_last (J := xSt F V0 [(b 0, .inr (5, mF b i j)), (b 7, .inl (1, 5, .inr (.inl t))), (a, .inl (1, 111, .inr (.inl (va_up u4 17 ((r 17) + (-(m_floored ((t 2) * (r 19)) (r 16))))))))]) hC 17 (xix_n 17 (Nat.le_of_ble_eq_true rfl) (Nat.le_of_ble_eq_true rfl)) (fun _ h => h.get 2 rfl) dX6_drifts_93 (fun _ h => h.set 2 _ rfl) 94 rfl ?_
  generalize hu5 : va_up u4 17 ((r 17) + (-(m_floored ((t 2) * (r 19)) (r 16)))) = u5
  refine r_iinc hC 1 5 1 [(5, .int 1), (6, .long (m_floored ((t 2) * (r 19)) (r 16))), (4, .int 2), (0, .ref (b 0)), (1, .ref a), (2, .int 0), (3, .int 1)] dX6_drifts_94 rfl (by decide) (Nat.le_of_ble_eq_true rfl) rfl 97 rfl ?_
  refine r_goto hC 12 dX6_drifts_97 (by decide) ?_
  refine r_iload hC 0 dX6_drifts_12 rfl 14 rfl ?_
  refine r_iconst hC 2 dX6_drifts_14 ic_2 15 rfl ?_
  refine r_icge hC 100 dX6_drifts_15 (by decide) 18 rfl (fun h => absurd h (by decide)) (fun _ => ?_)
  refine r_aload_n hC 3 dX6_drifts_18 rfl 19 rfl ?_
  refine r_get (v := .ref (b 7)) hC kX6 7 rfl q2760 (fun _ h => h.get 0 rfl) rfl dX6_drifts_19 22 rfl ?_
  refine r_iconst hC 2 dX6_drifts_22 ic_2 23 rfl ?_
  refine r_lald hC 2 (xix_n 2 (Nat.le_of_ble_eq_true rfl) (Nat.le_of_ble_eq_true rfl)) (fun _ h => h.get 1 rfl) (t 2) (rfl) dX6_drifts_23 24 rfl ?_
  refine r_aload_n hC 4 dX6_drifts_24 rfl 25 rfl ?_
  refine r_iload hC 2 dX6_drifts_25 rfl 27 rfl ?_
  refine r_iconst hC 3 dX6_drifts_27 ic_3 28 rfl ?_
  refine r_iload hC 0 dX6_drifts_28 rfl 30 rfl ?_
  refine r_iadd hC 4 dX6_drifts_30  (by decide) 31 rfl ?_
  refine r_invSr hC [.int 2, .int 4] (.int 20) mSX6_at q2711 (metX6_at _ _ hG 2 4) (fun _ _ => xIn.nil) ⟨rfl, rfl⟩ 0 0 rfl rfl (Nat.le_of_ble_eq_true rfl) (Nat.le_of_ble_eq_true rfl) rfl (Nat.le_of_ble_eq_true rfl) dX6_drifts_31 34 rfl ?_
  refine r_lald hC 20 (xix_n 20 (Nat.le_of_ble_eq_true rfl) (Nat.le_of_ble_eq_true rfl)) (fun _ h => h.get 2 rfl) (r 20) (by rw [← hu5, ← hu4, ← hu3, ← hu2, ← hu1]; rfl) dX6_drifts_34 35 rfl ?_
  refine r_lmul hC ((t 2) * (r 20)) dX6_drifts_35  (rfl) 36 rfl ?_
  refine r_iload_n hC 5 dX6_drifts_36 rfl 37 rfl ?_
  refine r_ifeq hC 55 dX6_drifts_37 (by decide) 40 rfl (fun _ => ?_) (fun h => absurd h (by decide))
  refine r_aload_n hC 4 dX6_drifts_55 rfl 56 rfl ?_
  refine r_iload hC 2 dX6_drifts_56 rfl 58 rfl ?_
  refine r_iconst hC 0 dX6_drifts_58 ic_0 59 rfl ?_
  refine r_invSr hC [.int 2, .int 0] (.int 16) mSX6_at q2711 (metX6_at _ _ hG 2 0) (fun _ _ => xIn.nil) ⟨rfl, rfl⟩ 0 0 rfl rfl (Nat.le_of_ble_eq_true rfl) (Nat.le_of_ble_eq_true rfl) rfl (Nat.le_of_ble_eq_true rfl) dX6_drifts_59 62 rfl ?_
  refine r_lald hC 16 (xix_n 16 (Nat.le_of_ble_eq_true rfl) (Nat.le_of_ble_eq_true rfl)) (fun _ h => h.get 2 rfl) (r 16) (by rw [← hu5, ← hu4, ← hu3, ← hu2, ← hu1]; rfl) dX6_drifts_62 63 rfl ?_
  refine r_invSr hC [.long ((t 2) * (r 20)), .long (r 16)] (.long (m_floored ((t 2) * (r 20)) (r 16))) mSX6_floored q3042 (metX6_floored _ _ hG ((t 2) * (r 20)) (r 16) (hok.2.2.1.2.2)) (fun _ _ => xIn.nil) ⟨rfl, rfl⟩ 0 0 rfl rfl (Nat.le_of_ble_eq_true rfl) (Nat.le_of_ble_eq_true rfl) rfl (Nat.le_of_ble_eq_true rfl) dX6_drifts_63 66 rfl ?_
  refine r_lstore hC 6 [(6, .long (m_floored ((t 2) * (r 20)) (r 16))), (5, .int 1), (4, .int 2), (0, .ref (b 0)), (1, .ref a), (2, .int 0), (3, .int 1)] dX6_drifts_66 (Nat.le_of_ble_eq_true rfl) rfl 68 rfl ?_
  refine r_aload_n hC 4 dX6_drifts_68 rfl 69 rfl ?_
  refine r_iload hC 2 dX6_drifts_69 rfl 71 rfl ?_
  refine r_iconst hC 1 dX6_drifts_71 ic_1 72 rfl ?_
  refine r_iload hC 1 dX6_drifts_72 rfl 74 rfl ?_
  refine r_iadd hC 2 dX6_drifts_74  (by decide) 75 rfl ?_
  refine r_invSr hC [.int 2, .int 2] (.int 18) mSX6_at q2711 (metX6_at _ _ hG 2 2) (fun _ _ => xIn.nil) ⟨rfl, rfl⟩ 0 0 rfl rfl (Nat.le_of_ble_eq_true rfl) (Nat.le_of_ble_eq_true rfl) rfl (Nat.le_of_ble_eq_true rfl) dX6_drifts_75 78 rfl ?_
  refine r_dup2 hC dX6_drifts_78 rfl rfl 79 rfl ?_
  refine r_lald hC 18 (xix_n 18 (Nat.le_of_ble_eq_true rfl) (Nat.le_of_ble_eq_true rfl)) (fun _ h => h.get 2 rfl) (r 18) (by rw [← hu5, ← hu4, ← hu3, ← hu2, ← hu1]; rfl) dX6_drifts_79 80 rfl ?_
  refine r_iload_n hC 6 dX6_drifts_80 rfl 81 rfl ?_
  refine r_ifeq hC 90 dX6_drifts_81 (by decide) 84 rfl (fun h => absurd h (by decide)) (fun _ => ?_)
  refine r_lload hC 0 dX6_drifts_84 rfl 86 rfl ?_
  refine r_lneg hC (-(m_floored ((t 2) * (r 20)) (r 16))) dX6_drifts_86 (rfl) 87 rfl ?_
  refine r_goto hC 92 dX6_drifts_87 (by decide) ?_
  refine r_ladd hC ((r 18) + (-(m_floored ((t 2) * (r 20)) (r 16)))) dX6_drifts_92  (rfl) 93 rfl ?_
  refine r_last (J := xSt F V0 [(b 0, .inr (5, mF b i j)), (b 7, .inl (1, 5, .inr (.inl t))), (a, .inl (1, 111, .inr (.inl (va_up u5 18 ((r 18) + (-(m_floored ((t 2) * (r 20)) (r 16))))))))]) hC 18 (xix_n 18 (Nat.le_of_ble_eq_true rfl) (Nat.le_of_ble_eq_true rfl)) (fun _ h => h.get 2 rfl) dX6_drifts_93 (fun _ h => h.set 2 _ rfl) 94 rfl ?_
  generalize hu6 : va_up u5 18 ((r 18) + (-(m_floored ((t 2) * (r 20)) (r 16)))) = u6
  refine r_iinc hC 2 5 1 [(5, .int 2), (6, .long (m_floored ((t 2) * (r 20)) (r 16))), (4, .int 2), (0, .ref (b 0)), (1, .ref a), (2, .int 0), (3, .int 1)] dX6_drifts_94 rfl (by decide) (Nat.le_of_ble_eq_true rfl) rfl 97 rfl ?_
  refine r_goto hC 12 dX6_drifts_97 (by decide) ?_
  refine r_iload hC 0 dX6_drifts_12 rfl 14 rfl ?_
  refine r_iconst hC 2 dX6_drifts_14 ic_2 15 rfl ?_
  refine r_icge hC 100 dX6_drifts_15 (by decide) 18 rfl (fun _ => ?_) (fun h => absurd h (by decide))
  refine r_iinc hC 3 4 2 [(4, .int 3), (5, .int 2), (6, .long (m_floored ((t 2) * (r 20)) (r 16))), (0, .ref (b 0)), (1, .ref a), (2, .int 0), (3, .int 1)] dX6_drifts_100 rfl (by decide) (Nat.le_of_ble_eq_true rfl) rfl 103 rfl ?_
  refine r_goto hC 3 dX6_drifts_103 (by decide) ?_
  refine r_iload hC 0 dX6_drifts_3 rfl 5 rfl ?_
  refine r_iconst hC 3 dX6_drifts_5 ic_3 6 rfl ?_
  refine r_icge hC 106 dX6_drifts_6 (by decide) 9 rfl (fun _ => ?_) (fun h => absurd h (by decide))
  subst hu6
  subst hu5
  subst hu4
  subst hu3
  subst hu2
  subst hu1
  exact r_vret hC (Nat.le_of_ble_eq_true rfl) (Nat.le_of_ble_eq_true rfl) (fun V9 h => hQ _ _ ⟨[(b 0, .inr (5, mF b i j)), (b 7, .inl (1, 5, .inr (.inl t))), (a, .inl (1, 111, .inr (.inl (va_up (va_up (va_up (va_up (va_up (va_up r 7 ((r 7) + (-(m_floored ((t 2) * (r 9)) (r 6))))) 8 ((r 8) + (-(m_floored ((t 2) * (r 10)) (r 6))))) 12 ((r 12) + (-(m_floored ((t 2) * (r 14)) (r 11))))) 13 ((r 13) + (-(m_floored ((t 2) * (r 15)) (r 11))))) 17 ((r 17) + (-(m_floored ((t 2) * (r 19)) (r 16))))) 18 ((r 18) + (-(m_floored ((t 2) * (r 20)) (r 16))))))))], ⟨rfl, rfl⟩, by rw [← hV0, ← hF]; exact h⟩) dX6_drifts_106
set_option maxHeartbeats 4000000 in
set_option maxRecDepth 100000 in
theorem metX6_drifts10 (l : Launch) (G : xG) (hG : xGood G) (b : Nat → Nat) (i : Nat → Int32) (j : Nat → Int64) (t : Nat → Int64) (a : Nat) (r : Nat → Int64) (hok : rowOK t r) : xWm l G yX6_drifts (Cond.code yX6_drifts cX6_drifts 8 none) { frames := 1, locals := 25, cells := 0, slots := 0 } [.ref (b 0), .ref a, .int 1, .int 0] [(b 0, .inr (5, mF b i j)), (b 7, .inl (1, 5, .inr (.inl t))), (a, .inl (1, 111, .inr (.inl r)))] (fun v w' => v = none ∧ w' = [(b 0, .inr (5, mF b i j)), (b 7, .inl (1, 5, .inr (.inl t))), (a, .inl (1, 111, .inr (.inl (driftQ t r true false))))]) (fun _ _ => False) := by
  intro V hV
  refine xMet_of RX6 hG rfl (by decide) (Nat.le_of_ble_eq_true rfl) fun C hC hQ hX hl hg _ => ?_
  subst hl hg
  obtain ⟨V0, hV0⟩ : ∃ V0, V0 = V := ⟨_, rfl⟩
  obtain ⟨F, hF⟩ : ∃ F, F = xF [(b 0, .inr (5, mF b i j)), (b 7, .inl (1, 5, .inr (.inl t))), (a, .inl (1, 111, .inr (.inl r)))] := ⟨_, rfl⟩
  refine rn.mono (J := xSt F V0 [(b 0, .inr (5, mF b i j)), (b 7, .inl (1, 5, .inr (.inl t))), (a, .inl (1, 111, .inr (.inl r)))]) (fun V9 h => by rw [h, hV0, hF]; exact hV.st) ?_
  show rn C (xSt F V0 [(b 0, .inr (5, mF b i j)), (b 7, .inl (1, 5, .inr (.inl t))), (a, .inl (1, 111, .inr (.inl r)))]) 0 0 0 [(0, .ref (b 0)), (1, .ref a), (2, .int 1), (3, .int 0)] []
  refine r_iconst hC 0 dX6_drifts_0 ic_0 1 rfl ?_
  refine r_istore hC 4 [(4, .int 0), (0, .ref (b 0)), (1, .ref a), (2, .int 1), (3, .int 0)] dX6_drifts_1 (Nat.le_of_ble_eq_true rfl) rfl 3 rfl ?_
  refine r_iload hC 0 dX6_drifts_3 rfl 5 rfl ?_
  refine r_iconst hC 3 dX6_drifts_5 ic_3 6 rfl ?_
  refine r_icge hC 106 dX6_drifts_6 (by decide) 9 rfl (fun h => absurd h (by decide)) (fun _ => ?_)
  refine r_iconst hC 0 dX6_drifts_9 ic_0 10 rfl ?_
  refine r_istore hC 5 [(5, .int 0), (4, .int 0), (0, .ref (b 0)), (1, .ref a), (2, .int 1), (3, .int 0)] dX6_drifts_10 (Nat.le_of_ble_eq_true rfl) rfl 12 rfl ?_
  refine r_iload hC 0 dX6_drifts_12 rfl 14 rfl ?_
  refine r_iconst hC 2 dX6_drifts_14 ic_2 15 rfl ?_
  refine r_icge hC 100 dX6_drifts_15 (by decide) 18 rfl (fun h => absurd h (by decide)) (fun _ => ?_)
  refine r_aload_n hC 2 dX6_drifts_18 rfl 19 rfl ?_
  refine r_get (v := .ref (b 7)) hC kX6 7 rfl q2760 (fun _ h => h.get 0 rfl) rfl dX6_drifts_19 22 rfl ?_
  refine r_iconst hC 2 dX6_drifts_22 ic_2 23 rfl ?_
  refine r_lald hC 2 (xix_n 2 (Nat.le_of_ble_eq_true rfl) (Nat.le_of_ble_eq_true rfl)) (fun _ h => h.get 1 rfl) (t 2) (rfl) dX6_drifts_23 24 rfl ?_
  refine r_aload_n hC 3 dX6_drifts_24 rfl 25 rfl ?_
  refine r_iload hC 1 dX6_drifts_25 rfl 27 rfl ?_
  refine r_iconst hC 3 dX6_drifts_27 ic_3 28 rfl ?_
  refine r_iload hC 0 dX6_drifts_28 rfl 30 rfl ?_
  refine r_iadd hC 3 dX6_drifts_30  (by decide) 31 rfl ?_
  refine r_invSr hC [.int 0, .int 3] (.int 9) mSX6_at q2711 (metX6_at _ _ hG 0 3) (fun _ _ => xIn.nil) ⟨rfl, rfl⟩ 0 0 rfl rfl (Nat.le_of_ble_eq_true rfl) (Nat.le_of_ble_eq_true rfl) rfl (Nat.le_of_ble_eq_true rfl) dX6_drifts_31 34 rfl ?_
  refine r_lald hC 9 (xix_n 9 (Nat.le_of_ble_eq_true rfl) (Nat.le_of_ble_eq_true rfl)) (fun _ h => h.get 2 rfl) (r 9) (rfl) dX6_drifts_34 35 rfl ?_
  refine r_lmul hC ((t 2) * (r 9)) dX6_drifts_35  (rfl) 36 rfl ?_
  refine r_iload_n hC 4 dX6_drifts_36 rfl 37 rfl ?_
  refine r_ifeq hC 55 dX6_drifts_37 (by decide) 40 rfl (fun h => absurd h (by decide)) (fun _ => ?_)
  refine r_ldc2 hC q2728 dX6_drifts_40 43 rfl ?_
  refine r_aload_n hC 3 dX6_drifts_43 rfl 44 rfl ?_
  refine r_iload hC 1 dX6_drifts_44 rfl 46 rfl ?_
  refine r_iconst hC 0 dX6_drifts_46 ic_0 47 rfl ?_
  refine r_invSr hC [.int 0, .int 0] (.int 6) mSX6_at q2711 (metX6_at _ _ hG 0 0) (fun _ _ => xIn.nil) ⟨rfl, rfl⟩ 0 0 rfl rfl (Nat.le_of_ble_eq_true rfl) (Nat.le_of_ble_eq_true rfl) rfl (Nat.le_of_ble_eq_true rfl) dX6_drifts_47 50 rfl ?_
  refine r_lald hC 6 (xix_n 6 (Nat.le_of_ble_eq_true rfl) (Nat.le_of_ble_eq_true rfl)) (fun _ h => h.get 2 rfl) (r 6) (rfl) dX6_drifts_50 51 rfl ?_
  refine r_lmul hC (2 * (r 6)) dX6_drifts_51  (rfl) 52 rfl ?_
  refine r_goto hC 63 dX6_drifts_52 (by decide) ?_
  refine r_invSr hC [.long ((t 2) * (r 9)), .long (2 * (r 6))] (.long (m_floored ((t 2) * (r 9)) (2 * (r 6)))) mSX6_floored q3042 (metX6_floored _ _ hG ((t 2) * (r 9)) (2 * (r 6)) (hok.2.1.1)) (fun _ _ => xIn.nil) ⟨rfl, rfl⟩ 0 0 rfl rfl (Nat.le_of_ble_eq_true rfl) (Nat.le_of_ble_eq_true rfl) rfl (Nat.le_of_ble_eq_true rfl) dX6_drifts_63 66 rfl ?_
  refine r_lstore hC 6 [(6, .long (m_floored ((t 2) * (r 9)) (2 * (r 6)))), (5, .int 0), (4, .int 0), (0, .ref (b 0)), (1, .ref a), (2, .int 1), (3, .int 0)] dX6_drifts_66 (Nat.le_of_ble_eq_true rfl) rfl 68 rfl ?_
  refine r_aload_n hC 4 dX6_drifts_68 rfl 69 rfl ?_
  refine r_iload hC 2 dX6_drifts_69 rfl 71 rfl ?_
  refine r_iconst hC 1 dX6_drifts_71 ic_1 72 rfl ?_
  refine r_iload hC 1 dX6_drifts_72 rfl 74 rfl ?_
  refine r_iadd hC 1 dX6_drifts_74  (by decide) 75 rfl ?_
  refine r_invSr hC [.int 0, .int 1] (.int 7) mSX6_at q2711 (metX6_at _ _ hG 0 1) (fun _ _ => xIn.nil) ⟨rfl, rfl⟩ 0 0 rfl rfl (Nat.le_of_ble_eq_true rfl) (Nat.le_of_ble_eq_true rfl) rfl (Nat.le_of_ble_eq_true rfl) dX6_drifts_75 78 rfl ?_
  refine r_dup2 hC dX6_drifts_78 rfl rfl 79 rfl ?_
  refine r_lald hC 7 (xix_n 7 (Nat.le_of_ble_eq_true rfl) (Nat.le_of_ble_eq_true rfl)) (fun _ h => h.get 2 rfl) (r 7) (rfl) dX6_drifts_79 80 rfl ?_
  refine r_iload_n hC 6 dX6_drifts_80 rfl 81 rfl ?_
  refine r_ifeq hC 90 dX6_drifts_81 (by decide) 84 rfl (fun _ => ?_) (fun h => absurd h (by decide))
  refine r_lload hC 0 dX6_drifts_90 rfl 92 rfl ?_
  refine r_ladd hC ((r 7) + (m_floored ((t 2) * (r 9)) (2 * (r 6)))) dX6_drifts_92  (rfl) 93 rfl ?_
  refine r_last (J := xSt F V0 [(b 0, .inr (5, mF b i j)), (b 7, .inl (1, 5, .inr (.inl t))), (a, .inl (1, 111, .inr (.inl (va_up r 7 ((r 7) + (m_floored ((t 2) * (r 9)) (2 * (r 6))))))))]) hC 7 (xix_n 7 (Nat.le_of_ble_eq_true rfl) (Nat.le_of_ble_eq_true rfl)) (fun _ h => h.get 2 rfl) dX6_drifts_93 (fun _ h => h.set 2 _ rfl) 94 rfl ?_
  generalize hu1 : va_up r 7 ((r 7) + (m_floored ((t 2) * (r 9)) (2 * (r 6)))) = u1
  refine r_iinc hC 1 5 1 [(5, .int 1), (6, .long (m_floored ((t 2) * (r 9)) (2 * (r 6)))), (4, .int 0), (0, .ref (b 0)), (1, .ref a), (2, .int 1), (3, .int 0)] dX6_drifts_94 rfl (by decide) (Nat.le_of_ble_eq_true rfl) rfl 97 rfl ?_
  refine r_goto hC 12 dX6_drifts_97 (by decide) ?_
  refine r_iload hC 0 dX6_drifts_12 rfl 14 rfl ?_
  refine r_iconst hC 2 dX6_drifts_14 ic_2 15 rfl ?_
  refine r_icge hC 100 dX6_drifts_15 (by decide) 18 rfl (fun h => absurd h (by decide)) (fun _ => ?_)
  refine r_aload_n hC 3 dX6_drifts_18 rfl 19 rfl ?_
  refine r_get (v := .ref (b 7)) hC kX6 7 rfl q2760 (fun _ h => h.get 0 rfl) rfl dX6_drifts_19 22 rfl ?_
  refine r_iconst hC 2 dX6_drifts_22 ic_2 23 rfl ?_
  refine r_lald hC 2 (xix_n 2 (Nat.le_of_ble_eq_true rfl) (Nat.le_of_ble_eq_true rfl)) (fun _ h => h.get 1 rfl) (t 2) (rfl) dX6_drifts_23 24 rfl ?_
  refine r_aload_n hC 4 dX6_drifts_24 rfl 25 rfl ?_
  refine r_iload hC 2 dX6_drifts_25 rfl 27 rfl ?_
  refine r_iconst hC 3 dX6_drifts_27 ic_3 28 rfl ?_
  refine r_iload hC 0 dX6_drifts_28 rfl 30 rfl ?_
  refine r_iadd hC 4 dX6_drifts_30  (by decide) 31 rfl ?_
  refine r_invSr hC [.int 0, .int 4] (.int 10) mSX6_at q2711 (metX6_at _ _ hG 0 4) (fun _ _ => xIn.nil) ⟨rfl, rfl⟩ 0 0 rfl rfl (Nat.le_of_ble_eq_true rfl) (Nat.le_of_ble_eq_true rfl) rfl (Nat.le_of_ble_eq_true rfl) dX6_drifts_31 34 rfl ?_
  refine r_lald hC 10 (xix_n 10 (Nat.le_of_ble_eq_true rfl) (Nat.le_of_ble_eq_true rfl)) (fun _ h => h.get 2 rfl) (r 10) (by rw [← hu1]; rfl) dX6_drifts_34 35 rfl ?_
  refine r_lmul hC ((t 2) * (r 10)) dX6_drifts_35  (rfl) 36 rfl ?_
  refine r_iload_n hC 5 dX6_drifts_36 rfl 37 rfl ?_
  refine r_ifeq hC 55 dX6_drifts_37 (by decide) 40 rfl (fun h => absurd h (by decide)) (fun _ => ?_)
  refine r_ldc2 hC q2728 dX6_drifts_40 43 rfl ?_
  refine r_aload_n hC 4 dX6_drifts_43 rfl 44 rfl ?_
  refine r_iload hC 2 dX6_drifts_44 rfl 46 rfl ?_
  refine r_iconst hC 0 dX6_drifts_46 ic_0 47 rfl ?_
  refine r_invSr hC [.int 0, .int 0] (.int 6) mSX6_at q2711 (metX6_at _ _ hG 0 0) (fun _ _ => xIn.nil) ⟨rfl, rfl⟩ 0 0 rfl rfl (Nat.le_of_ble_eq_true rfl) (Nat.le_of_ble_eq_true rfl) rfl (Nat.le_of_ble_eq_true rfl) dX6_drifts_47 50 rfl ?_
  refine r_lald hC 6 (xix_n 6 (Nat.le_of_ble_eq_true rfl) (Nat.le_of_ble_eq_true rfl)) (fun _ h => h.get 2 rfl) (r 6) (by rw [← hu1]; rfl) dX6_drifts_50 51 rfl ?_
  refine r_lmul hC (2 * (r 6)) dX6_drifts_51  (rfl) 52 rfl ?_
  refine r_goto hC 63 dX6_drifts_52 (by decide) ?_
  refine r_invSr hC [.long ((t 2) * (r 10)), .long (2 * (r 6))] (.long (m_floored ((t 2) * (r 10)) (2 * (r 6)))) mSX6_floored q3042 (metX6_floored _ _ hG ((t 2) * (r 10)) (2 * (r 6)) (hok.2.1.1)) (fun _ _ => xIn.nil) ⟨rfl, rfl⟩ 0 0 rfl rfl (Nat.le_of_ble_eq_true rfl) (Nat.le_of_ble_eq_true rfl) rfl (Nat.le_of_ble_eq_true rfl) dX6_drifts_63 66 rfl ?_
  refine r_lstore hC 6 [(6, .long (m_floored ((t 2) * (r 10)) (2 * (r 6)))), (5, .int 1), (4, .int 0), (0, .ref (b 0)), (1, .ref a), (2, .int 1), (3, .int 0)] dX6_drifts_66 (Nat.le_of_ble_eq_true rfl) rfl 68 rfl ?_
  refine r_aload_n hC 4 dX6_drifts_68 rfl 69 rfl ?_
  refine r_iload hC 2 dX6_drifts_69 rfl 71 rfl ?_
  refine r_iconst hC 1 dX6_drifts_71 ic_1 72 rfl ?_
  refine r_iload hC 1 dX6_drifts_72 rfl 74 rfl ?_
  refine r_iadd hC 2 dX6_drifts_74  (by decide) 75 rfl ?_
  refine r_invSr hC [.int 0, .int 2] (.int 8) mSX6_at q2711 (metX6_at _ _ hG 0 2) (fun _ _ => xIn.nil) ⟨rfl, rfl⟩ 0 0 rfl rfl (Nat.le_of_ble_eq_true rfl) (Nat.le_of_ble_eq_true rfl) rfl (Nat.le_of_ble_eq_true rfl) dX6_drifts_75 78 rfl ?_
  refine r_dup2 hC dX6_drifts_78 rfl rfl 79 rfl ?_
  refine r_lald hC 8 (xix_n 8 (Nat.le_of_ble_eq_true rfl) (Nat.le_of_ble_eq_true rfl)) (fun _ h => h.get 2 rfl) (r 8) (by rw [← hu1]; rfl) dX6_drifts_79 80 rfl ?_
  refine r_iload_n hC 6 dX6_drifts_80 rfl 81 rfl ?_
  refine r_ifeq hC 90 dX6_drifts_81 (by decide) 84 rfl (fun _ => ?_) (fun h => absurd h (by decide))
  refine r_lload hC 0 dX6_drifts_90 rfl 92 rfl ?_
  refine r_ladd hC ((r 8) + (m_floored ((t 2) * (r 10)) (2 * (r 6)))) dX6_drifts_92  (rfl) 93 rfl ?_
  refine r_last (J := xSt F V0 [(b 0, .inr (5, mF b i j)), (b 7, .inl (1, 5, .inr (.inl t))), (a, .inl (1, 111, .inr (.inl (va_up u1 8 ((r 8) + (m_floored ((t 2) * (r 10)) (2 * (r 6))))))))]) hC 8 (xix_n 8 (Nat.le_of_ble_eq_true rfl) (Nat.le_of_ble_eq_true rfl)) (fun _ h => h.get 2 rfl) dX6_drifts_93 (fun _ h => h.set 2 _ rfl) 94 rfl ?_
  generalize hu2 : va_up u1 8 ((r 8) + (m_floored ((t 2) * (r 10)) (2 * (r 6)))) = u2
  refine r_iinc hC 2 5 1 [(5, .int 2), (6, .long (m_floored ((t 2) * (r 10)) (2 * (r 6)))), (4, .int 0), (0, .ref (b 0)), (1, .ref a), (2, .int 1), (3, .int 0)] dX6_drifts_94 rfl (by decide) (Nat.le_of_ble_eq_true rfl) rfl 97 rfl ?_
  refine r_goto hC 12 dX6_drifts_97 (by decide) ?_
  refine r_iload hC 0 dX6_drifts_12 rfl 14 rfl ?_
  refine r_iconst hC 2 dX6_drifts_14 ic_2 15 rfl ?_
  refine r_icge hC 100 dX6_drifts_15 (by decide) 18 rfl (fun _ => ?_) (fun h => absurd h (by decide))
  refine r_iinc hC 1 4 2 [(4, .int 1), (5, .int 2), (6, .long (m_floored ((t 2) * (r 10)) (2 * (r 6)))), (0, .ref (b 0)), (1, .ref a), (2, .int 1), (3, .int 0)] dX6_drifts_100 rfl (by decide) (Nat.le_of_ble_eq_true rfl) rfl 103 rfl ?_
  refine r_goto hC 3 dX6_drifts_103 (by decide) ?_
  refine r_iload hC 0 dX6_drifts_3 rfl 5 rfl ?_
  refine r_iconst hC 3 dX6_drifts_5 ic_3 6 rfl ?_
  refine r_icge hC 106 dX6_drifts_6 (by decide) 9 rfl (fun h => absurd h (by decide)) (fun _ => ?_)
  refine r_iconst hC 0 dX6_drifts_9 ic_0 10 rfl ?_
  refine r_istore hC 5 [(5, .int 0), (4, .int 1), (6, .long (m_floored ((t 2) * (r 10)) (2 * (r 6)))), (0, .ref (b 0)), (1, .ref a), (2, .int 1), (3, .int 0)] dX6_drifts_10 (Nat.le_of_ble_eq_true rfl) rfl 12 rfl ?_
  refine r_iload hC 0 dX6_drifts_12 rfl 14 rfl ?_
  refine r_iconst hC 2 dX6_drifts_14 ic_2 15 rfl ?_
  refine r_icge hC 100 dX6_drifts_15 (by decide) 18 rfl (fun h => absurd h (by decide)) (fun _ => ?_)
  refine r_aload_n hC 3 dX6_drifts_18 rfl 19 rfl ?_
  refine r_get (v := .ref (b 7)) hC kX6 7 rfl q2760 (fun _ h => h.get 0 rfl) rfl dX6_drifts_19 22 rfl ?_
  refine r_iconst hC 2 dX6_drifts_22 ic_2 23 rfl ?_
  refine r_lald hC 2 (xix_n 2 (Nat.le_of_ble_eq_true rfl) (Nat.le_of_ble_eq_true rfl)) (fun _ h => h.get 1 rfl) (t 2) (rfl) dX6_drifts_23 24 rfl ?_
  refine r_aload_n hC 4 dX6_drifts_24 rfl 25 rfl ?_
  refine r_iload hC 1 dX6_drifts_25 rfl 27 rfl ?_
  refine r_iconst hC 3 dX6_drifts_27 ic_3 28 rfl ?_
  refine r_iload hC 0 dX6_drifts_28 rfl 30 rfl ?_
  refine r_iadd hC 3 dX6_drifts_30  (by decide) 31 rfl ?_
  refine r_invSr hC [.int 1, .int 3] (.int 14) mSX6_at q2711 (metX6_at _ _ hG 1 3) (fun _ _ => xIn.nil) ⟨rfl, rfl⟩ 0 0 rfl rfl (Nat.le_of_ble_eq_true rfl) (Nat.le_of_ble_eq_true rfl) rfl (Nat.le_of_ble_eq_true rfl) dX6_drifts_31 34 rfl ?_
  refine r_lald hC 14 (xix_n 14 (Nat.le_of_ble_eq_true rfl) (Nat.le_of_ble_eq_true rfl)) (fun _ h => h.get 2 rfl) (r 14) (by rw [← hu2, ← hu1]; rfl) dX6_drifts_34 35 rfl ?_
  refine r_lmul hC ((t 2) * (r 14)) dX6_drifts_35  (rfl) 36 rfl ?_
  refine r_iload_n hC 5 dX6_drifts_36 rfl 37 rfl ?_
  refine r_ifeq hC 55 dX6_drifts_37 (by decide) 40 rfl (fun h => absurd h (by decide)) (fun _ => ?_)
  refine r_ldc2 hC q2728 dX6_drifts_40 43 rfl ?_
  refine r_aload_n hC 4 dX6_drifts_43 rfl 44 rfl ?_
  refine r_iload hC 1 dX6_drifts_44 rfl 46 rfl ?_
  refine r_iconst hC 0 dX6_drifts_46 ic_0 47 rfl ?_
  refine r_invSr hC [.int 1, .int 0] (.int 11) mSX6_at q2711 (metX6_at _ _ hG 1 0) (fun _ _ => xIn.nil) ⟨rfl, rfl⟩ 0 0 rfl rfl (Nat.le_of_ble_eq_true rfl) (Nat.le_of_ble_eq_true rfl) rfl (Nat.le_of_ble_eq_true rfl) dX6_drifts_47 50 rfl ?_
  refine r_lald hC 11 (xix_n 11 (Nat.le_of_ble_eq_true rfl) (Nat.le_of_ble_eq_true rfl)) (fun _ h => h.get 2 rfl) (r 11) (by rw [← hu2, ← hu1]; rfl) dX6_drifts_50 51 rfl ?_
  refine r_lmul hC (2 * (r 11)) dX6_drifts_51  (rfl) 52 rfl ?_
  refine r_goto hC 63 dX6_drifts_52 (by decide) ?_
  refine r_invSr hC [.long ((t 2) * (r 14)), .long (2 * (r 11))] (.long (m_floored ((t 2) * (r 14)) (2 * (r 11)))) mSX6_floored q3042 (metX6_floored _ _ hG ((t 2) * (r 14)) (2 * (r 11)) (hok.2.1.2.1)) (fun _ _ => xIn.nil) ⟨rfl, rfl⟩ 0 0 rfl rfl (Nat.le_of_ble_eq_true rfl) (Nat.le_of_ble_eq_true rfl) rfl (Nat.le_of_ble_eq_true rfl) dX6_drifts_63 66 rfl ?_
  refine r_lstore hC 6 [(6, .long (m_floored ((t 2) * (r 14)) (2 * (r 11)))), (5, .int 0), (4, .int 1), (0, .ref (b 0)), (1, .ref a), (2, .int 1), (3, .int 0)] dX6_drifts_66 (Nat.le_of_ble_eq_true rfl) rfl 68 rfl ?_
  refine r_aload_n hC 4 dX6_drifts_68 rfl 69 rfl ?_
  refine r_iload hC 2 dX6_drifts_69 rfl 71 rfl ?_
  refine r_iconst hC 1 dX6_drifts_71 ic_1 72 rfl ?_
  refine r_iload hC 1 dX6_drifts_72 rfl 74 rfl ?_
  refine r_iadd hC 1 dX6_drifts_74  (by decide) 75 rfl ?_
  refine r_invSr hC [.int 1, .int 1] (.int 12) mSX6_at q2711 (metX6_at _ _ hG 1 1) (fun _ _ => xIn.nil) ⟨rfl, rfl⟩ 0 0 rfl rfl (Nat.le_of_ble_eq_true rfl) (Nat.le_of_ble_eq_true rfl) rfl (Nat.le_of_ble_eq_true rfl) dX6_drifts_75 78 rfl ?_
  refine r_dup2 hC dX6_drifts_78 rfl rfl 79 rfl ?_
  refine r_lald hC 12 (xix_n 12 (Nat.le_of_ble_eq_true rfl) (Nat.le_of_ble_eq_true rfl)) (fun _ h => h.get 2 rfl) (r 12) (by rw [← hu2, ← hu1]; rfl) dX6_drifts_79 80 rfl ?_
  refine r_iload_n hC 6 dX6_drifts_80 rfl 81 rfl ?_
  refine r_ifeq hC 90 dX6_drifts_81 (by decide) 84 rfl (fun _ => ?_) (fun h => absurd h (by decide))
  refine r_lload hC 0 dX6_drifts_90 rfl 92 rfl ?_
  refine r_ladd hC ((r 12) + (m_floored ((t 2) * (r 14)) (2 * (r 11)))) dX6_drifts_92  (rfl) 93 rfl ?_
  refine r_last (J := xSt F V0 [(b 0, .inr (5, mF b i j)), (b 7, .inl (1, 5, .inr (.inl t))), (a, .inl (1, 111, .inr (.inl (va_up u2 12 ((r 12) + (m_floored ((t 2) * (r 14)) (2 * (r 11))))))))]) hC 12 (xix_n 12 (Nat.le_of_ble_eq_true rfl) (Nat.le_of_ble_eq_true rfl)) (fun _ h => h.get 2 rfl) dX6_drifts_93 (fun _ h => h.set 2 _ rfl) 94 rfl ?_
  generalize hu3 : va_up u2 12 ((r 12) + (m_floored ((t 2) * (r 14)) (2 * (r 11)))) = u3
  refine r_iinc hC 1 5 1 [(5, .int 1), (6, .long (m_floored ((t 2) * (r 14)) (2 * (r 11)))), (4, .int 1), (0, .ref (b 0)), (1, .ref a), (2, .int 1), (3, .int 0)] dX6_drifts_94 rfl (by decide) (Nat.le_of_ble_eq_true rfl) rfl 97 rfl ?_
  refine r_goto hC 12 dX6_drifts_97 (by decide) ?_
  refine r_iload hC 0 dX6_drifts_12 rfl 14 rfl ?_
  refine r_iconst hC 2 dX6_drifts_14 ic_2 15 rfl ?_
  refine r_icge hC 100 dX6_drifts_15 (by decide) 18 rfl (fun h => absurd h (by decide)) (fun _ => ?_)
  refine r_aload_n hC 3 dX6_drifts_18 rfl 19 rfl ?_
  refine r_get (v := .ref (b 7)) hC kX6 7 rfl q2760 (fun _ h => h.get 0 rfl) rfl dX6_drifts_19 22 rfl ?_
  refine r_iconst hC 2 dX6_drifts_22 ic_2 23 rfl ?_
  refine r_lald hC 2 (xix_n 2 (Nat.le_of_ble_eq_true rfl) (Nat.le_of_ble_eq_true rfl)) (fun _ h => h.get 1 rfl) (t 2) (rfl) dX6_drifts_23 24 rfl ?_
  refine r_aload_n hC 4 dX6_drifts_24 rfl 25 rfl ?_
  refine r_iload hC 2 dX6_drifts_25 rfl 27 rfl ?_
  refine r_iconst hC 3 dX6_drifts_27 ic_3 28 rfl ?_
  refine r_iload hC 0 dX6_drifts_28 rfl 30 rfl ?_
  refine r_iadd hC 4 dX6_drifts_30  (by decide) 31 rfl ?_
  refine r_invSr hC [.int 1, .int 4] (.int 15) mSX6_at q2711 (metX6_at _ _ hG 1 4) (fun _ _ => xIn.nil) ⟨rfl, rfl⟩ 0 0 rfl rfl (Nat.le_of_ble_eq_true rfl) (Nat.le_of_ble_eq_true rfl) rfl (Nat.le_of_ble_eq_true rfl) dX6_drifts_31 34 rfl ?_
  refine r_lald hC 15 (xix_n 15 (Nat.le_of_ble_eq_true rfl) (Nat.le_of_ble_eq_true rfl)) (fun _ h => h.get 2 rfl) (r 15) (by rw [← hu3, ← hu2, ← hu1]; rfl) dX6_drifts_34 35 rfl ?_
  refine r_lmul hC ((t 2) * (r 15)) dX6_drifts_35  (rfl) 36 rfl ?_
  refine r_iload_n hC 5 dX6_drifts_36 rfl 37 rfl ?_
  refine r_ifeq hC 55 dX6_drifts_37 (by decide) 40 rfl (fun h => absurd h (by decide)) (fun _ => ?_)
  refine r_ldc2 hC q2728 dX6_drifts_40 43 rfl ?_
  refine r_aload_n hC 4 dX6_drifts_43 rfl 44 rfl ?_
  refine r_iload hC 2 dX6_drifts_44 rfl 46 rfl ?_
  refine r_iconst hC 0 dX6_drifts_46 ic_0 47 rfl ?_
  refine r_invSr hC [.int 1, .int 0] (.int 11) mSX6_at q2711 (metX6_at _ _ hG 1 0) (fun _ _ => xIn.nil) ⟨rfl, rfl⟩ 0 0 rfl rfl (Nat.le_of_ble_eq_true rfl) (Nat.le_of_ble_eq_true rfl) rfl (Nat.le_of_ble_eq_true rfl) dX6_drifts_47 50 rfl ?_
  refine r_lald hC 11 (xix_n 11 (Nat.le_of_ble_eq_true rfl) (Nat.le_of_ble_eq_true rfl)) (fun _ h => h.get 2 rfl) (r 11) (by rw [← hu3, ← hu2, ← hu1]; rfl) dX6_drifts_50 51 rfl ?_
  refine r_lmul hC (2 * (r 11)) dX6_drifts_51  (rfl) 52 rfl ?_
  refine r_goto hC 63 dX6_drifts_52 (by decide) ?_
  refine r_invSr hC [.long ((t 2) * (r 15)), .long (2 * (r 11))] (.long (m_floored ((t 2) * (r 15)) (2 * (r 11)))) mSX6_floored q3042 (metX6_floored _ _ hG ((t 2) * (r 15)) (2 * (r 11)) (hok.2.1.2.1)) (fun _ _ => xIn.nil) ⟨rfl, rfl⟩ 0 0 rfl rfl (Nat.le_of_ble_eq_true rfl) (Nat.le_of_ble_eq_true rfl) rfl (Nat.le_of_ble_eq_true rfl) dX6_drifts_63 66 rfl ?_
  refine r_lstore hC 6 [(6, .long (m_floored ((t 2) * (r 15)) (2 * (r 11)))), (5, .int 1), (4, .int 1), (0, .ref (b 0)), (1, .ref a), (2, .int 1), (3, .int 0)] dX6_drifts_66 (Nat.le_of_ble_eq_true rfl) rfl 68 rfl ?_
  refine r_aload_n hC 4 dX6_drifts_68 rfl 69 rfl ?_
  refine r_iload hC 2 dX6_drifts_69 rfl 71 rfl ?_
  refine r_iconst hC 1 dX6_drifts_71 ic_1 72 rfl ?_
  refine r_iload hC 1 dX6_drifts_72 rfl 74 rfl ?_
  refine r_iadd hC 2 dX6_drifts_74  (by decide) 75 rfl ?_
  refine r_invSr hC [.int 1, .int 2] (.int 13) mSX6_at q2711 (metX6_at _ _ hG 1 2) (fun _ _ => xIn.nil) ⟨rfl, rfl⟩ 0 0 rfl rfl (Nat.le_of_ble_eq_true rfl) (Nat.le_of_ble_eq_true rfl) rfl (Nat.le_of_ble_eq_true rfl) dX6_drifts_75 78 rfl ?_
  refine r_dup2 hC dX6_drifts_78 rfl rfl 79 rfl ?_
  refine r_lald hC 13 (xix_n 13 (Nat.le_of_ble_eq_true rfl) (Nat.le_of_ble_eq_true rfl)) (fun _ h => h.get 2 rfl) (r 13) (by rw [← hu3, ← hu2, ← hu1]; rfl) dX6_drifts_79 80 rfl ?_
  refine r_iload_n hC 6 dX6_drifts_80 rfl 81 rfl ?_
  refine r_ifeq hC 90 dX6_drifts_81 (by decide) 84 rfl (fun _ => ?_) (fun h => absurd h (by decide))
  refine r_lload hC 0 dX6_drifts_90 rfl 92 rfl ?_
  refine r_ladd hC ((r 13) + (m_floored ((t 2) * (r 15)) (2 * (r 11)))) dX6_drifts_92  (rfl) 93 rfl ?_
  refine r_last (J := xSt F V0 [(b 0, .inr (5, mF b i j)), (b 7, .inl (1, 5, .inr (.inl t))), (a, .inl (1, 111, .inr (.inl (va_up u3 13 ((r 13) + (m_floored ((t 2) * (r 15)) (2 * (r 11))))))))]) hC 13 (xix_n 13 (Nat.le_of_ble_eq_true rfl) (Nat.le_of_ble_eq_true rfl)) (fun _ h => h.get 2 rfl) dX6_drifts_93 (fun _ h => h.set 2 _ rfl) 94 rfl ?_
  generalize hu4 : va_up u3 13 ((r 13) + (m_floored ((t 2) * (r 15)) (2 * (r 11)))) = u4
  refine r_iinc hC 2 5 1 [(5, .int 2), (6, .long (m_floored ((t 2) * (r 15)) (2 * (r 11)))), (4, .int 1), (0, .ref (b 0)), (1, .ref a), (2, .int 1), (3, .int 0)] dX6_drifts_94 rfl (by decide) (Nat.le_of_ble_eq_true rfl) rfl 97 rfl ?_
  refine r_goto hC 12 dX6_drifts_97 (by decide) ?_
  refine r_iload hC 0 dX6_drifts_12 rfl 14 rfl ?_
  refine r_iconst hC 2 dX6_drifts_14 ic_2 15 rfl ?_
  refine r_icge hC 100 dX6_drifts_15 (by decide) 18 rfl (fun _ => ?_) (fun h => absurd h (by decide))
  refine r_iinc hC 2 4 2 [(4, .int 2), (5, .int 2), (6, .long (m_floored ((t 2) * (r 15)) (2 * (r 11)))), (0, .ref (b 0)), (1, .ref a), (2, .int 1), (3, .int 0)] dX6_drifts_100 rfl (by decide) (Nat.le_of_ble_eq_true rfl) rfl 103 rfl ?_
  refine r_goto hC 3 dX6_drifts_103 (by decide) ?_
  refine r_iload hC 0 dX6_drifts_3 rfl 5 rfl ?_
  refine r_iconst hC 3 dX6_drifts_5 ic_3 6 rfl ?_
  refine r_icge hC 106 dX6_drifts_6 (by decide) 9 rfl (fun h => absurd h (by decide)) (fun _ => ?_)
  refine r_iconst hC 0 dX6_drifts_9 ic_0 10 rfl ?_
  refine r_istore hC 5 [(5, .int 0), (4, .int 2), (6, .long (m_floored ((t 2) * (r 15)) (2 * (r 11)))), (0, .ref (b 0)), (1, .ref a), (2, .int 1), (3, .int 0)] dX6_drifts_10 (Nat.le_of_ble_eq_true rfl) rfl 12 rfl ?_
  refine r_iload hC 0 dX6_drifts_12 rfl 14 rfl ?_
  refine r_iconst hC 2 dX6_drifts_14 ic_2 15 rfl ?_
  refine r_icge hC 100 dX6_drifts_15 (by decide) 18 rfl (fun h => absurd h (by decide)) (fun _ => ?_)
  refine r_aload_n hC 3 dX6_drifts_18 rfl 19 rfl ?_
  refine r_get (v := .ref (b 7)) hC kX6 7 rfl q2760 (fun _ h => h.get 0 rfl) rfl dX6_drifts_19 22 rfl ?_
  refine r_iconst hC 2 dX6_drifts_22 ic_2 23 rfl ?_
  refine r_lald hC 2 (xix_n 2 (Nat.le_of_ble_eq_true rfl) (Nat.le_of_ble_eq_true rfl)) (fun _ h => h.get 1 rfl) (t 2) (rfl) dX6_drifts_23 24 rfl ?_
  refine r_aload_n hC 4 dX6_drifts_24 rfl 25 rfl ?_
  refine r_iload hC 1 dX6_drifts_25 rfl 27 rfl ?_
  refine r_iconst hC 3 dX6_drifts_27 ic_3 28 rfl ?_
  refine r_iload hC 0 dX6_drifts_28 rfl 30 rfl ?_
  refine r_iadd hC 3 dX6_drifts_30  (by decide) 31 rfl ?_
  refine r_invSr hC [.int 2, .int 3] (.int 19) mSX6_at q2711 (metX6_at _ _ hG 2 3) (fun _ _ => xIn.nil) ⟨rfl, rfl⟩ 0 0 rfl rfl (Nat.le_of_ble_eq_true rfl) (Nat.le_of_ble_eq_true rfl) rfl (Nat.le_of_ble_eq_true rfl) dX6_drifts_31 34 rfl ?_
  refine r_lald hC 19 (xix_n 19 (Nat.le_of_ble_eq_true rfl) (Nat.le_of_ble_eq_true rfl)) (fun _ h => h.get 2 rfl) (r 19) (by rw [← hu4, ← hu3, ← hu2, ← hu1]; rfl) dX6_drifts_34 35 rfl ?_
  refine r_lmul hC ((t 2) * (r 19)) dX6_drifts_35  (rfl) 36 rfl ?_
  refine r_iload_n hC 5 dX6_drifts_36 rfl 37 rfl ?_
  refine r_ifeq hC 55 dX6_drifts_37 (by decide) 40 rfl (fun h => absurd h (by decide)) (fun _ => ?_)
  refine r_ldc2 hC q2728 dX6_drifts_40 43 rfl ?_
  refine r_aload_n hC 4 dX6_drifts_43 rfl 44 rfl ?_
  refine r_iload hC 1 dX6_drifts_44 rfl 46 rfl ?_
  refine r_iconst hC 0 dX6_drifts_46 ic_0 47 rfl ?_
  refine r_invSr hC [.int 2, .int 0] (.int 16) mSX6_at q2711 (metX6_at _ _ hG 2 0) (fun _ _ => xIn.nil) ⟨rfl, rfl⟩ 0 0 rfl rfl (Nat.le_of_ble_eq_true rfl) (Nat.le_of_ble_eq_true rfl) rfl (Nat.le_of_ble_eq_true rfl) dX6_drifts_47 50 rfl ?_
  refine r_lald hC 16 (xix_n 16 (Nat.le_of_ble_eq_true rfl) (Nat.le_of_ble_eq_true rfl)) (fun _ h => h.get 2 rfl) (r 16) (by rw [← hu4, ← hu3, ← hu2, ← hu1]; rfl) dX6_drifts_50 51 rfl ?_
  refine r_lmul hC (2 * (r 16)) dX6_drifts_51  (rfl) 52 rfl ?_
  refine r_goto hC 63 dX6_drifts_52 (by decide) ?_
  refine r_invSr hC [.long ((t 2) * (r 19)), .long (2 * (r 16))] (.long (m_floored ((t 2) * (r 19)) (2 * (r 16)))) mSX6_floored q3042 (metX6_floored _ _ hG ((t 2) * (r 19)) (2 * (r 16)) (hok.2.1.2.2)) (fun _ _ => xIn.nil) ⟨rfl, rfl⟩ 0 0 rfl rfl (Nat.le_of_ble_eq_true rfl) (Nat.le_of_ble_eq_true rfl) rfl (Nat.le_of_ble_eq_true rfl) dX6_drifts_63 66 rfl ?_
  refine r_lstore hC 6 [(6, .long (m_floored ((t 2) * (r 19)) (2 * (r 16)))), (5, .int 0), (4, .int 2), (0, .ref (b 0)), (1, .ref a), (2, .int 1), (3, .int 0)] dX6_drifts_66 (Nat.le_of_ble_eq_true rfl) rfl 68 rfl ?_
  refine r_aload_n hC 4 dX6_drifts_68 rfl 69 rfl ?_
  refine r_iload hC 2 dX6_drifts_69 rfl 71 rfl ?_
  refine r_iconst hC 1 dX6_drifts_71 ic_1 72 rfl ?_
  refine r_iload hC 1 dX6_drifts_72 rfl 74 rfl ?_
  refine r_iadd hC 1 dX6_drifts_74  (by decide) 75 rfl ?_
  refine r_invSr hC [.int 2, .int 1] (.int 17) mSX6_at q2711 (metX6_at _ _ hG 2 1) (fun _ _ => xIn.nil) ⟨rfl, rfl⟩ 0 0 rfl rfl (Nat.le_of_ble_eq_true rfl) (Nat.le_of_ble_eq_true rfl) rfl (Nat.le_of_ble_eq_true rfl) dX6_drifts_75 78 rfl ?_
  refine r_dup2 hC dX6_drifts_78 rfl rfl 79 rfl ?_
  refine r_lald hC 17 (xix_n 17 (Nat.le_of_ble_eq_true rfl) (Nat.le_of_ble_eq_true rfl)) (fun _ h => h.get 2 rfl) (r 17) (by rw [← hu4, ← hu3, ← hu2, ← hu1]; rfl) dX6_drifts_79 80 rfl ?_
  refine r_iload_n hC 6 dX6_drifts_80 rfl 81 rfl ?_
  refine r_ifeq hC 90 dX6_drifts_81 (by decide) 84 rfl (fun _ => ?_) (fun h => absurd h (by decide))
  refine r_lload hC 0 dX6_drifts_90 rfl 92 rfl ?_
  refine r_ladd hC ((r 17) + (m_floored ((t 2) * (r 19)) (2 * (r 16)))) dX6_drifts_92  (rfl) 93 rfl ?_
  refine r_last (J := xSt F V0 [(b 0, .inr (5, mF b i j)), (b 7, .inl (1, 5, .inr (.inl t))), (a, .inl (1, 111, .inr (.inl (va_up u4 17 ((r 17) + (m_floored ((t 2) * (r 19)) (2 * (r 16))))))))]) hC 17 (xix_n 17 (Nat.le_of_ble_eq_true rfl) (Nat.le_of_ble_eq_true rfl)) (fun _ h => h.get 2 rfl) dX6_drifts_93 (fun _ h => h.set 2 _ rfl) 94 rfl ?_
  generalize hu5 : va_up u4 17 ((r 17) + (m_floored ((t 2) * (r 19)) (2 * (r 16)))) = u5
  refine r_iinc hC 1 5 1 [(5, .int 1), (6, .long (m_floored ((t 2) * (r 19)) (2 * (r 16)))), (4, .int 2), (0, .ref (b 0)), (1, .ref a), (2, .int 1), (3, .int 0)] dX6_drifts_94 rfl (by decide) (Nat.le_of_ble_eq_true rfl) rfl 97 rfl ?_
  refine r_goto hC 12 dX6_drifts_97 (by decide) ?_
  refine r_iload hC 0 dX6_drifts_12 rfl 14 rfl ?_
  refine r_iconst hC 2 dX6_drifts_14 ic_2 15 rfl ?_
  refine r_icge hC 100 dX6_drifts_15 (by decide) 18 rfl (fun h => absurd h (by decide)) (fun _ => ?_)
  refine r_aload_n hC 3 dX6_drifts_18 rfl 19 rfl ?_
  refine r_get (v := .ref (b 7)) hC kX6 7 rfl q2760 (fun _ h => h.get 0 rfl) rfl dX6_drifts_19 22 rfl ?_
  refine r_iconst hC 2 dX6_drifts_22 ic_2 23 rfl ?_
  refine r_lald hC 2 (xix_n 2 (Nat.le_of_ble_eq_true rfl) (Nat.le_of_ble_eq_true rfl)) (fun _ h => h.get 1 rfl) (t 2) (rfl) dX6_drifts_23 24 rfl ?_
  refine r_aload_n hC 4 dX6_drifts_24 rfl 25 rfl ?_
  refine r_iload hC 2 dX6_drifts_25 rfl 27 rfl ?_
  refine r_iconst hC 3 dX6_drifts_27 ic_3 28 rfl ?_
  refine r_iload hC 0 dX6_drifts_28 rfl 30 rfl ?_
  refine r_iadd hC 4 dX6_drifts_30  (by decide) 31 rfl ?_
  refine r_invSr hC [.int 2, .int 4] (.int 20) mSX6_at q2711 (metX6_at _ _ hG 2 4) (fun _ _ => xIn.nil) ⟨rfl, rfl⟩ 0 0 rfl rfl (Nat.le_of_ble_eq_true rfl) (Nat.le_of_ble_eq_true rfl) rfl (Nat.le_of_ble_eq_true rfl) dX6_drifts_31 34 rfl ?_
  refine r_lald hC 20 (xix_n 20 (Nat.le_of_ble_eq_true rfl) (Nat.le_of_ble_eq_true rfl)) (fun _ h => h.get 2 rfl) (r 20) (by rw [← hu5, ← hu4, ← hu3, ← hu2, ← hu1]; rfl) dX6_drifts_34 35 rfl ?_
  refine r_lmul hC ((t 2) * (r 20)) dX6_drifts_35  (rfl) 36 rfl ?_
  refine r_iload_n hC 5 dX6_drifts_36 rfl 37 rfl ?_
  refine r_ifeq hC 55 dX6_drifts_37 (by decide) 40 rfl (fun h => absurd h (by decide)) (fun _ => ?_)
  refine r_ldc2 hC q2728 dX6_drifts_40 43 rfl ?_
  refine r_aload_n hC 4 dX6_drifts_43 rfl 44 rfl ?_
  refine r_iload hC 2 dX6_drifts_44 rfl 46 rfl ?_
  refine r_iconst hC 0 dX6_drifts_46 ic_0 47 rfl ?_
  refine r_invSr hC [.int 2, .int 0] (.int 16) mSX6_at q2711 (metX6_at _ _ hG 2 0) (fun _ _ => xIn.nil) ⟨rfl, rfl⟩ 0 0 rfl rfl (Nat.le_of_ble_eq_true rfl) (Nat.le_of_ble_eq_true rfl) rfl (Nat.le_of_ble_eq_true rfl) dX6_drifts_47 50 rfl ?_
  refine r_lald hC 16 (xix_n 16 (Nat.le_of_ble_eq_true rfl) (Nat.le_of_ble_eq_true rfl)) (fun _ h => h.get 2 rfl) (r 16) (by rw [← hu5, ← hu4, ← hu3, ← hu2, ← hu1]; rfl) dX6_drifts_50 51 rfl ?_
  refine r_lmul hC (2 * (r 16)) dX6_drifts_51  (rfl) 52 rfl ?_
  refine r_goto hC 63 dX6_drifts_52 (by decide) ?_
  refine r_invSr hC [.long ((t 2) * (r 20)), .long (2 * (r 16))] (.long (m_floored ((t 2) * (r 20)) (2 * (r 16)))) mSX6_floored q3042 (metX6_floored _ _ hG ((t 2) * (r 20)) (2 * (r 16)) (hok.2.1.2.2)) (fun _ _ => xIn.nil) ⟨rfl, rfl⟩ 0 0 rfl rfl (Nat.le_of_ble_eq_true rfl) (Nat.le_of_ble_eq_true rfl) rfl (Nat.le_of_ble_eq_true rfl) dX6_drifts_63 66 rfl ?_
  refine r_lstore hC 6 [(6, .long (m_floored ((t 2) * (r 20)) (2 * (r 16)))), (5, .int 1), (4, .int 2), (0, .ref (b 0)), (1, .ref a), (2, .int 1), (3, .int 0)] dX6_drifts_66 (Nat.le_of_ble_eq_true rfl) rfl 68 rfl ?_
  refine r_aload_n hC 4 dX6_drifts_68 rfl 69 rfl ?_
  refine r_iload hC 2 dX6_drifts_69 rfl 71 rfl ?_
  refine r_iconst hC 1 dX6_drifts_71 ic_1 72 rfl ?_
  refine r_iload hC 1 dX6_drifts_72 rfl 74 rfl ?_
  refine r_iadd hC 2 dX6_drifts_74  (by decide) 75 rfl ?_
  refine r_invSr hC [.int 2, .int 2] (.int 18) mSX6_at q2711 (metX6_at _ _ hG 2 2) (fun _ _ => xIn.nil) ⟨rfl, rfl⟩ 0 0 rfl rfl (Nat.le_of_ble_eq_true rfl) (Nat.le_of_ble_eq_true rfl) rfl (Nat.le_of_ble_eq_true rfl) dX6_drifts_75 78 rfl ?_
  refine r_dup2 hC dX6_drifts_78 rfl rfl 79 rfl ?_
  refine r_lald hC 18 (xix_n 18 (Nat.le_of_ble_eq_true rfl) (Nat.le_of_ble_eq_true rfl)) (fun _ h => h.get 2 rfl) (r 18) (by rw [← hu5, ← hu4, ← hu3, ← hu2, ← hu1]; rfl) dX6_drifts_79 80 rfl ?_
  refine r_iload_n hC 6 dX6_drifts_80 rfl 81 rfl ?_
  refine r_ifeq hC 90 dX6_drifts_81 (by decide) 84 rfl (fun _ => ?_) (fun h => absurd h (by decide))
  refine r_lload hC 0 dX6_drifts_90 rfl 92 rfl ?_
  refine r_ladd hC ((r 18) + (m_floored ((t 2) * (r 20)) (2 * (r 16)))) dX6_drifts_92  (rfl) 93 rfl ?_
  refine r_last (J := xSt F V0 [(b 0, .inr (5, mF b i j)), (b 7, .inl (1, 5, .inr (.inl t))), (a, .inl (1, 111, .inr (.inl (va_up u5 18 ((r 18) + (m_floored ((t 2) * (r 20)) (2 * (r 16))))))))]) hC 18 (xix_n 18 (Nat.le_of_ble_eq_true rfl) (Nat.le_of_ble_eq_true rfl)) (fun _ h => h.get 2 rfl) dX6_drifts_93 (fun _ h => h.set 2 _ rfl) 94 rfl ?_
  generalize hu6 : va_up u5 18 ((r 18) + (m_floored ((t 2) * (r 20)) (2 * (r 16)))) = u6
  refine r_iinc hC 2 5 1 [(5, .int 2), (6, .long (m_floored ((t 2) * (r 20)) (2 * (r 16)))), (4, .int 2), (0, .ref (b 0)), (1, .ref a), (2, .int 1), (3, .int 0)] dX6_drifts_94 rfl (by decide) (Nat.le_of_ble_eq_true rfl) rfl 97 rfl ?_
  refine r_goto hC 12 dX6_drifts_97 (by decide) ?_
  refine r_iload hC 0 dX6_drifts_12 rfl 14 rfl ?_
  refine r_iconst hC 2 dX6_drifts_14 ic_2 15 rfl ?_
  refine r_icge hC 100 dX6_drifts_15 (by decide) 18 rfl (fun _ => ?_) (fun h => absurd h (by decide))
  refine r_iinc hC 3 4 2 [(4, .int 3), (5, .int 2), (6, .long (m_floored ((t 2) * (r 20)) (2 * (r 16)))), (0, .ref (b 0)), (1, .ref a), (2, .int 1), (3, .int 0)] dX6_drifts_100 rfl (by decide) (Nat.le_of_ble_eq_true rfl) rfl 103 rfl ?_
  refine r_goto hC 3 dX6_drifts_103 (by decide) ?_
  refine r_iload hC 0 dX6_drifts_3 rfl 5 rfl ?_
  refine r_iconst hC 3 dX6_drifts_5 ic_3 6 rfl ?_
  refine r_icge hC 106 dX6_drifts_6 (by decide) 9 rfl (fun _ => ?_) (fun h => absurd h (by decide))
  subst hu6
  subst hu5
  subst hu4
  subst hu3
  subst hu2
  subst hu1
  exact r_vret hC (Nat.le_of_ble_eq_true rfl) (Nat.le_of_ble_eq_true rfl) (fun V9 h => hQ _ _ ⟨[(b 0, .inr (5, mF b i j)), (b 7, .inl (1, 5, .inr (.inl t))), (a, .inl (1, 111, .inr (.inl (va_up (va_up (va_up (va_up (va_up (va_up r 7 ((r 7) + (m_floored ((t 2) * (r 9)) (2 * (r 6))))) 8 ((r 8) + (m_floored ((t 2) * (r 10)) (2 * (r 6))))) 12 ((r 12) + (m_floored ((t 2) * (r 14)) (2 * (r 11))))) 13 ((r 13) + (m_floored ((t 2) * (r 15)) (2 * (r 11))))) 17 ((r 17) + (m_floored ((t 2) * (r 19)) (2 * (r 16))))) 18 ((r 18) + (m_floored ((t 2) * (r 20)) (2 * (r 16))))))))], ⟨rfl, rfl⟩, by rw [← hV0, ← hF]; exact h⟩) dX6_drifts_106
set_option maxHeartbeats 4000000 in
set_option maxRecDepth 100000 in
theorem metX6_drifts11 (l : Launch) (G : xG) (hG : xGood G) (b : Nat → Nat) (i : Nat → Int32) (j : Nat → Int64) (t : Nat → Int64) (a : Nat) (r : Nat → Int64) (hok : rowOK t r) : xWm l G yX6_drifts (Cond.code yX6_drifts cX6_drifts 8 none) { frames := 1, locals := 25, cells := 0, slots := 0 } [.ref (b 0), .ref a, .int 1, .int 1] [(b 0, .inr (5, mF b i j)), (b 7, .inl (1, 5, .inr (.inl t))), (a, .inl (1, 111, .inr (.inl r)))] (fun v w' => v = none ∧ w' = [(b 0, .inr (5, mF b i j)), (b 7, .inl (1, 5, .inr (.inl t))), (a, .inl (1, 111, .inr (.inl (driftQ t r true true))))]) (fun _ _ => False) := by
  intro V hV
  refine xMet_of RX6 hG rfl (by decide) (Nat.le_of_ble_eq_true rfl) fun C hC hQ hX hl hg _ => ?_
  subst hl hg
  obtain ⟨V0, hV0⟩ : ∃ V0, V0 = V := ⟨_, rfl⟩
  obtain ⟨F, hF⟩ : ∃ F, F = xF [(b 0, .inr (5, mF b i j)), (b 7, .inl (1, 5, .inr (.inl t))), (a, .inl (1, 111, .inr (.inl r)))] := ⟨_, rfl⟩
  refine rn.mono (J := xSt F V0 [(b 0, .inr (5, mF b i j)), (b 7, .inl (1, 5, .inr (.inl t))), (a, .inl (1, 111, .inr (.inl r)))]) (fun V9 h => by rw [h, hV0, hF]; exact hV.st) ?_
  show rn C (xSt F V0 [(b 0, .inr (5, mF b i j)), (b 7, .inl (1, 5, .inr (.inl t))), (a, .inl (1, 111, .inr (.inl r)))]) 0 0 0 [(0, .ref (b 0)), (1, .ref a), (2, .int 1), (3, .int 1)] []
  refine r_iconst hC 0 dX6_drifts_0 ic_0 1 rfl ?_
  refine r_istore hC 4 [(4, .int 0), (0, .ref (b 0)), (1, .ref a), (2, .int 1), (3, .int 1)] dX6_drifts_1 (Nat.le_of_ble_eq_true rfl) rfl 3 rfl ?_
  refine r_iload hC 0 dX6_drifts_3 rfl 5 rfl ?_
  refine r_iconst hC 3 dX6_drifts_5 ic_3 6 rfl ?_
  refine r_icge hC 106 dX6_drifts_6 (by decide) 9 rfl (fun h => absurd h (by decide)) (fun _ => ?_)
  refine r_iconst hC 0 dX6_drifts_9 ic_0 10 rfl ?_
  refine r_istore hC 5 [(5, .int 0), (4, .int 0), (0, .ref (b 0)), (1, .ref a), (2, .int 1), (3, .int 1)] dX6_drifts_10 (Nat.le_of_ble_eq_true rfl) rfl 12 rfl ?_
  refine r_iload hC 0 dX6_drifts_12 rfl 14 rfl ?_
  refine r_iconst hC 2 dX6_drifts_14 ic_2 15 rfl ?_
  refine r_icge hC 100 dX6_drifts_15 (by decide) 18 rfl (fun h => absurd h (by decide)) (fun _ => ?_)
  refine r_aload_n hC 2 dX6_drifts_18 rfl 19 rfl ?_
  refine r_get (v := .ref (b 7)) hC kX6 7 rfl q2760 (fun _ h => h.get 0 rfl) rfl dX6_drifts_19 22 rfl ?_
  refine r_iconst hC 2 dX6_drifts_22 ic_2 23 rfl ?_
  refine r_lald hC 2 (xix_n 2 (Nat.le_of_ble_eq_true rfl) (Nat.le_of_ble_eq_true rfl)) (fun _ h => h.get 1 rfl) (t 2) (rfl) dX6_drifts_23 24 rfl ?_
  refine r_aload_n hC 3 dX6_drifts_24 rfl 25 rfl ?_
  refine r_iload hC 1 dX6_drifts_25 rfl 27 rfl ?_
  refine r_iconst hC 3 dX6_drifts_27 ic_3 28 rfl ?_
  refine r_iload hC 0 dX6_drifts_28 rfl 30 rfl ?_
  refine r_iadd hC 3 dX6_drifts_30  (by decide) 31 rfl ?_
  refine r_invSr hC [.int 0, .int 3] (.int 9) mSX6_at q2711 (metX6_at _ _ hG 0 3) (fun _ _ => xIn.nil) ⟨rfl, rfl⟩ 0 0 rfl rfl (Nat.le_of_ble_eq_true rfl) (Nat.le_of_ble_eq_true rfl) rfl (Nat.le_of_ble_eq_true rfl) dX6_drifts_31 34 rfl ?_
  refine r_lald hC 9 (xix_n 9 (Nat.le_of_ble_eq_true rfl) (Nat.le_of_ble_eq_true rfl)) (fun _ h => h.get 2 rfl) (r 9) (rfl) dX6_drifts_34 35 rfl ?_
  refine r_lmul hC ((t 2) * (r 9)) dX6_drifts_35  (rfl) 36 rfl ?_
  refine r_iload_n hC 4 dX6_drifts_36 rfl 37 rfl ?_
  refine r_ifeq hC 55 dX6_drifts_37 (by decide) 40 rfl (fun h => absurd h (by decide)) (fun _ => ?_)
  refine r_ldc2 hC q2728 dX6_drifts_40 43 rfl ?_
  refine r_aload_n hC 3 dX6_drifts_43 rfl 44 rfl ?_
  refine r_iload hC 1 dX6_drifts_44 rfl 46 rfl ?_
  refine r_iconst hC 0 dX6_drifts_46 ic_0 47 rfl ?_
  refine r_invSr hC [.int 0, .int 0] (.int 6) mSX6_at q2711 (metX6_at _ _ hG 0 0) (fun _ _ => xIn.nil) ⟨rfl, rfl⟩ 0 0 rfl rfl (Nat.le_of_ble_eq_true rfl) (Nat.le_of_ble_eq_true rfl) rfl (Nat.le_of_ble_eq_true rfl) dX6_drifts_47 50 rfl ?_
  refine r_lald hC 6 (xix_n 6 (Nat.le_of_ble_eq_true rfl) (Nat.le_of_ble_eq_true rfl)) (fun _ h => h.get 2 rfl) (r 6) (rfl) dX6_drifts_50 51 rfl ?_
  refine r_lmul hC (2 * (r 6)) dX6_drifts_51  (rfl) 52 rfl ?_
  refine r_goto hC 63 dX6_drifts_52 (by decide) ?_
  refine r_invSr hC [.long ((t 2) * (r 9)), .long (2 * (r 6))] (.long (m_floored ((t 2) * (r 9)) (2 * (r 6)))) mSX6_floored q3042 (metX6_floored _ _ hG ((t 2) * (r 9)) (2 * (r 6)) (hok.2.1.1)) (fun _ _ => xIn.nil) ⟨rfl, rfl⟩ 0 0 rfl rfl (Nat.le_of_ble_eq_true rfl) (Nat.le_of_ble_eq_true rfl) rfl (Nat.le_of_ble_eq_true rfl) dX6_drifts_63 66 rfl ?_
  refine r_lstore hC 6 [(6, .long (m_floored ((t 2) * (r 9)) (2 * (r 6)))), (5, .int 0), (4, .int 0), (0, .ref (b 0)), (1, .ref a), (2, .int 1), (3, .int 1)] dX6_drifts_66 (Nat.le_of_ble_eq_true rfl) rfl 68 rfl ?_
  refine r_aload_n hC 4 dX6_drifts_68 rfl 69 rfl ?_
  refine r_iload hC 2 dX6_drifts_69 rfl 71 rfl ?_
  refine r_iconst hC 1 dX6_drifts_71 ic_1 72 rfl ?_
  refine r_iload hC 1 dX6_drifts_72 rfl 74 rfl ?_
  refine r_iadd hC 1 dX6_drifts_74  (by decide) 75 rfl ?_
  refine r_invSr hC [.int 0, .int 1] (.int 7) mSX6_at q2711 (metX6_at _ _ hG 0 1) (fun _ _ => xIn.nil) ⟨rfl, rfl⟩ 0 0 rfl rfl (Nat.le_of_ble_eq_true rfl) (Nat.le_of_ble_eq_true rfl) rfl (Nat.le_of_ble_eq_true rfl) dX6_drifts_75 78 rfl ?_
  refine r_dup2 hC dX6_drifts_78 rfl rfl 79 rfl ?_
  refine r_lald hC 7 (xix_n 7 (Nat.le_of_ble_eq_true rfl) (Nat.le_of_ble_eq_true rfl)) (fun _ h => h.get 2 rfl) (r 7) (rfl) dX6_drifts_79 80 rfl ?_
  refine r_iload_n hC 6 dX6_drifts_80 rfl 81 rfl ?_
  refine r_ifeq hC 90 dX6_drifts_81 (by decide) 84 rfl (fun h => absurd h (by decide)) (fun _ => ?_)
  refine r_lload hC 0 dX6_drifts_84 rfl 86 rfl ?_
  refine r_lneg hC (-(m_floored ((t 2) * (r 9)) (2 * (r 6)))) dX6_drifts_86 (rfl) 87 rfl ?_
  refine r_goto hC 92 dX6_drifts_87 (by decide) ?_
  refine r_ladd hC ((r 7) + (-(m_floored ((t 2) * (r 9)) (2 * (r 6))))) dX6_drifts_92  (rfl) 93 rfl ?_
  refine r_last (J := xSt F V0 [(b 0, .inr (5, mF b i j)), (b 7, .inl (1, 5, .inr (.inl t))), (a, .inl (1, 111, .inr (.inl (va_up r 7 ((r 7) + (-(m_floored ((t 2) * (r 9)) (2 * (r 6)))))))))]) hC 7 (xix_n 7 (Nat.le_of_ble_eq_true rfl) (Nat.le_of_ble_eq_true rfl)) (fun _ h => h.get 2 rfl) dX6_drifts_93 (fun _ h => h.set 2 _ rfl) 94 rfl ?_
  generalize hu1 : va_up r 7 ((r 7) + (-(m_floored ((t 2) * (r 9)) (2 * (r 6))))) = u1
  refine r_iinc hC 1 5 1 [(5, .int 1), (6, .long (m_floored ((t 2) * (r 9)) (2 * (r 6)))), (4, .int 0), (0, .ref (b 0)), (1, .ref a), (2, .int 1), (3, .int 1)] dX6_drifts_94 rfl (by decide) (Nat.le_of_ble_eq_true rfl) rfl 97 rfl ?_
  refine r_goto hC 12 dX6_drifts_97 (by decide) ?_
  refine r_iload hC 0 dX6_drifts_12 rfl 14 rfl ?_
  refine r_iconst hC 2 dX6_drifts_14 ic_2 15 rfl ?_
  refine r_icge hC 100 dX6_drifts_15 (by decide) 18 rfl (fun h => absurd h (by decide)) (fun _ => ?_)
  refine r_aload_n hC 3 dX6_drifts_18 rfl 19 rfl ?_
  refine r_get (v := .ref (b 7)) hC kX6 7 rfl q2760 (fun _ h => h.get 0 rfl) rfl dX6_drifts_19 22 rfl ?_
  refine r_iconst hC 2 dX6_drifts_22 ic_2 23 rfl ?_
  refine r_lald hC 2 (xix_n 2 (Nat.le_of_ble_eq_true rfl) (Nat.le_of_ble_eq_true rfl)) (fun _ h => h.get 1 rfl) (t 2) (rfl) dX6_drifts_23 24 rfl ?_
  refine r_aload_n hC 4 dX6_drifts_24 rfl 25 rfl ?_
  refine r_iload hC 2 dX6_drifts_25 rfl 27 rfl ?_
  refine r_iconst hC 3 dX6_drifts_27 ic_3 28 rfl ?_
  refine r_iload hC 0 dX6_drifts_28 rfl 30 rfl ?_
  refine r_iadd hC 4 dX6_drifts_30  (by decide) 31 rfl ?_
  refine r_invSr hC [.int 0, .int 4] (.int 10) mSX6_at q2711 (metX6_at _ _ hG 0 4) (fun _ _ => xIn.nil) ⟨rfl, rfl⟩ 0 0 rfl rfl (Nat.le_of_ble_eq_true rfl) (Nat.le_of_ble_eq_true rfl) rfl (Nat.le_of_ble_eq_true rfl) dX6_drifts_31 34 rfl ?_
  refine r_lald hC 10 (xix_n 10 (Nat.le_of_ble_eq_true rfl) (Nat.le_of_ble_eq_true rfl)) (fun _ h => h.get 2 rfl) (r 10) (by rw [← hu1]; rfl) dX6_drifts_34 35 rfl ?_
  refine r_lmul hC ((t 2) * (r 10)) dX6_drifts_35  (rfl) 36 rfl ?_
  refine r_iload_n hC 5 dX6_drifts_36 rfl 37 rfl ?_
  refine r_ifeq hC 55 dX6_drifts_37 (by decide) 40 rfl (fun h => absurd h (by decide)) (fun _ => ?_)
  refine r_ldc2 hC q2728 dX6_drifts_40 43 rfl ?_
  refine r_aload_n hC 4 dX6_drifts_43 rfl 44 rfl ?_
  refine r_iload hC 2 dX6_drifts_44 rfl 46 rfl ?_
  refine r_iconst hC 0 dX6_drifts_46 ic_0 47 rfl ?_
  refine r_invSr hC [.int 0, .int 0] (.int 6) mSX6_at q2711 (metX6_at _ _ hG 0 0) (fun _ _ => xIn.nil) ⟨rfl, rfl⟩ 0 0 rfl rfl (Nat.le_of_ble_eq_true rfl) (Nat.le_of_ble_eq_true rfl) rfl (Nat.le_of_ble_eq_true rfl) dX6_drifts_47 50 rfl ?_
  refine r_lald hC 6 (xix_n 6 (Nat.le_of_ble_eq_true rfl) (Nat.le_of_ble_eq_true rfl)) (fun _ h => h.get 2 rfl) (r 6) (by rw [← hu1]; rfl) dX6_drifts_50 51 rfl ?_
  refine r_lmul hC (2 * (r 6)) dX6_drifts_51  (rfl) 52 rfl ?_
  refine r_goto hC 63 dX6_drifts_52 (by decide) ?_
  refine r_invSr hC [.long ((t 2) * (r 10)), .long (2 * (r 6))] (.long (m_floored ((t 2) * (r 10)) (2 * (r 6)))) mSX6_floored q3042 (metX6_floored _ _ hG ((t 2) * (r 10)) (2 * (r 6)) (hok.2.1.1)) (fun _ _ => xIn.nil) ⟨rfl, rfl⟩ 0 0 rfl rfl (Nat.le_of_ble_eq_true rfl) (Nat.le_of_ble_eq_true rfl) rfl (Nat.le_of_ble_eq_true rfl) dX6_drifts_63 66 rfl ?_
  refine r_lstore hC 6 [(6, .long (m_floored ((t 2) * (r 10)) (2 * (r 6)))), (5, .int 1), (4, .int 0), (0, .ref (b 0)), (1, .ref a), (2, .int 1), (3, .int 1)] dX6_drifts_66 (Nat.le_of_ble_eq_true rfl) rfl 68 rfl ?_
  refine r_aload_n hC 4 dX6_drifts_68 rfl 69 rfl ?_
  refine r_iload hC 2 dX6_drifts_69 rfl 71 rfl ?_
  refine r_iconst hC 1 dX6_drifts_71 ic_1 72 rfl ?_
  refine r_iload hC 1 dX6_drifts_72 rfl 74 rfl ?_
  refine r_iadd hC 2 dX6_drifts_74  (by decide) 75 rfl ?_
  refine r_invSr hC [.int 0, .int 2] (.int 8) mSX6_at q2711 (metX6_at _ _ hG 0 2) (fun _ _ => xIn.nil) ⟨rfl, rfl⟩ 0 0 rfl rfl (Nat.le_of_ble_eq_true rfl) (Nat.le_of_ble_eq_true rfl) rfl (Nat.le_of_ble_eq_true rfl) dX6_drifts_75 78 rfl ?_
  refine r_dup2 hC dX6_drifts_78 rfl rfl 79 rfl ?_
  refine r_lald hC 8 (xix_n 8 (Nat.le_of_ble_eq_true rfl) (Nat.le_of_ble_eq_true rfl)) (fun _ h => h.get 2 rfl) (r 8) (by rw [← hu1]; rfl) dX6_drifts_79 80 rfl ?_
  refine r_iload_n hC 6 dX6_drifts_80 rfl 81 rfl ?_
  refine r_ifeq hC 90 dX6_drifts_81 (by decide) 84 rfl (fun h => absurd h (by decide)) (fun _ => ?_)
  refine r_lload hC 0 dX6_drifts_84 rfl 86 rfl ?_
  refine r_lneg hC (-(m_floored ((t 2) * (r 10)) (2 * (r 6)))) dX6_drifts_86 (rfl) 87 rfl ?_
  refine r_goto hC 92 dX6_drifts_87 (by decide) ?_
  refine r_ladd hC ((r 8) + (-(m_floored ((t 2) * (r 10)) (2 * (r 6))))) dX6_drifts_92  (rfl) 93 rfl ?_
  refine r_last (J := xSt F V0 [(b 0, .inr (5, mF b i j)), (b 7, .inl (1, 5, .inr (.inl t))), (a, .inl (1, 111, .inr (.inl (va_up u1 8 ((r 8) + (-(m_floored ((t 2) * (r 10)) (2 * (r 6)))))))))]) hC 8 (xix_n 8 (Nat.le_of_ble_eq_true rfl) (Nat.le_of_ble_eq_true rfl)) (fun _ h => h.get 2 rfl) dX6_drifts_93 (fun _ h => h.set 2 _ rfl) 94 rfl ?_
  generalize hu2 : va_up u1 8 ((r 8) + (-(m_floored ((t 2) * (r 10)) (2 * (r 6))))) = u2
  refine r_iinc hC 2 5 1 [(5, .int 2), (6, .long (m_floored ((t 2) * (r 10)) (2 * (r 6)))), (4, .int 0), (0, .ref (b 0)), (1, .ref a), (2, .int 1), (3, .int 1)] dX6_drifts_94 rfl (by decide) (Nat.le_of_ble_eq_true rfl) rfl 97 rfl ?_
  refine r_goto hC 12 dX6_drifts_97 (by decide) ?_
  refine r_iload hC 0 dX6_drifts_12 rfl 14 rfl ?_
  refine r_iconst hC 2 dX6_drifts_14 ic_2 15 rfl ?_
  refine r_icge hC 100 dX6_drifts_15 (by decide) 18 rfl (fun _ => ?_) (fun h => absurd h (by decide))
  refine r_iinc hC 1 4 2 [(4, .int 1), (5, .int 2), (6, .long (m_floored ((t 2) * (r 10)) (2 * (r 6)))), (0, .ref (b 0)), (1, .ref a), (2, .int 1), (3, .int 1)] dX6_drifts_100 rfl (by decide) (Nat.le_of_ble_eq_true rfl) rfl 103 rfl ?_
  refine r_goto hC 3 dX6_drifts_103 (by decide) ?_
  refine r_iload hC 0 dX6_drifts_3 rfl 5 rfl ?_
  refine r_iconst hC 3 dX6_drifts_5 ic_3 6 rfl ?_
  refine r_icge hC 106 dX6_drifts_6 (by decide) 9 rfl (fun h => absurd h (by decide)) (fun _ => ?_)
  refine r_iconst hC 0 dX6_drifts_9 ic_0 10 rfl ?_
  refine r_istore hC 5 [(5, .int 0), (4, .int 1), (6, .long (m_floored ((t 2) * (r 10)) (2 * (r 6)))), (0, .ref (b 0)), (1, .ref a), (2, .int 1), (3, .int 1)] dX6_drifts_10 (Nat.le_of_ble_eq_true rfl) rfl 12 rfl ?_
  refine r_iload hC 0 dX6_drifts_12 rfl 14 rfl ?_
  refine r_iconst hC 2 dX6_drifts_14 ic_2 15 rfl ?_
  refine r_icge hC 100 dX6_drifts_15 (by decide) 18 rfl (fun h => absurd h (by decide)) (fun _ => ?_)
  refine r_aload_n hC 3 dX6_drifts_18 rfl 19 rfl ?_
  refine r_get (v := .ref (b 7)) hC kX6 7 rfl q2760 (fun _ h => h.get 0 rfl) rfl dX6_drifts_19 22 rfl ?_
  refine r_iconst hC 2 dX6_drifts_22 ic_2 23 rfl ?_
  refine r_lald hC 2 (xix_n 2 (Nat.le_of_ble_eq_true rfl) (Nat.le_of_ble_eq_true rfl)) (fun _ h => h.get 1 rfl) (t 2) (rfl) dX6_drifts_23 24 rfl ?_
  refine r_aload_n hC 4 dX6_drifts_24 rfl 25 rfl ?_
  refine r_iload hC 1 dX6_drifts_25 rfl 27 rfl ?_
  refine r_iconst hC 3 dX6_drifts_27 ic_3 28 rfl ?_
  refine r_iload hC 0 dX6_drifts_28 rfl 30 rfl ?_
  refine r_iadd hC 3 dX6_drifts_30  (by decide) 31 rfl ?_
  refine r_invSr hC [.int 1, .int 3] (.int 14) mSX6_at q2711 (metX6_at _ _ hG 1 3) (fun _ _ => xIn.nil) ⟨rfl, rfl⟩ 0 0 rfl rfl (Nat.le_of_ble_eq_true rfl) (Nat.le_of_ble_eq_true rfl) rfl (Nat.le_of_ble_eq_true rfl) dX6_drifts_31 34 rfl ?_
  refine r_lald hC 14 (xix_n 14 (Nat.le_of_ble_eq_true rfl) (Nat.le_of_ble_eq_true rfl)) (fun _ h => h.get 2 rfl) (r 14) (by rw [← hu2, ← hu1]; rfl) dX6_drifts_34 35 rfl ?_
  refine r_lmul hC ((t 2) * (r 14)) dX6_drifts_35  (rfl) 36 rfl ?_
  refine r_iload_n hC 5 dX6_drifts_36 rfl 37 rfl ?_
  refine r_ifeq hC 55 dX6_drifts_37 (by decide) 40 rfl (fun h => absurd h (by decide)) (fun _ => ?_)
  refine r_ldc2 hC q2728 dX6_drifts_40 43 rfl ?_
  refine r_aload_n hC 4 dX6_drifts_43 rfl 44 rfl ?_
  refine r_iload hC 1 dX6_drifts_44 rfl 46 rfl ?_
  refine r_iconst hC 0 dX6_drifts_46 ic_0 47 rfl ?_
  refine r_invSr hC [.int 1, .int 0] (.int 11) mSX6_at q2711 (metX6_at _ _ hG 1 0) (fun _ _ => xIn.nil) ⟨rfl, rfl⟩ 0 0 rfl rfl (Nat.le_of_ble_eq_true rfl) (Nat.le_of_ble_eq_true rfl) rfl (Nat.le_of_ble_eq_true rfl) dX6_drifts_47 50 rfl ?_
  refine r_lald hC 11 (xix_n 11 (Nat.le_of_ble_eq_true rfl) (Nat.le_of_ble_eq_true rfl)) (fun _ h => h.get 2 rfl) (r 11) (by rw [← hu2, ← hu1]; rfl) dX6_drifts_50 51 rfl ?_
  refine r_lmul hC (2 * (r 11)) dX6_drifts_51  (rfl) 52 rfl ?_
  refine r_goto hC 63 dX6_drifts_52 (by decide) ?_
  refine r_invSr hC [.long ((t 2) * (r 14)), .long (2 * (r 11))] (.long (m_floored ((t 2) * (r 14)) (2 * (r 11)))) mSX6_floored q3042 (metX6_floored _ _ hG ((t 2) * (r 14)) (2 * (r 11)) (hok.2.1.2.1)) (fun _ _ => xIn.nil) ⟨rfl, rfl⟩ 0 0 rfl rfl (Nat.le_of_ble_eq_true rfl) (Nat.le_of_ble_eq_true rfl) rfl (Nat.le_of_ble_eq_true rfl) dX6_drifts_63 66 rfl ?_
  refine r_lstore hC 6 [(6, .long (m_floored ((t 2) * (r 14)) (2 * (r 11)))), (5, .int 0), (4, .int 1), (0, .ref (b 0)), (1, .ref a), (2, .int 1), (3, .int 1)] dX6_drifts_66 (Nat.le_of_ble_eq_true rfl) rfl 68 rfl ?_
  refine r_aload_n hC 4 dX6_drifts_68 rfl 69 rfl ?_
  refine r_iload hC 2 dX6_drifts_69 rfl 71 rfl ?_
  refine r_iconst hC 1 dX6_drifts_71 ic_1 72 rfl ?_
  refine r_iload hC 1 dX6_drifts_72 rfl 74 rfl ?_
  refine r_iadd hC 1 dX6_drifts_74  (by decide) 75 rfl ?_
  refine r_invSr hC [.int 1, .int 1] (.int 12) mSX6_at q2711 (metX6_at _ _ hG 1 1) (fun _ _ => xIn.nil) ⟨rfl, rfl⟩ 0 0 rfl rfl (Nat.le_of_ble_eq_true rfl) (Nat.le_of_ble_eq_true rfl) rfl (Nat.le_of_ble_eq_true rfl) dX6_drifts_75 78 rfl ?_
  refine r_dup2 hC dX6_drifts_78 rfl rfl 79 rfl ?_
  refine r_lald hC 12 (xix_n 12 (Nat.le_of_ble_eq_true rfl) (Nat.le_of_ble_eq_true rfl)) (fun _ h => h.get 2 rfl) (r 12) (by rw [← hu2, ← hu1]; rfl) dX6_drifts_79 80 rfl ?_
  refine r_iload_n hC 6 dX6_drifts_80 rfl 81 rfl ?_
  refine r_ifeq hC 90 dX6_drifts_81 (by decide) 84 rfl (fun h => absurd h (by decide)) (fun _ => ?_)
  refine r_lload hC 0 dX6_drifts_84 rfl 86 rfl ?_
  refine r_lneg hC (-(m_floored ((t 2) * (r 14)) (2 * (r 11)))) dX6_drifts_86 (rfl) 87 rfl ?_
  refine r_goto hC 92 dX6_drifts_87 (by decide) ?_
  refine r_ladd hC ((r 12) + (-(m_floored ((t 2) * (r 14)) (2 * (r 11))))) dX6_drifts_92  (rfl) 93 rfl ?_
  refine r_last (J := xSt F V0 [(b 0, .inr (5, mF b i j)), (b 7, .inl (1, 5, .inr (.inl t))), (a, .inl (1, 111, .inr (.inl (va_up u2 12 ((r 12) + (-(m_floored ((t 2) * (r 14)) (2 * (r 11)))))))))]) hC 12 (xix_n 12 (Nat.le_of_ble_eq_true rfl) (Nat.le_of_ble_eq_true rfl)) (fun _ h => h.get 2 rfl) dX6_drifts_93 (fun _ h => h.set 2 _ rfl) 94 rfl ?_
  generalize hu3 : va_up u2 12 ((r 12) + (-(m_floored ((t 2) * (r 14)) (2 * (r 11))))) = u3
  refine r_iinc hC 1 5 1 [(5, .int 1), (6, .long (m_floored ((t 2) * (r 14)) (2 * (r 11)))), (4, .int 1), (0, .ref (b 0)), (1, .ref a), (2, .int 1), (3, .int 1)] dX6_drifts_94 rfl (by decide) (Nat.le_of_ble_eq_true rfl) rfl 97 rfl ?_
  refine r_goto hC 12 dX6_drifts_97 (by decide) ?_
  refine r_iload hC 0 dX6_drifts_12 rfl 14 rfl ?_
  refine r_iconst hC 2 dX6_drifts_14 ic_2 15 rfl ?_
  refine r_icge hC 100 dX6_drifts_15 (by decide) 18 rfl (fun h => absurd h (by decide)) (fun _ => ?_)
  refine r_aload_n hC 3 dX6_drifts_18 rfl 19 rfl ?_
  refine r_get (v := .ref (b 7)) hC kX6 7 rfl q2760 (fun _ h => h.get 0 rfl) rfl dX6_drifts_19 22 rfl ?_
  refine r_iconst hC 2 dX6_drifts_22 ic_2 23 rfl ?_
  refine r_lald hC 2 (xix_n 2 (Nat.le_of_ble_eq_true rfl) (Nat.le_of_ble_eq_true rfl)) (fun _ h => h.get 1 rfl) (t 2) (rfl) dX6_drifts_23 24 rfl ?_
  refine r_aload_n hC 4 dX6_drifts_24 rfl 25 rfl ?_
  refine r_iload hC 2 dX6_drifts_25 rfl 27 rfl ?_
  refine r_iconst hC 3 dX6_drifts_27 ic_3 28 rfl ?_
  refine r_iload hC 0 dX6_drifts_28 rfl 30 rfl ?_
  refine r_iadd hC 4 dX6_drifts_30  (by decide) 31 rfl ?_
  refine r_invSr hC [.int 1, .int 4] (.int 15) mSX6_at q2711 (metX6_at _ _ hG 1 4) (fun _ _ => xIn.nil) ⟨rfl, rfl⟩ 0 0 rfl rfl (Nat.le_of_ble_eq_true rfl) (Nat.le_of_ble_eq_true rfl) rfl (Nat.le_of_ble_eq_true rfl) dX6_drifts_31 34 rfl ?_
  refine r_lald hC 15 (xix_n 15 (Nat.le_of_ble_eq_true rfl) (Nat.le_of_ble_eq_true rfl)) (fun _ h => h.get 2 rfl) (r 15) (by rw [← hu3, ← hu2, ← hu1]; rfl) dX6_drifts_34 35 rfl ?_
  refine r_lmul hC ((t 2) * (r 15)) dX6_drifts_35  (rfl) 36 rfl ?_
  refine r_iload_n hC 5 dX6_drifts_36 rfl 37 rfl ?_
  refine r_ifeq hC 55 dX6_drifts_37 (by decide) 40 rfl (fun h => absurd h (by decide)) (fun _ => ?_)
  refine r_ldc2 hC q2728 dX6_drifts_40 43 rfl ?_
  refine r_aload_n hC 4 dX6_drifts_43 rfl 44 rfl ?_
  refine r_iload hC 2 dX6_drifts_44 rfl 46 rfl ?_
  refine r_iconst hC 0 dX6_drifts_46 ic_0 47 rfl ?_
  refine r_invSr hC [.int 1, .int 0] (.int 11) mSX6_at q2711 (metX6_at _ _ hG 1 0) (fun _ _ => xIn.nil) ⟨rfl, rfl⟩ 0 0 rfl rfl (Nat.le_of_ble_eq_true rfl) (Nat.le_of_ble_eq_true rfl) rfl (Nat.le_of_ble_eq_true rfl) dX6_drifts_47 50 rfl ?_
  refine r_lald hC 11 (xix_n 11 (Nat.le_of_ble_eq_true rfl) (Nat.le_of_ble_eq_true rfl)) (fun _ h => h.get 2 rfl) (r 11) (by rw [← hu3, ← hu2, ← hu1]; rfl) dX6_drifts_50 51 rfl ?_
  refine r_lmul hC (2 * (r 11)) dX6_drifts_51  (rfl) 52 rfl ?_
  refine r_goto hC 63 dX6_drifts_52 (by decide) ?_
  refine r_invSr hC [.long ((t 2) * (r 15)), .long (2 * (r 11))] (.long (m_floored ((t 2) * (r 15)) (2 * (r 11)))) mSX6_floored q3042 (metX6_floored _ _ hG ((t 2) * (r 15)) (2 * (r 11)) (hok.2.1.2.1)) (fun _ _ => xIn.nil) ⟨rfl, rfl⟩ 0 0 rfl rfl (Nat.le_of_ble_eq_true rfl) (Nat.le_of_ble_eq_true rfl) rfl (Nat.le_of_ble_eq_true rfl) dX6_drifts_63 66 rfl ?_
  refine r_lstore hC 6 [(6, .long (m_floored ((t 2) * (r 15)) (2 * (r 11)))), (5, .int 1), (4, .int 1), (0, .ref (b 0)), (1, .ref a), (2, .int 1), (3, .int 1)] dX6_drifts_66 (Nat.le_of_ble_eq_true rfl) rfl 68 rfl ?_
  refine r_aload_n hC 4 dX6_drifts_68 rfl 69 rfl ?_
  refine r_iload hC 2 dX6_drifts_69 rfl 71 rfl ?_
  refine r_iconst hC 1 dX6_drifts_71 ic_1 72 rfl ?_
  refine r_iload hC 1 dX6_drifts_72 rfl 74 rfl ?_
  refine r_iadd hC 2 dX6_drifts_74  (by decide) 75 rfl ?_
  refine r_invSr hC [.int 1, .int 2] (.int 13) mSX6_at q2711 (metX6_at _ _ hG 1 2) (fun _ _ => xIn.nil) ⟨rfl, rfl⟩ 0 0 rfl rfl (Nat.le_of_ble_eq_true rfl) (Nat.le_of_ble_eq_true rfl) rfl (Nat.le_of_ble_eq_true rfl) dX6_drifts_75 78 rfl ?_
  refine r_dup2 hC dX6_drifts_78 rfl rfl 79 rfl ?_
  refine r_lald hC 13 (xix_n 13 (Nat.le_of_ble_eq_true rfl) (Nat.le_of_ble_eq_true rfl)) (fun _ h => h.get 2 rfl) (r 13) (by rw [← hu3, ← hu2, ← hu1]; rfl) dX6_drifts_79 80 rfl ?_
  refine r_iload_n hC 6 dX6_drifts_80 rfl 81 rfl ?_
  refine r_ifeq hC 90 dX6_drifts_81 (by decide) 84 rfl (fun h => absurd h (by decide)) (fun _ => ?_)
  refine r_lload hC 0 dX6_drifts_84 rfl 86 rfl ?_
  refine r_lneg hC (-(m_floored ((t 2) * (r 15)) (2 * (r 11)))) dX6_drifts_86 (rfl) 87 rfl ?_
  refine r_goto hC 92 dX6_drifts_87 (by decide) ?_
  refine r_ladd hC ((r 13) + (-(m_floored ((t 2) * (r 15)) (2 * (r 11))))) dX6_drifts_92  (rfl) 93 rfl ?_
  refine r_last (J := xSt F V0 [(b 0, .inr (5, mF b i j)), (b 7, .inl (1, 5, .inr (.inl t))), (a, .inl (1, 111, .inr (.inl (va_up u3 13 ((r 13) + (-(m_floored ((t 2) * (r 15)) (2 * (r 11)))))))))]) hC 13 (xix_n 13 (Nat.le_of_ble_eq_true rfl) (Nat.le_of_ble_eq_true rfl)) (fun _ h => h.get 2 rfl) dX6_drifts_93 (fun _ h => h.set 2 _ rfl) 94 rfl ?_
  generalize hu4 : va_up u3 13 ((r 13) + (-(m_floored ((t 2) * (r 15)) (2 * (r 11))))) = u4
  refine r_iinc hC 2 5 1 [(5, .int 2), (6, .long (m_floored ((t 2) * (r 15)) (2 * (r 11)))), (4, .int 1), (0, .ref (b 0)), (1, .ref a), (2, .int 1), (3, .int 1)] dX6_drifts_94 rfl (by decide) (Nat.le_of_ble_eq_true rfl) rfl 97 rfl ?_
  refine r_goto hC 12 dX6_drifts_97 (by decide) ?_
  refine r_iload hC 0 dX6_drifts_12 rfl 14 rfl ?_
  refine r_iconst hC 2 dX6_drifts_14 ic_2 15 rfl ?_
  refine r_icge hC 100 dX6_drifts_15 (by decide) 18 rfl (fun _ => ?_) (fun h => absurd h (by decide))
  refine r_iinc hC 2 4 2 [(4, .int 2), (5, .int 2), (6, .long (m_floored ((t 2) * (r 15)) (2 * (r 11)))), (0, .ref (b 0)), (1, .ref a), (2, .int 1), (3, .int 1)] dX6_drifts_100 rfl (by decide) (Nat.le_of_ble_eq_true rfl) rfl 103 rfl ?_
  refine r_goto hC 3 dX6_drifts_103 (by decide) ?_
  refine r_iload hC 0 dX6_drifts_3 rfl 5 rfl ?_
  refine r_iconst hC 3 dX6_drifts_5 ic_3 6 rfl ?_
  refine r_icge hC 106 dX6_drifts_6 (by decide) 9 rfl (fun h => absurd h (by decide)) (fun _ => ?_)
  refine r_iconst hC 0 dX6_drifts_9 ic_0 10 rfl ?_
  refine r_istore hC 5 [(5, .int 0), (4, .int 2), (6, .long (m_floored ((t 2) * (r 15)) (2 * (r 11)))), (0, .ref (b 0)), (1, .ref a), (2, .int 1), (3, .int 1)] dX6_drifts_10 (Nat.le_of_ble_eq_true rfl) rfl 12 rfl ?_
  refine r_iload hC 0 dX6_drifts_12 rfl 14 rfl ?_
  refine r_iconst hC 2 dX6_drifts_14 ic_2 15 rfl ?_
  refine r_icge hC 100 dX6_drifts_15 (by decide) 18 rfl (fun h => absurd h (by decide)) (fun _ => ?_)
  refine r_aload_n hC 3 dX6_drifts_18 rfl 19 rfl ?_
  refine r_get (v := .ref (b 7)) hC kX6 7 rfl q2760 (fun _ h => h.get 0 rfl) rfl dX6_drifts_19 22 rfl ?_
  refine r_iconst hC 2 dX6_drifts_22 ic_2 23 rfl ?_
  refine r_lald hC 2 (xix_n 2 (Nat.le_of_ble_eq_true rfl) (Nat.le_of_ble_eq_true rfl)) (fun _ h => h.get 1 rfl) (t 2) (rfl) dX6_drifts_23 24 rfl ?_
  refine r_aload_n hC 4 dX6_drifts_24 rfl 25 rfl ?_
  refine r_iload hC 1 dX6_drifts_25 rfl 27 rfl ?_
  refine r_iconst hC 3 dX6_drifts_27 ic_3 28 rfl ?_
  refine r_iload hC 0 dX6_drifts_28 rfl 30 rfl ?_
  refine r_iadd hC 3 dX6_drifts_30  (by decide) 31 rfl ?_
  refine r_invSr hC [.int 2, .int 3] (.int 19) mSX6_at q2711 (metX6_at _ _ hG 2 3) (fun _ _ => xIn.nil) ⟨rfl, rfl⟩ 0 0 rfl rfl (Nat.le_of_ble_eq_true rfl) (Nat.le_of_ble_eq_true rfl) rfl (Nat.le_of_ble_eq_true rfl) dX6_drifts_31 34 rfl ?_
  refine r_lald hC 19 (xix_n 19 (Nat.le_of_ble_eq_true rfl) (Nat.le_of_ble_eq_true rfl)) (fun _ h => h.get 2 rfl) (r 19) (by rw [← hu4, ← hu3, ← hu2, ← hu1]; rfl) dX6_drifts_34 35 rfl ?_
  refine r_lmul hC ((t 2) * (r 19)) dX6_drifts_35  (rfl) 36 rfl ?_
  refine r_iload_n hC 5 dX6_drifts_36 rfl 37 rfl ?_
  refine r_ifeq hC 55 dX6_drifts_37 (by decide) 40 rfl (fun h => absurd h (by decide)) (fun _ => ?_)
  refine r_ldc2 hC q2728 dX6_drifts_40 43 rfl ?_
  refine r_aload_n hC 4 dX6_drifts_43 rfl 44 rfl ?_
  refine r_iload hC 1 dX6_drifts_44 rfl 46 rfl ?_
  refine r_iconst hC 0 dX6_drifts_46 ic_0 47 rfl ?_
  refine r_invSr hC [.int 2, .int 0] (.int 16) mSX6_at q2711 (metX6_at _ _ hG 2 0) (fun _ _ => xIn.nil) ⟨rfl, rfl⟩ 0 0 rfl rfl (Nat.le_of_ble_eq_true rfl) (Nat.le_of_ble_eq_true rfl) rfl (Nat.le_of_ble_eq_true rfl) dX6_drifts_47 50 rfl ?_
  refine r_lald hC 16 (xix_n 16 (Nat.le_of_ble_eq_true rfl) (Nat.le_of_ble_eq_true rfl)) (fun _ h => h.get 2 rfl) (r 16) (by rw [← hu4, ← hu3, ← hu2, ← hu1]; rfl) dX6_drifts_50 51 rfl ?_
  refine r_lmul hC (2 * (r 16)) dX6_drifts_51  (rfl) 52 rfl ?_
  refine r_goto hC 63 dX6_drifts_52 (by decide) ?_
  refine r_invSr hC [.long ((t 2) * (r 19)), .long (2 * (r 16))] (.long (m_floored ((t 2) * (r 19)) (2 * (r 16)))) mSX6_floored q3042 (metX6_floored _ _ hG ((t 2) * (r 19)) (2 * (r 16)) (hok.2.1.2.2)) (fun _ _ => xIn.nil) ⟨rfl, rfl⟩ 0 0 rfl rfl (Nat.le_of_ble_eq_true rfl) (Nat.le_of_ble_eq_true rfl) rfl (Nat.le_of_ble_eq_true rfl) dX6_drifts_63 66 rfl ?_
  refine r_lstore hC 6 [(6, .long (m_floored ((t 2) * (r 19)) (2 * (r 16)))), (5, .int 0), (4, .int 2), (0, .ref (b 0)), (1, .ref a), (2, .int 1), (3, .int 1)] dX6_drifts_66 (Nat.le_of_ble_eq_true rfl) rfl 68 rfl ?_
  refine r_aload_n hC 4 dX6_drifts_68 rfl 69 rfl ?_
  refine r_iload hC 2 dX6_drifts_69 rfl 71 rfl ?_
  refine r_iconst hC 1 dX6_drifts_71 ic_1 72 rfl ?_
  refine r_iload hC 1 dX6_drifts_72 rfl 74 rfl ?_
  refine r_iadd hC 1 dX6_drifts_74  (by decide) 75 rfl ?_
  refine r_invSr hC [.int 2, .int 1] (.int 17) mSX6_at q2711 (metX6_at _ _ hG 2 1) (fun _ _ => xIn.nil) ⟨rfl, rfl⟩ 0 0 rfl rfl (Nat.le_of_ble_eq_true rfl) (Nat.le_of_ble_eq_true rfl) rfl (Nat.le_of_ble_eq_true rfl) dX6_drifts_75 78 rfl ?_
  refine r_dup2 hC dX6_drifts_78 rfl rfl 79 rfl ?_
  refine r_lald hC 17 (xix_n 17 (Nat.le_of_ble_eq_true rfl) (Nat.le_of_ble_eq_true rfl)) (fun _ h => h.get 2 rfl) (r 17) (by rw [← hu4, ← hu3, ← hu2, ← hu1]; rfl) dX6_drifts_79 80 rfl ?_
  refine r_iload_n hC 6 dX6_drifts_80 rfl 81 rfl ?_
  refine r_ifeq hC 90 dX6_drifts_81 (by decide) 84 rfl (fun h => absurd h (by decide)) (fun _ => ?_)
  refine r_lload hC 0 dX6_drifts_84 rfl 86 rfl ?_
  refine r_lneg hC (-(m_floored ((t 2) * (r 19)) (2 * (r 16)))) dX6_drifts_86 (rfl) 87 rfl ?_
  refine r_goto hC 92 dX6_drifts_87 (by decide) ?_
  refine r_ladd hC ((r 17) + (-(m_floored ((t 2) * (r 19)) (2 * (r 16))))) dX6_drifts_92  (rfl) 93 rfl ?_
  refine r_last (J := xSt F V0 [(b 0, .inr (5, mF b i j)), (b 7, .inl (1, 5, .inr (.inl t))), (a, .inl (1, 111, .inr (.inl (va_up u4 17 ((r 17) + (-(m_floored ((t 2) * (r 19)) (2 * (r 16)))))))))]) hC 17 (xix_n 17 (Nat.le_of_ble_eq_true rfl) (Nat.le_of_ble_eq_true rfl)) (fun _ h => h.get 2 rfl) dX6_drifts_93 (fun _ h => h.set 2 _ rfl) 94 rfl ?_
  generalize hu5 : va_up u4 17 ((r 17) + (-(m_floored ((t 2) * (r 19)) (2 * (r 16))))) = u5
  refine r_iinc hC 1 5 1 [(5, .int 1), (6, .long (m_floored ((t 2) * (r 19)) (2 * (r 16)))), (4, .int 2), (0, .ref (b 0)), (1, .ref a), (2, .int 1), (3, .int 1)] dX6_drifts_94 rfl (by decide) (Nat.le_of_ble_eq_true rfl) rfl 97 rfl ?_
  refine r_goto hC 12 dX6_drifts_97 (by decide) ?_
  refine r_iload hC 0 dX6_drifts_12 rfl 14 rfl ?_
  refine r_iconst hC 2 dX6_drifts_14 ic_2 15 rfl ?_
  refine r_icge hC 100 dX6_drifts_15 (by decide) 18 rfl (fun h => absurd h (by decide)) (fun _ => ?_)
  refine r_aload_n hC 3 dX6_drifts_18 rfl 19 rfl ?_
  refine r_get (v := .ref (b 7)) hC kX6 7 rfl q2760 (fun _ h => h.get 0 rfl) rfl dX6_drifts_19 22 rfl ?_
  refine r_iconst hC 2 dX6_drifts_22 ic_2 23 rfl ?_
  refine r_lald hC 2 (xix_n 2 (Nat.le_of_ble_eq_true rfl) (Nat.le_of_ble_eq_true rfl)) (fun _ h => h.get 1 rfl) (t 2) (rfl) dX6_drifts_23 24 rfl ?_
  refine r_aload_n hC 4 dX6_drifts_24 rfl 25 rfl ?_
  refine r_iload hC 2 dX6_drifts_25 rfl 27 rfl ?_
  refine r_iconst hC 3 dX6_drifts_27 ic_3 28 rfl ?_
  refine r_iload hC 0 dX6_drifts_28 rfl 30 rfl ?_
  refine r_iadd hC 4 dX6_drifts_30  (by decide) 31 rfl ?_
  refine r_invSr hC [.int 2, .int 4] (.int 20) mSX6_at q2711 (metX6_at _ _ hG 2 4) (fun _ _ => xIn.nil) ⟨rfl, rfl⟩ 0 0 rfl rfl (Nat.le_of_ble_eq_true rfl) (Nat.le_of_ble_eq_true rfl) rfl (Nat.le_of_ble_eq_true rfl) dX6_drifts_31 34 rfl ?_
  refine r_lald hC 20 (xix_n 20 (Nat.le_of_ble_eq_true rfl) (Nat.le_of_ble_eq_true rfl)) (fun _ h => h.get 2 rfl) (r 20) (by rw [← hu5, ← hu4, ← hu3, ← hu2, ← hu1]; rfl) dX6_drifts_34 35 rfl ?_
  refine r_lmul hC ((t 2) * (r 20)) dX6_drifts_35  (rfl) 36 rfl ?_
  refine r_iload_n hC 5 dX6_drifts_36 rfl 37 rfl ?_
  refine r_ifeq hC 55 dX6_drifts_37 (by decide) 40 rfl (fun h => absurd h (by decide)) (fun _ => ?_)
  refine r_ldc2 hC q2728 dX6_drifts_40 43 rfl ?_
  refine r_aload_n hC 4 dX6_drifts_43 rfl 44 rfl ?_
  refine r_iload hC 2 dX6_drifts_44 rfl 46 rfl ?_
  refine r_iconst hC 0 dX6_drifts_46 ic_0 47 rfl ?_
  refine r_invSr hC [.int 2, .int 0] (.int 16) mSX6_at q2711 (metX6_at _ _ hG 2 0) (fun _ _ => xIn.nil) ⟨rfl, rfl⟩ 0 0 rfl rfl (Nat.le_of_ble_eq_true rfl) (Nat.le_of_ble_eq_true rfl) rfl (Nat.le_of_ble_eq_true rfl) dX6_drifts_47 50 rfl ?_
  refine r_lald hC 16 (xix_n 16 (Nat.le_of_ble_eq_true rfl) (Nat.le_of_ble_eq_true rfl)) (fun _ h => h.get 2 rfl) (r 16) (by rw [← hu5, ← hu4, ← hu3, ← hu2, ← hu1]; rfl) dX6_drifts_50 51 rfl ?_
  refine r_lmul hC (2 * (r 16)) dX6_drifts_51  (rfl) 52 rfl ?_
  refine r_goto hC 63 dX6_drifts_52 (by decide) ?_
  refine r_invSr hC [.long ((t 2) * (r 20)), .long (2 * (r 16))] (.long (m_floored ((t 2) * (r 20)) (2 * (r 16)))) mSX6_floored q3042 (metX6_floored _ _ hG ((t 2) * (r 20)) (2 * (r 16)) (hok.2.1.2.2)) (fun _ _ => xIn.nil) ⟨rfl, rfl⟩ 0 0 rfl rfl (Nat.le_of_ble_eq_true rfl) (Nat.le_of_ble_eq_true rfl) rfl (Nat.le_of_ble_eq_true rfl) dX6_drifts_63 66 rfl ?_
  refine r_lstore hC 6 [(6, .long (m_floored ((t 2) * (r 20)) (2 * (r 16)))), (5, .int 1), (4, .int 2), (0, .ref (b 0)), (1, .ref a), (2, .int 1), (3, .int 1)] dX6_drifts_66 (Nat.le_of_ble_eq_true rfl) rfl 68 rfl ?_
  refine r_aload_n hC 4 dX6_drifts_68 rfl 69 rfl ?_
  refine r_iload hC 2 dX6_drifts_69 rfl 71 rfl ?_
  refine r_iconst hC 1 dX6_drifts_71 ic_1 72 rfl ?_
  refine r_iload hC 1 dX6_drifts_72 rfl 74 rfl ?_
  refine r_iadd hC 2 dX6_drifts_74  (by decide) 75 rfl ?_
  refine r_invSr hC [.int 2, .int 2] (.int 18) mSX6_at q2711 (metX6_at _ _ hG 2 2) (fun _ _ => xIn.nil) ⟨rfl, rfl⟩ 0 0 rfl rfl (Nat.le_of_ble_eq_true rfl) (Nat.le_of_ble_eq_true rfl) rfl (Nat.le_of_ble_eq_true rfl) dX6_drifts_75 78 rfl ?_
  refine r_dup2 hC dX6_drifts_78 rfl rfl 79 rfl ?_
  refine r_lald hC 18 (xix_n 18 (Nat.le_of_ble_eq_true rfl) (Nat.le_of_ble_eq_true rfl)) (fun _ h => h.get 2 rfl) (r 18) (by rw [← hu5, ← hu4, ← hu3, ← hu2, ← hu1]; rfl) dX6_drifts_79 80 rfl ?_
  refine r_iload_n hC 6 dX6_drifts_80 rfl 81 rfl ?_
  refine r_ifeq hC 90 dX6_drifts_81 (by decide) 84 rfl (fun h => absurd h (by decide)) (fun _ => ?_)
  refine r_lload hC 0 dX6_drifts_84 rfl 86 rfl ?_
  refine r_lneg hC (-(m_floored ((t 2) * (r 20)) (2 * (r 16)))) dX6_drifts_86 (rfl) 87 rfl ?_
  refine r_goto hC 92 dX6_drifts_87 (by decide) ?_
  refine r_ladd hC ((r 18) + (-(m_floored ((t 2) * (r 20)) (2 * (r 16))))) dX6_drifts_92  (rfl) 93 rfl ?_
  refine r_last (J := xSt F V0 [(b 0, .inr (5, mF b i j)), (b 7, .inl (1, 5, .inr (.inl t))), (a, .inl (1, 111, .inr (.inl (va_up u5 18 ((r 18) + (-(m_floored ((t 2) * (r 20)) (2 * (r 16)))))))))]) hC 18 (xix_n 18 (Nat.le_of_ble_eq_true rfl) (Nat.le_of_ble_eq_true rfl)) (fun _ h => h.get 2 rfl) dX6_drifts_93 (fun _ h => h.set 2 _ rfl) 94 rfl ?_
  generalize hu6 : va_up u5 18 ((r 18) + (-(m_floored ((t 2) * (r 20)) (2 * (r 16))))) = u6
  refine r_iinc hC 2 5 1 [(5, .int 2), (6, .long (m_floored ((t 2) * (r 20)) (2 * (r 16)))), (4, .int 2), (0, .ref (b 0)), (1, .ref a), (2, .int 1), (3, .int 1)] dX6_drifts_94 rfl (by decide) (Nat.le_of_ble_eq_true rfl) rfl 97 rfl ?_
  refine r_goto hC 12 dX6_drifts_97 (by decide) ?_
  refine r_iload hC 0 dX6_drifts_12 rfl 14 rfl ?_
  refine r_iconst hC 2 dX6_drifts_14 ic_2 15 rfl ?_
  refine r_icge hC 100 dX6_drifts_15 (by decide) 18 rfl (fun _ => ?_) (fun h => absurd h (by decide))
  refine r_iinc hC 3 4 2 [(4, .int 3), (5, .int 2), (6, .long (m_floored ((t 2) * (r 20)) (2 * (r 16)))), (0, .ref (b 0)), (1, .ref a), (2, .int 1), (3, .int 1)] dX6_drifts_100 rfl (by decide) (Nat.le_of_ble_eq_true rfl) rfl 103 rfl ?_
  refine r_goto hC 3 dX6_drifts_103 (by decide) ?_
  refine r_iload hC 0 dX6_drifts_3 rfl 5 rfl ?_
  refine r_iconst hC 3 dX6_drifts_5 ic_3 6 rfl ?_
  refine r_icge hC 106 dX6_drifts_6 (by decide) 9 rfl (fun _ => ?_) (fun h => absurd h (by decide))
  subst hu6
  subst hu5
  subst hu4
  subst hu3
  subst hu2
  subst hu1
  exact r_vret hC (Nat.le_of_ble_eq_true rfl) (Nat.le_of_ble_eq_true rfl) (fun V9 h => hQ _ _ ⟨[(b 0, .inr (5, mF b i j)), (b 7, .inl (1, 5, .inr (.inl t))), (a, .inl (1, 111, .inr (.inl (va_up (va_up (va_up (va_up (va_up (va_up r 7 ((r 7) + (-(m_floored ((t 2) * (r 9)) (2 * (r 6)))))) 8 ((r 8) + (-(m_floored ((t 2) * (r 10)) (2 * (r 6)))))) 12 ((r 12) + (-(m_floored ((t 2) * (r 14)) (2 * (r 11)))))) 13 ((r 13) + (-(m_floored ((t 2) * (r 15)) (2 * (r 11)))))) 17 ((r 17) + (-(m_floored ((t 2) * (r 19)) (2 * (r 16)))))) 18 ((r 18) + (-(m_floored ((t 2) * (r 20)) (2 * (r 16)))))))))], ⟨rfl, rfl⟩, by rw [← hV0, ← hF]; exact h⟩) dX6_drifts_106
set_option maxHeartbeats 4000000 in
set_option maxRecDepth 100000 in
theorem metX6_isIn (l : Launch) (G : xG) (hG : xGood G) (a : Nat) (r : Nat → Int64) : xRm l G yX6_isIn (Cond.code yX6_isIn cX6_isIn 3 (some .boolean)) { frames := 1, locals := 25, cells := 0, slots := 0 } [.ref a] [(a, .inl (1, 111, .inr (.inl r)))] (some (.int (bI (isInQ r)))) := by
  intro V hV
  refine xMet_of RX6 hG rfl (by decide) (Nat.le_of_ble_eq_true rfl) fun C hC hQ hX hl hg _ => ?_
  subst hl hg
  refine rn.mono (J := xRo [(a, .inl (1, 111, .inr (.inl r)))] V) (fun V9 h => ⟨h, hV⟩) ?_
  show rn C (xRo [(a, .inl (1, 111, .inr (.inl r)))] V) 0 0 0 [(0, .ref a)] []
  refine r_iconst hC 0 dX6_isIn_0 ic_0 1 rfl ?_
  refine r_istore_n hC 1 [(1, .int 0), (0, .ref a)] dX6_isIn_1 rfl (Nat.le_of_ble_eq_true rfl) rfl 2 rfl ?_
  refine r_iload_n hC 0 dX6_isIn_2 rfl 3 rfl ?_
  refine r_iconst hC 3 dX6_isIn_3 ic_3 4 rfl ?_
  refine r_icge hC 70 dX6_isIn_4 (by decide) 7 rfl (fun h => absurd h (by decide)) (fun _ => ?_)
  refine r_iconst hC 0 dX6_isIn_7 ic_0 8 rfl ?_
  refine r_istore_n hC 2 [(2, .int 0), (1, .int 0), (0, .ref a)] dX6_isIn_8 rfl (Nat.le_of_ble_eq_true rfl) rfl 9 rfl ?_
  refine r_iload_n hC 0 dX6_isIn_9 rfl 10 rfl ?_
  refine r_iconst hC 2 dX6_isIn_10 ic_2 11 rfl ?_
  refine r_icge hC 64 dX6_isIn_11 (by decide) 14 rfl (fun h => absurd h (by decide)) (fun _ => ?_)
  refine r_aload_n hC 2 dX6_isIn_14 rfl 15 rfl ?_
  refine r_iload_n hC 1 dX6_isIn_15 rfl 16 rfl ?_
  refine r_iconst hC 1 dX6_isIn_16 ic_1 17 rfl ?_
  refine r_iload_n hC 0 dX6_isIn_17 rfl 18 rfl ?_
  refine r_iadd hC 1 dX6_isIn_18  (by decide) 19 rfl ?_
  refine r_invSr hC [.int 0, .int 1] (.int 7) mSX6_at q2711 (metX6_at _ _ hG 0 1) (fun _ _ => xIn.nil) ⟨rfl, rfl⟩ 0 0 rfl rfl (Nat.le_of_ble_eq_true rfl) (Nat.le_of_ble_eq_true rfl) rfl (Nat.le_of_ble_eq_true rfl) dX6_isIn_19 22 rfl ?_
  refine r_lald hC 7 (xix_n 7 (Nat.le_of_ble_eq_true rfl) (Nat.le_of_ble_eq_true rfl)) (fun _ h => h.get 0 rfl) (r 7) (rfl) dX6_isIn_22 23 rfl ?_
  refine r_ldc2 hC q3099 dX6_isIn_23 26 rfl ?_
  refine r_ldc2 hC q2983 dX6_isIn_26 29 rfl ?_
  refine r_invSr hC [.long (r 7), .long (-100000), .long 100000] (.int (bI (m_in (r 7) (-100000) 100000))) mSX6_in q2891 (metX6_in _ _ hG (r 7) (-100000) 100000) (fun _ _ => xIn.nil) ⟨rfl, rfl⟩ 0 0 rfl rfl (Nat.le_of_ble_eq_true rfl) (Nat.le_of_ble_eq_true rfl) rfl (Nat.le_of_ble_eq_true rfl) dX6_isIn_29 32 rfl ?_
  refine r_ifeq hC 56 dX6_isIn_32 (by decide) 35 rfl (fun c1 => ?_) (fun c1 => ?_)
  · skip
    refine r_iconst hC 0 dX6_isIn_56 ic_0 57 rfl ?_
    exact r_zret hC (by decide) (Nat.le_of_ble_eq_true rfl) (Nat.le_of_ble_eq_true rfl) (fun V9 h => hQ _ _ ⟨by simp [isInQ, bI, bI_0.mp c1], h.1⟩) dX6_isIn_57
  · skip
    refine r_aload_n hC 2 dX6_isIn_35 rfl 36 rfl ?_
    refine r_iload_n hC 1 dX6_isIn_36 rfl 37 rfl ?_
    refine r_iconst hC 3 dX6_isIn_37 ic_3 38 rfl ?_
    refine r_iload_n hC 0 dX6_isIn_38 rfl 39 rfl ?_
    refine r_iadd hC 3 dX6_isIn_39  (by decide) 40 rfl ?_
    refine r_invSr hC [.int 0, .int 3] (.int 9) mSX6_at q2711 (metX6_at _ _ hG 0 3) (fun _ _ => xIn.nil) ⟨rfl, rfl⟩ 0 0 rfl rfl (Nat.le_of_ble_eq_true rfl) (Nat.le_of_ble_eq_true rfl) rfl (Nat.le_of_ble_eq_true rfl) dX6_isIn_40 43 rfl ?_
    refine r_lald hC 9 (xix_n 9 (Nat.le_of_ble_eq_true rfl) (Nat.le_of_ble_eq_true rfl)) (fun _ h => h.get 0 rfl) (r 9) (rfl) dX6_isIn_43 44 rfl ?_
    refine r_ldc2 hC q3100 dX6_isIn_44 47 rfl ?_
    refine r_ldc2 hC q2926 dX6_isIn_47 50 rfl ?_
    refine r_invSr hC [.long (r 9), .long (-1000000000), .long 1000000000] (.int (bI (m_in (r 9) (-1000000000) 1000000000))) mSX6_in q2891 (metX6_in _ _ hG (r 9) (-1000000000) 1000000000) (fun _ _ => xIn.nil) ⟨rfl, rfl⟩ 0 0 rfl rfl (Nat.le_of_ble_eq_true rfl) (Nat.le_of_ble_eq_true rfl) rfl (Nat.le_of_ble_eq_true rfl) dX6_isIn_50 53 rfl ?_
    refine r_ifne hC 58 dX6_isIn_53 (by decide) 56 rfl (fun c2 => ?_) (fun c2 => ?_)
    · skip
      refine r_iinc hC 1 2 0 [(2, .int 1), (1, .int 0), (0, .ref a)] dX6_isIn_58 rfl (by decide) (Nat.le_of_ble_eq_true rfl) rfl 61 rfl ?_
      refine r_goto hC 9 dX6_isIn_61 (by decide) ?_
      refine r_iload_n hC 0 dX6_isIn_9 rfl 10 rfl ?_
      refine r_iconst hC 2 dX6_isIn_10 ic_2 11 rfl ?_
      refine r_icge hC 64 dX6_isIn_11 (by decide) 14 rfl (fun h => absurd h (by decide)) (fun _ => ?_)
      refine r_aload_n hC 2 dX6_isIn_14 rfl 15 rfl ?_
      refine r_iload_n hC 1 dX6_isIn_15 rfl 16 rfl ?_
      refine r_iconst hC 1 dX6_isIn_16 ic_1 17 rfl ?_
      refine r_iload_n hC 0 dX6_isIn_17 rfl 18 rfl ?_
      refine r_iadd hC 2 dX6_isIn_18  (by decide) 19 rfl ?_
      refine r_invSr hC [.int 0, .int 2] (.int 8) mSX6_at q2711 (metX6_at _ _ hG 0 2) (fun _ _ => xIn.nil) ⟨rfl, rfl⟩ 0 0 rfl rfl (Nat.le_of_ble_eq_true rfl) (Nat.le_of_ble_eq_true rfl) rfl (Nat.le_of_ble_eq_true rfl) dX6_isIn_19 22 rfl ?_
      refine r_lald hC 8 (xix_n 8 (Nat.le_of_ble_eq_true rfl) (Nat.le_of_ble_eq_true rfl)) (fun _ h => h.get 0 rfl) (r 8) (rfl) dX6_isIn_22 23 rfl ?_
      refine r_ldc2 hC q3099 dX6_isIn_23 26 rfl ?_
      refine r_ldc2 hC q2983 dX6_isIn_26 29 rfl ?_
      refine r_invSr hC [.long (r 8), .long (-100000), .long 100000] (.int (bI (m_in (r 8) (-100000) 100000))) mSX6_in q2891 (metX6_in _ _ hG (r 8) (-100000) 100000) (fun _ _ => xIn.nil) ⟨rfl, rfl⟩ 0 0 rfl rfl (Nat.le_of_ble_eq_true rfl) (Nat.le_of_ble_eq_true rfl) rfl (Nat.le_of_ble_eq_true rfl) dX6_isIn_29 32 rfl ?_
      refine r_ifeq hC 56 dX6_isIn_32 (by decide) 35 rfl (fun c3 => ?_) (fun c3 => ?_)
      · skip
        refine r_iconst hC 0 dX6_isIn_56 ic_0 57 rfl ?_
        exact r_zret hC (by decide) (Nat.le_of_ble_eq_true rfl) (Nat.le_of_ble_eq_true rfl) (fun V9 h => hQ _ _ ⟨by simp [isInQ, bI, bI_n0.mp c1, bI_n0.mp c2, bI_0.mp c3], h.1⟩) dX6_isIn_57
      · skip
        refine r_aload_n hC 2 dX6_isIn_35 rfl 36 rfl ?_
        refine r_iload_n hC 1 dX6_isIn_36 rfl 37 rfl ?_
        refine r_iconst hC 3 dX6_isIn_37 ic_3 38 rfl ?_
        refine r_iload_n hC 0 dX6_isIn_38 rfl 39 rfl ?_
        refine r_iadd hC 4 dX6_isIn_39  (by decide) 40 rfl ?_
        refine r_invSr hC [.int 0, .int 4] (.int 10) mSX6_at q2711 (metX6_at _ _ hG 0 4) (fun _ _ => xIn.nil) ⟨rfl, rfl⟩ 0 0 rfl rfl (Nat.le_of_ble_eq_true rfl) (Nat.le_of_ble_eq_true rfl) rfl (Nat.le_of_ble_eq_true rfl) dX6_isIn_40 43 rfl ?_
        refine r_lald hC 10 (xix_n 10 (Nat.le_of_ble_eq_true rfl) (Nat.le_of_ble_eq_true rfl)) (fun _ h => h.get 0 rfl) (r 10) (rfl) dX6_isIn_43 44 rfl ?_
        refine r_ldc2 hC q3100 dX6_isIn_44 47 rfl ?_
        refine r_ldc2 hC q2926 dX6_isIn_47 50 rfl ?_
        refine r_invSr hC [.long (r 10), .long (-1000000000), .long 1000000000] (.int (bI (m_in (r 10) (-1000000000) 1000000000))) mSX6_in q2891 (metX6_in _ _ hG (r 10) (-1000000000) 1000000000) (fun _ _ => xIn.nil) ⟨rfl, rfl⟩ 0 0 rfl rfl (Nat.le_of_ble_eq_true rfl) (Nat.le_of_ble_eq_true rfl) rfl (Nat.le_of_ble_eq_true rfl) dX6_isIn_50 53 rfl ?_
        refine r_ifne hC 58 dX6_isIn_53 (by decide) 56 rfl (fun c4 => ?_) (fun c4 => ?_)
        · skip
          refine r_iinc hC 2 2 0 [(2, .int 2), (1, .int 0), (0, .ref a)] dX6_isIn_58 rfl (by decide) (Nat.le_of_ble_eq_true rfl) rfl 61 rfl ?_
          refine r_goto hC 9 dX6_isIn_61 (by decide) ?_
          refine r_iload_n hC 0 dX6_isIn_9 rfl 10 rfl ?_
          refine r_iconst hC 2 dX6_isIn_10 ic_2 11 rfl ?_
          refine r_icge hC 64 dX6_isIn_11 (by decide) 14 rfl (fun _ => ?_) (fun h => absurd h (by decide))
          refine r_iinc hC 1 1 1 [(1, .int 1), (2, .int 2), (0, .ref a)] dX6_isIn_64 rfl (by decide) (Nat.le_of_ble_eq_true rfl) rfl 67 rfl ?_
          refine r_goto hC 2 dX6_isIn_67 (by decide) ?_
          refine r_iload_n hC 0 dX6_isIn_2 rfl 3 rfl ?_
          refine r_iconst hC 3 dX6_isIn_3 ic_3 4 rfl ?_
          refine r_icge hC 70 dX6_isIn_4 (by decide) 7 rfl (fun h => absurd h (by decide)) (fun _ => ?_)
          refine r_iconst hC 0 dX6_isIn_7 ic_0 8 rfl ?_
          refine r_istore_n hC 2 [(2, .int 0), (1, .int 1), (0, .ref a)] dX6_isIn_8 rfl (Nat.le_of_ble_eq_true rfl) rfl 9 rfl ?_
          refine r_iload_n hC 0 dX6_isIn_9 rfl 10 rfl ?_
          refine r_iconst hC 2 dX6_isIn_10 ic_2 11 rfl ?_
          refine r_icge hC 64 dX6_isIn_11 (by decide) 14 rfl (fun h => absurd h (by decide)) (fun _ => ?_)
          refine r_aload_n hC 2 dX6_isIn_14 rfl 15 rfl ?_
          refine r_iload_n hC 1 dX6_isIn_15 rfl 16 rfl ?_
          refine r_iconst hC 1 dX6_isIn_16 ic_1 17 rfl ?_
          refine r_iload_n hC 0 dX6_isIn_17 rfl 18 rfl ?_
          refine r_iadd hC 1 dX6_isIn_18  (by decide) 19 rfl ?_
          refine r_invSr hC [.int 1, .int 1] (.int 12) mSX6_at q2711 (metX6_at _ _ hG 1 1) (fun _ _ => xIn.nil) ⟨rfl, rfl⟩ 0 0 rfl rfl (Nat.le_of_ble_eq_true rfl) (Nat.le_of_ble_eq_true rfl) rfl (Nat.le_of_ble_eq_true rfl) dX6_isIn_19 22 rfl ?_
          refine r_lald hC 12 (xix_n 12 (Nat.le_of_ble_eq_true rfl) (Nat.le_of_ble_eq_true rfl)) (fun _ h => h.get 0 rfl) (r 12) (rfl) dX6_isIn_22 23 rfl ?_
          refine r_ldc2 hC q3099 dX6_isIn_23 26 rfl ?_
          refine r_ldc2 hC q2983 dX6_isIn_26 29 rfl ?_
          refine r_invSr hC [.long (r 12), .long (-100000), .long 100000] (.int (bI (m_in (r 12) (-100000) 100000))) mSX6_in q2891 (metX6_in _ _ hG (r 12) (-100000) 100000) (fun _ _ => xIn.nil) ⟨rfl, rfl⟩ 0 0 rfl rfl (Nat.le_of_ble_eq_true rfl) (Nat.le_of_ble_eq_true rfl) rfl (Nat.le_of_ble_eq_true rfl) dX6_isIn_29 32 rfl ?_
          refine r_ifeq hC 56 dX6_isIn_32 (by decide) 35 rfl (fun c5 => ?_) (fun c5 => ?_)
          · skip
            refine r_iconst hC 0 dX6_isIn_56 ic_0 57 rfl ?_
            exact r_zret hC (by decide) (Nat.le_of_ble_eq_true rfl) (Nat.le_of_ble_eq_true rfl) (fun V9 h => hQ _ _ ⟨by simp [isInQ, bI, bI_n0.mp c1, bI_n0.mp c2, bI_n0.mp c3, bI_n0.mp c4, bI_0.mp c5], h.1⟩) dX6_isIn_57
          · skip
            refine r_aload_n hC 2 dX6_isIn_35 rfl 36 rfl ?_
            refine r_iload_n hC 1 dX6_isIn_36 rfl 37 rfl ?_
            refine r_iconst hC 3 dX6_isIn_37 ic_3 38 rfl ?_
            refine r_iload_n hC 0 dX6_isIn_38 rfl 39 rfl ?_
            refine r_iadd hC 3 dX6_isIn_39  (by decide) 40 rfl ?_
            refine r_invSr hC [.int 1, .int 3] (.int 14) mSX6_at q2711 (metX6_at _ _ hG 1 3) (fun _ _ => xIn.nil) ⟨rfl, rfl⟩ 0 0 rfl rfl (Nat.le_of_ble_eq_true rfl) (Nat.le_of_ble_eq_true rfl) rfl (Nat.le_of_ble_eq_true rfl) dX6_isIn_40 43 rfl ?_
            refine r_lald hC 14 (xix_n 14 (Nat.le_of_ble_eq_true rfl) (Nat.le_of_ble_eq_true rfl)) (fun _ h => h.get 0 rfl) (r 14) (rfl) dX6_isIn_43 44 rfl ?_
            refine r_ldc2 hC q3100 dX6_isIn_44 47 rfl ?_
            refine r_ldc2 hC q2926 dX6_isIn_47 50 rfl ?_
            refine r_invSr hC [.long (r 14), .long (-1000000000), .long 1000000000] (.int (bI (m_in (r 14) (-1000000000) 1000000000))) mSX6_in q2891 (metX6_in _ _ hG (r 14) (-1000000000) 1000000000) (fun _ _ => xIn.nil) ⟨rfl, rfl⟩ 0 0 rfl rfl (Nat.le_of_ble_eq_true rfl) (Nat.le_of_ble_eq_true rfl) rfl (Nat.le_of_ble_eq_true rfl) dX6_isIn_50 53 rfl ?_
            refine r_ifne hC 58 dX6_isIn_53 (by decide) 56 rfl (fun c6 => ?_) (fun c6 => ?_)
            · skip
              refine r_iinc hC 1 2 0 [(2, .int 1), (1, .int 1), (0, .ref a)] dX6_isIn_58 rfl (by decide) (Nat.le_of_ble_eq_true rfl) rfl 61 rfl ?_
              refine r_goto hC 9 dX6_isIn_61 (by decide) ?_
              refine r_iload_n hC 0 dX6_isIn_9 rfl 10 rfl ?_
              refine r_iconst hC 2 dX6_isIn_10 ic_2 11 rfl ?_
              refine r_icge hC 64 dX6_isIn_11 (by decide) 14 rfl (fun h => absurd h (by decide)) (fun _ => ?_)
              refine r_aload_n hC 2 dX6_isIn_14 rfl 15 rfl ?_
              refine r_iload_n hC 1 dX6_isIn_15 rfl 16 rfl ?_
              refine r_iconst hC 1 dX6_isIn_16 ic_1 17 rfl ?_
              refine r_iload_n hC 0 dX6_isIn_17 rfl 18 rfl ?_
              refine r_iadd hC 2 dX6_isIn_18  (by decide) 19 rfl ?_
              refine r_invSr hC [.int 1, .int 2] (.int 13) mSX6_at q2711 (metX6_at _ _ hG 1 2) (fun _ _ => xIn.nil) ⟨rfl, rfl⟩ 0 0 rfl rfl (Nat.le_of_ble_eq_true rfl) (Nat.le_of_ble_eq_true rfl) rfl (Nat.le_of_ble_eq_true rfl) dX6_isIn_19 22 rfl ?_
              refine r_lald hC 13 (xix_n 13 (Nat.le_of_ble_eq_true rfl) (Nat.le_of_ble_eq_true rfl)) (fun _ h => h.get 0 rfl) (r 13) (rfl) dX6_isIn_22 23 rfl ?_
              refine r_ldc2 hC q3099 dX6_isIn_23 26 rfl ?_
              refine r_ldc2 hC q2983 dX6_isIn_26 29 rfl ?_
              refine r_invSr hC [.long (r 13), .long (-100000), .long 100000] (.int (bI (m_in (r 13) (-100000) 100000))) mSX6_in q2891 (metX6_in _ _ hG (r 13) (-100000) 100000) (fun _ _ => xIn.nil) ⟨rfl, rfl⟩ 0 0 rfl rfl (Nat.le_of_ble_eq_true rfl) (Nat.le_of_ble_eq_true rfl) rfl (Nat.le_of_ble_eq_true rfl) dX6_isIn_29 32 rfl ?_
              refine r_ifeq hC 56 dX6_isIn_32 (by decide) 35 rfl (fun c7 => ?_) (fun c7 => ?_)
              · skip
                refine r_iconst hC 0 dX6_isIn_56 ic_0 57 rfl ?_
                exact r_zret hC (by decide) (Nat.le_of_ble_eq_true rfl) (Nat.le_of_ble_eq_true rfl) (fun V9 h => hQ _ _ ⟨by simp [isInQ, bI, bI_n0.mp c1, bI_n0.mp c2, bI_n0.mp c3, bI_n0.mp c4, bI_n0.mp c5, bI_n0.mp c6, bI_0.mp c7], h.1⟩) dX6_isIn_57
              · skip
                refine r_aload_n hC 2 dX6_isIn_35 rfl 36 rfl ?_
                refine r_iload_n hC 1 dX6_isIn_36 rfl 37 rfl ?_
                refine r_iconst hC 3 dX6_isIn_37 ic_3 38 rfl ?_
                refine r_iload_n hC 0 dX6_isIn_38 rfl 39 rfl ?_
                refine r_iadd hC 4 dX6_isIn_39  (by decide) 40 rfl ?_
                refine r_invSr hC [.int 1, .int 4] (.int 15) mSX6_at q2711 (metX6_at _ _ hG 1 4) (fun _ _ => xIn.nil) ⟨rfl, rfl⟩ 0 0 rfl rfl (Nat.le_of_ble_eq_true rfl) (Nat.le_of_ble_eq_true rfl) rfl (Nat.le_of_ble_eq_true rfl) dX6_isIn_40 43 rfl ?_
                refine r_lald hC 15 (xix_n 15 (Nat.le_of_ble_eq_true rfl) (Nat.le_of_ble_eq_true rfl)) (fun _ h => h.get 0 rfl) (r 15) (rfl) dX6_isIn_43 44 rfl ?_
                refine r_ldc2 hC q3100 dX6_isIn_44 47 rfl ?_
                refine r_ldc2 hC q2926 dX6_isIn_47 50 rfl ?_
                refine r_invSr hC [.long (r 15), .long (-1000000000), .long 1000000000] (.int (bI (m_in (r 15) (-1000000000) 1000000000))) mSX6_in q2891 (metX6_in _ _ hG (r 15) (-1000000000) 1000000000) (fun _ _ => xIn.nil) ⟨rfl, rfl⟩ 0 0 rfl rfl (Nat.le_of_ble_eq_true rfl) (Nat.le_of_ble_eq_true rfl) rfl (Nat.le_of_ble_eq_true rfl) dX6_isIn_50 53 rfl ?_
                refine r_ifne hC 58 dX6_isIn_53 (by decide) 56 rfl (fun c8 => ?_) (fun c8 => ?_)
                · skip
                  refine r_iinc hC 2 2 0 [(2, .int 2), (1, .int 1), (0, .ref a)] dX6_isIn_58 rfl (by decide) (Nat.le_of_ble_eq_true rfl) rfl 61 rfl ?_
                  refine r_goto hC 9 dX6_isIn_61 (by decide) ?_
                  refine r_iload_n hC 0 dX6_isIn_9 rfl 10 rfl ?_
                  refine r_iconst hC 2 dX6_isIn_10 ic_2 11 rfl ?_
                  refine r_icge hC 64 dX6_isIn_11 (by decide) 14 rfl (fun _ => ?_) (fun h => absurd h (by decide))
                  refine r_iinc hC 2 1 1 [(1, .int 2), (2, .int 2), (0, .ref a)] dX6_isIn_64 rfl (by decide) (Nat.le_of_ble_eq_true rfl) rfl 67 rfl ?_
                  refine r_goto hC 2 dX6_isIn_67 (by decide) ?_
                  refine r_iload_n hC 0 dX6_isIn_2 rfl 3 rfl ?_
                  refine r_iconst hC 3 dX6_isIn_3 ic_3 4 rfl ?_
                  refine r_icge hC 70 dX6_isIn_4 (by decide) 7 rfl (fun h => absurd h (by decide)) (fun _ => ?_)
                  refine r_iconst hC 0 dX6_isIn_7 ic_0 8 rfl ?_
                  refine r_istore_n hC 2 [(2, .int 0), (1, .int 2), (0, .ref a)] dX6_isIn_8 rfl (Nat.le_of_ble_eq_true rfl) rfl 9 rfl ?_
                  refine r_iload_n hC 0 dX6_isIn_9 rfl 10 rfl ?_
                  refine r_iconst hC 2 dX6_isIn_10 ic_2 11 rfl ?_
                  refine r_icge hC 64 dX6_isIn_11 (by decide) 14 rfl (fun h => absurd h (by decide)) (fun _ => ?_)
                  refine r_aload_n hC 2 dX6_isIn_14 rfl 15 rfl ?_
                  refine r_iload_n hC 1 dX6_isIn_15 rfl 16 rfl ?_
                  refine r_iconst hC 1 dX6_isIn_16 ic_1 17 rfl ?_
                  refine r_iload_n hC 0 dX6_isIn_17 rfl 18 rfl ?_
                  refine r_iadd hC 1 dX6_isIn_18  (by decide) 19 rfl ?_
                  refine r_invSr hC [.int 2, .int 1] (.int 17) mSX6_at q2711 (metX6_at _ _ hG 2 1) (fun _ _ => xIn.nil) ⟨rfl, rfl⟩ 0 0 rfl rfl (Nat.le_of_ble_eq_true rfl) (Nat.le_of_ble_eq_true rfl) rfl (Nat.le_of_ble_eq_true rfl) dX6_isIn_19 22 rfl ?_
                  refine r_lald hC 17 (xix_n 17 (Nat.le_of_ble_eq_true rfl) (Nat.le_of_ble_eq_true rfl)) (fun _ h => h.get 0 rfl) (r 17) (rfl) dX6_isIn_22 23 rfl ?_
                  refine r_ldc2 hC q3099 dX6_isIn_23 26 rfl ?_
                  refine r_ldc2 hC q2983 dX6_isIn_26 29 rfl ?_
                  refine r_invSr hC [.long (r 17), .long (-100000), .long 100000] (.int (bI (m_in (r 17) (-100000) 100000))) mSX6_in q2891 (metX6_in _ _ hG (r 17) (-100000) 100000) (fun _ _ => xIn.nil) ⟨rfl, rfl⟩ 0 0 rfl rfl (Nat.le_of_ble_eq_true rfl) (Nat.le_of_ble_eq_true rfl) rfl (Nat.le_of_ble_eq_true rfl) dX6_isIn_29 32 rfl ?_
                  refine r_ifeq hC 56 dX6_isIn_32 (by decide) 35 rfl (fun c9 => ?_) (fun c9 => ?_)
                  · skip
                    refine r_iconst hC 0 dX6_isIn_56 ic_0 57 rfl ?_
                    exact r_zret hC (by decide) (Nat.le_of_ble_eq_true rfl) (Nat.le_of_ble_eq_true rfl) (fun V9 h => hQ _ _ ⟨by simp [isInQ, bI, bI_n0.mp c1, bI_n0.mp c2, bI_n0.mp c3, bI_n0.mp c4, bI_n0.mp c5, bI_n0.mp c6, bI_n0.mp c7, bI_n0.mp c8, bI_0.mp c9], h.1⟩) dX6_isIn_57
                  · skip
                    refine r_aload_n hC 2 dX6_isIn_35 rfl 36 rfl ?_
                    refine r_iload_n hC 1 dX6_isIn_36 rfl 37 rfl ?_
                    refine r_iconst hC 3 dX6_isIn_37 ic_3 38 rfl ?_
                    refine r_iload_n hC 0 dX6_isIn_38 rfl 39 rfl ?_
                    refine r_iadd hC 3 dX6_isIn_39  (by decide) 40 rfl ?_
                    refine r_invSr hC [.int 2, .int 3] (.int 19) mSX6_at q2711 (metX6_at _ _ hG 2 3) (fun _ _ => xIn.nil) ⟨rfl, rfl⟩ 0 0 rfl rfl (Nat.le_of_ble_eq_true rfl) (Nat.le_of_ble_eq_true rfl) rfl (Nat.le_of_ble_eq_true rfl) dX6_isIn_40 43 rfl ?_
                    refine r_lald hC 19 (xix_n 19 (Nat.le_of_ble_eq_true rfl) (Nat.le_of_ble_eq_true rfl)) (fun _ h => h.get 0 rfl) (r 19) (rfl) dX6_isIn_43 44 rfl ?_
                    refine r_ldc2 hC q3100 dX6_isIn_44 47 rfl ?_
                    refine r_ldc2 hC q2926 dX6_isIn_47 50 rfl ?_
                    refine r_invSr hC [.long (r 19), .long (-1000000000), .long 1000000000] (.int (bI (m_in (r 19) (-1000000000) 1000000000))) mSX6_in q2891 (metX6_in _ _ hG (r 19) (-1000000000) 1000000000) (fun _ _ => xIn.nil) ⟨rfl, rfl⟩ 0 0 rfl rfl (Nat.le_of_ble_eq_true rfl) (Nat.le_of_ble_eq_true rfl) rfl (Nat.le_of_ble_eq_true rfl) dX6_isIn_50 53 rfl ?_
                    refine r_ifne hC 58 dX6_isIn_53 (by decide) 56 rfl (fun c10 => ?_) (fun c10 => ?_)
                    · skip
                      refine r_iinc hC 1 2 0 [(2, .int 1), (1, .int 2), (0, .ref a)] dX6_isIn_58 rfl (by decide) (Nat.le_of_ble_eq_true rfl) rfl 61 rfl ?_
                      refine r_goto hC 9 dX6_isIn_61 (by decide) ?_
                      refine r_iload_n hC 0 dX6_isIn_9 rfl 10 rfl ?_
                      refine r_iconst hC 2 dX6_isIn_10 ic_2 11 rfl ?_
                      refine r_icge hC 64 dX6_isIn_11 (by decide) 14 rfl (fun h => absurd h (by decide)) (fun _ => ?_)
                      refine r_aload_n hC 2 dX6_isIn_14 rfl 15 rfl ?_
                      refine r_iload_n hC 1 dX6_isIn_15 rfl 16 rfl ?_
                      refine r_iconst hC 1 dX6_isIn_16 ic_1 17 rfl ?_
                      refine r_iload_n hC 0 dX6_isIn_17 rfl 18 rfl ?_
                      refine r_iadd hC 2 dX6_isIn_18  (by decide) 19 rfl ?_
                      refine r_invSr hC [.int 2, .int 2] (.int 18) mSX6_at q2711 (metX6_at _ _ hG 2 2) (fun _ _ => xIn.nil) ⟨rfl, rfl⟩ 0 0 rfl rfl (Nat.le_of_ble_eq_true rfl) (Nat.le_of_ble_eq_true rfl) rfl (Nat.le_of_ble_eq_true rfl) dX6_isIn_19 22 rfl ?_
                      refine r_lald hC 18 (xix_n 18 (Nat.le_of_ble_eq_true rfl) (Nat.le_of_ble_eq_true rfl)) (fun _ h => h.get 0 rfl) (r 18) (rfl) dX6_isIn_22 23 rfl ?_
                      refine r_ldc2 hC q3099 dX6_isIn_23 26 rfl ?_
                      refine r_ldc2 hC q2983 dX6_isIn_26 29 rfl ?_
                      refine r_invSr hC [.long (r 18), .long (-100000), .long 100000] (.int (bI (m_in (r 18) (-100000) 100000))) mSX6_in q2891 (metX6_in _ _ hG (r 18) (-100000) 100000) (fun _ _ => xIn.nil) ⟨rfl, rfl⟩ 0 0 rfl rfl (Nat.le_of_ble_eq_true rfl) (Nat.le_of_ble_eq_true rfl) rfl (Nat.le_of_ble_eq_true rfl) dX6_isIn_29 32 rfl ?_
                      refine r_ifeq hC 56 dX6_isIn_32 (by decide) 35 rfl (fun c11 => ?_) (fun c11 => ?_)
                      · skip
                        refine r_iconst hC 0 dX6_isIn_56 ic_0 57 rfl ?_
                        exact r_zret hC (by decide) (Nat.le_of_ble_eq_true rfl) (Nat.le_of_ble_eq_true rfl) (fun V9 h => hQ _ _ ⟨by simp [isInQ, bI, bI_n0.mp c1, bI_n0.mp c2, bI_n0.mp c3, bI_n0.mp c4, bI_n0.mp c5, bI_n0.mp c6, bI_n0.mp c7, bI_n0.mp c8, bI_n0.mp c9, bI_n0.mp c10, bI_0.mp c11], h.1⟩) dX6_isIn_57
                      · skip
                        refine r_aload_n hC 2 dX6_isIn_35 rfl 36 rfl ?_
                        refine r_iload_n hC 1 dX6_isIn_36 rfl 37 rfl ?_
                        refine r_iconst hC 3 dX6_isIn_37 ic_3 38 rfl ?_
                        refine r_iload_n hC 0 dX6_isIn_38 rfl 39 rfl ?_
                        refine r_iadd hC 4 dX6_isIn_39  (by decide) 40 rfl ?_
                        refine r_invSr hC [.int 2, .int 4] (.int 20) mSX6_at q2711 (metX6_at _ _ hG 2 4) (fun _ _ => xIn.nil) ⟨rfl, rfl⟩ 0 0 rfl rfl (Nat.le_of_ble_eq_true rfl) (Nat.le_of_ble_eq_true rfl) rfl (Nat.le_of_ble_eq_true rfl) dX6_isIn_40 43 rfl ?_
                        refine r_lald hC 20 (xix_n 20 (Nat.le_of_ble_eq_true rfl) (Nat.le_of_ble_eq_true rfl)) (fun _ h => h.get 0 rfl) (r 20) (rfl) dX6_isIn_43 44 rfl ?_
                        refine r_ldc2 hC q3100 dX6_isIn_44 47 rfl ?_
                        refine r_ldc2 hC q2926 dX6_isIn_47 50 rfl ?_
                        refine r_invSr hC [.long (r 20), .long (-1000000000), .long 1000000000] (.int (bI (m_in (r 20) (-1000000000) 1000000000))) mSX6_in q2891 (metX6_in _ _ hG (r 20) (-1000000000) 1000000000) (fun _ _ => xIn.nil) ⟨rfl, rfl⟩ 0 0 rfl rfl (Nat.le_of_ble_eq_true rfl) (Nat.le_of_ble_eq_true rfl) rfl (Nat.le_of_ble_eq_true rfl) dX6_isIn_50 53 rfl ?_
                        refine r_ifne hC 58 dX6_isIn_53 (by decide) 56 rfl (fun c12 => ?_) (fun c12 => ?_)
                        · skip
                          refine r_iinc hC 2 2 0 [(2, .int 2), (1, .int 2), (0, .ref a)] dX6_isIn_58 rfl (by decide) (Nat.le_of_ble_eq_true rfl) rfl 61 rfl ?_
                          refine r_goto hC 9 dX6_isIn_61 (by decide) ?_
                          refine r_iload_n hC 0 dX6_isIn_9 rfl 10 rfl ?_
                          refine r_iconst hC 2 dX6_isIn_10 ic_2 11 rfl ?_
                          refine r_icge hC 64 dX6_isIn_11 (by decide) 14 rfl (fun _ => ?_) (fun h => absurd h (by decide))
                          refine r_iinc hC 3 1 1 [(1, .int 3), (2, .int 2), (0, .ref a)] dX6_isIn_64 rfl (by decide) (Nat.le_of_ble_eq_true rfl) rfl 67 rfl ?_
                          refine r_goto hC 2 dX6_isIn_67 (by decide) ?_
                          refine r_iload_n hC 0 dX6_isIn_2 rfl 3 rfl ?_
                          refine r_iconst hC 3 dX6_isIn_3 ic_3 4 rfl ?_
                          refine r_icge hC 70 dX6_isIn_4 (by decide) 7 rfl (fun _ => ?_) (fun h => absurd h (by decide))
                          refine r_iconst hC 1 dX6_isIn_70 ic_1 71 rfl ?_
                          exact r_zret hC (by decide) (Nat.le_of_ble_eq_true rfl) (Nat.le_of_ble_eq_true rfl) (fun V9 h => hQ _ _ ⟨by simp [isInQ, bI, bI_n0.mp c1, bI_n0.mp c2, bI_n0.mp c3, bI_n0.mp c4, bI_n0.mp c5, bI_n0.mp c6, bI_n0.mp c7, bI_n0.mp c8, bI_n0.mp c9, bI_n0.mp c10, bI_n0.mp c11, bI_n0.mp c12], h.1⟩) dX6_isIn_71
                        · skip
                          refine r_iconst hC 0 dX6_isIn_56 ic_0 57 rfl ?_
                          exact r_zret hC (by decide) (Nat.le_of_ble_eq_true rfl) (Nat.le_of_ble_eq_true rfl) (fun V9 h => hQ _ _ ⟨by simp [isInQ, bI, bI_n0.mp c1, bI_n0.mp c2, bI_n0.mp c3, bI_n0.mp c4, bI_n0.mp c5, bI_n0.mp c6, bI_n0.mp c7, bI_n0.mp c8, bI_n0.mp c9, bI_n0.mp c10, bI_n0.mp c11, bI_0.mp c12], h.1⟩) dX6_isIn_57
                    · skip
                      refine r_iconst hC 0 dX6_isIn_56 ic_0 57 rfl ?_
                      exact r_zret hC (by decide) (Nat.le_of_ble_eq_true rfl) (Nat.le_of_ble_eq_true rfl) (fun V9 h => hQ _ _ ⟨by simp [isInQ, bI, bI_n0.mp c1, bI_n0.mp c2, bI_n0.mp c3, bI_n0.mp c4, bI_n0.mp c5, bI_n0.mp c6, bI_n0.mp c7, bI_n0.mp c8, bI_n0.mp c9, bI_0.mp c10], h.1⟩) dX6_isIn_57
                · skip
                  refine r_iconst hC 0 dX6_isIn_56 ic_0 57 rfl ?_
                  exact r_zret hC (by decide) (Nat.le_of_ble_eq_true rfl) (Nat.le_of_ble_eq_true rfl) (fun V9 h => hQ _ _ ⟨by simp [isInQ, bI, bI_n0.mp c1, bI_n0.mp c2, bI_n0.mp c3, bI_n0.mp c4, bI_n0.mp c5, bI_n0.mp c6, bI_n0.mp c7, bI_0.mp c8], h.1⟩) dX6_isIn_57
            · skip
              refine r_iconst hC 0 dX6_isIn_56 ic_0 57 rfl ?_
              exact r_zret hC (by decide) (Nat.le_of_ble_eq_true rfl) (Nat.le_of_ble_eq_true rfl) (fun V9 h => hQ _ _ ⟨by simp [isInQ, bI, bI_n0.mp c1, bI_n0.mp c2, bI_n0.mp c3, bI_n0.mp c4, bI_n0.mp c5, bI_0.mp c6], h.1⟩) dX6_isIn_57
        · skip
          refine r_iconst hC 0 dX6_isIn_56 ic_0 57 rfl ?_
          exact r_zret hC (by decide) (Nat.le_of_ble_eq_true rfl) (Nat.le_of_ble_eq_true rfl) (fun V9 h => hQ _ _ ⟨by simp [isInQ, bI, bI_n0.mp c1, bI_n0.mp c2, bI_n0.mp c3, bI_0.mp c4], h.1⟩) dX6_isIn_57
    · skip
      refine r_iconst hC 0 dX6_isIn_56 ic_0 57 rfl ?_
      exact r_zret hC (by decide) (Nat.le_of_ble_eq_true rfl) (Nat.le_of_ble_eq_true rfl) (fun V9 h => hQ _ _ ⟨by simp [isInQ, bI, bI_n0.mp c1, bI_0.mp c2], h.1⟩) dX6_isIn_57
set_option maxHeartbeats 4000000 in
set_option maxRecDepth 100000 in
theorem metX6_partOf0 (l : Launch) (G : xG) (hG : xGood G) (sc : Int64) (v : Int32) (hv : partQ sc 0 = v) : xRm l G yX6_partOf (Cond.code yX6_partOf cX6_partOf 3 (some .int)) { frames := 0, locals := 0, cells := 0, slots := 0 } [.long sc, .int 0] [] (some (.int v)) := by
  intro V hV
  refine xMet_of RX6 hG rfl (by decide) (Nat.le_of_ble_eq_true rfl) fun C hC hQ hX hl hg _ => ?_
  subst hl hg
  refine rn.mono (J := xRo [] V) (fun V9 h => ⟨h, hV⟩) ?_
  show rn C (xRo [] V) 0 0 0 [(0, .long sc), (2, .int 0)] []
  refine r_lload_n hC 0 dX6_partOf_0 rfl 1 rfl ?_
  refine r_lconst hC 0 dX6_partOf_1 lc_0 2 rfl ?_
  refine r_lcne hC 25 dX6_partOf_2 dX6_partOf_3 (by decide) 6 rfl (fun c1 => ?_) (fun c1 => ?_)
  · skip
    refine r_lload_n hC 0 dX6_partOf_25 rfl 26 rfl ?_
    refine r_lconst hC 1 dX6_partOf_26 lc_1 27 rfl ?_
    refine r_lcne hC 42 dX6_partOf_27 dX6_partOf_28 (by decide) 31 rfl (fun c2 => ?_) (fun c2 => ?_)
    · skip
      refine r_iload_n hC 1 dX6_partOf_42 rfl 43 rfl ?_
      refine r_iconst hC 1 dX6_partOf_43 ic_1 44 rfl ?_
      refine r_icne hC 51 dX6_partOf_44 (by decide) 47 rfl (fun _ => ?_) (fun h => absurd h (by decide))
      refine r_iconst hC 2 dX6_partOf_51 ic_2 52 rfl ?_
      exact r_iret hC (Nat.le_of_ble_eq_true rfl) (Nat.le_of_ble_eq_true rfl) (fun V9 h => hQ _ _ ⟨by rw [← hv]; simp [partQ, c1, c2], h.1⟩) dX6_partOf_52
    · skip
      refine r_iload_n hC 1 dX6_partOf_31 rfl 32 rfl ?_
      refine r_iconst hC 1 dX6_partOf_32 ic_1 33 rfl ?_
      refine r_icne hC 40 dX6_partOf_33 (by decide) 36 rfl (fun _ => ?_) (fun h => absurd h (by decide))
      refine r_iconst hC 3 dX6_partOf_40 ic_3 41 rfl ?_
      exact r_iret hC (Nat.le_of_ble_eq_true rfl) (Nat.le_of_ble_eq_true rfl) (fun V9 h => hQ _ _ ⟨by rw [← hv]; simp [partQ, c1, c2], h.1⟩) dX6_partOf_41
  · skip
    refine r_iload_n hC 1 dX6_partOf_6 rfl 7 rfl ?_
    refine r_ifne hC 14 dX6_partOf_7 (by decide) 10 rfl (fun h => absurd h (by decide)) (fun _ => ?_)
    refine r_iconst hC 0 dX6_partOf_10 ic_0 11 rfl ?_
    refine r_goto hC 24 dX6_partOf_11 (by decide) ?_
    exact r_iret hC (Nat.le_of_ble_eq_true rfl) (Nat.le_of_ble_eq_true rfl) (fun V9 h => hQ _ _ ⟨by rw [← hv]; simp [partQ, c1], h.1⟩) dX6_partOf_24
set_option maxHeartbeats 4000000 in
set_option maxRecDepth 100000 in
theorem metX6_partOf1 (l : Launch) (G : xG) (hG : xGood G) (sc : Int64) (v : Int32) (hv : partQ sc 1 = v) : xRm l G yX6_partOf (Cond.code yX6_partOf cX6_partOf 3 (some .int)) { frames := 0, locals := 0, cells := 0, slots := 0 } [.long sc, .int 1] [] (some (.int v)) := by
  intro V hV
  refine xMet_of RX6 hG rfl (by decide) (Nat.le_of_ble_eq_true rfl) fun C hC hQ hX hl hg _ => ?_
  subst hl hg
  refine rn.mono (J := xRo [] V) (fun V9 h => ⟨h, hV⟩) ?_
  show rn C (xRo [] V) 0 0 0 [(0, .long sc), (2, .int 1)] []
  refine r_lload_n hC 0 dX6_partOf_0 rfl 1 rfl ?_
  refine r_lconst hC 0 dX6_partOf_1 lc_0 2 rfl ?_
  refine r_lcne hC 25 dX6_partOf_2 dX6_partOf_3 (by decide) 6 rfl (fun c1 => ?_) (fun c1 => ?_)
  · skip
    refine r_lload_n hC 0 dX6_partOf_25 rfl 26 rfl ?_
    refine r_lconst hC 1 dX6_partOf_26 lc_1 27 rfl ?_
    refine r_lcne hC 42 dX6_partOf_27 dX6_partOf_28 (by decide) 31 rfl (fun c2 => ?_) (fun c2 => ?_)
    · skip
      refine r_iload_n hC 1 dX6_partOf_42 rfl 43 rfl ?_
      refine r_iconst hC 1 dX6_partOf_43 ic_1 44 rfl ?_
      refine r_icne hC 51 dX6_partOf_44 (by decide) 47 rfl (fun h => absurd h (by decide)) (fun _ => ?_)
      refine r_iconst hC 1 dX6_partOf_47 ic_1 48 rfl ?_
      refine r_goto hC 52 dX6_partOf_48 (by decide) ?_
      exact r_iret hC (Nat.le_of_ble_eq_true rfl) (Nat.le_of_ble_eq_true rfl) (fun V9 h => hQ _ _ ⟨by rw [← hv]; simp [partQ, c1, c2], h.1⟩) dX6_partOf_52
    · skip
      refine r_iload_n hC 1 dX6_partOf_31 rfl 32 rfl ?_
      refine r_iconst hC 1 dX6_partOf_32 ic_1 33 rfl ?_
      refine r_icne hC 40 dX6_partOf_33 (by decide) 36 rfl (fun h => absurd h (by decide)) (fun _ => ?_)
      refine r_iconst hC 0 dX6_partOf_36 ic_0 37 rfl ?_
      refine r_goto hC 41 dX6_partOf_37 (by decide) ?_
      exact r_iret hC (Nat.le_of_ble_eq_true rfl) (Nat.le_of_ble_eq_true rfl) (fun V9 h => hQ _ _ ⟨by rw [← hv]; simp [partQ, c1, c2], h.1⟩) dX6_partOf_41
  · skip
    refine r_iload_n hC 1 dX6_partOf_6 rfl 7 rfl ?_
    refine r_ifne hC 14 dX6_partOf_7 (by decide) 10 rfl (fun _ => ?_) (fun h => absurd h (by decide))
    refine r_iload_n hC 1 dX6_partOf_14 rfl 15 rfl ?_
    refine r_iconst hC 1 dX6_partOf_15 ic_1 16 rfl ?_
    refine r_icne hC 23 dX6_partOf_16 (by decide) 19 rfl (fun h => absurd h (by decide)) (fun _ => ?_)
    refine r_iconst hC 1 dX6_partOf_19 ic_1 20 rfl ?_
    refine r_goto hC 24 dX6_partOf_20 (by decide) ?_
    exact r_iret hC (Nat.le_of_ble_eq_true rfl) (Nat.le_of_ble_eq_true rfl) (fun V9 h => hQ _ _ ⟨by rw [← hv]; simp [partQ, c1], h.1⟩) dX6_partOf_24
set_option maxHeartbeats 4000000 in
set_option maxRecDepth 100000 in
theorem metX6_partOf2 (l : Launch) (G : xG) (hG : xGood G) (sc : Int64) (v : Int32) (hv : partQ sc 2 = v) : xRm l G yX6_partOf (Cond.code yX6_partOf cX6_partOf 3 (some .int)) { frames := 0, locals := 0, cells := 0, slots := 0 } [.long sc, .int 2] [] (some (.int v)) := by
  intro V hV
  refine xMet_of RX6 hG rfl (by decide) (Nat.le_of_ble_eq_true rfl) fun C hC hQ hX hl hg _ => ?_
  subst hl hg
  refine rn.mono (J := xRo [] V) (fun V9 h => ⟨h, hV⟩) ?_
  show rn C (xRo [] V) 0 0 0 [(0, .long sc), (2, .int 2)] []
  refine r_lload_n hC 0 dX6_partOf_0 rfl 1 rfl ?_
  refine r_lconst hC 0 dX6_partOf_1 lc_0 2 rfl ?_
  refine r_lcne hC 25 dX6_partOf_2 dX6_partOf_3 (by decide) 6 rfl (fun c1 => ?_) (fun c1 => ?_)
  · skip
    refine r_lload_n hC 0 dX6_partOf_25 rfl 26 rfl ?_
    refine r_lconst hC 1 dX6_partOf_26 lc_1 27 rfl ?_
    refine r_lcne hC 42 dX6_partOf_27 dX6_partOf_28 (by decide) 31 rfl (fun c2 => ?_) (fun c2 => ?_)
    · skip
      refine r_iload_n hC 1 dX6_partOf_42 rfl 43 rfl ?_
      refine r_iconst hC 1 dX6_partOf_43 ic_1 44 rfl ?_
      refine r_icne hC 51 dX6_partOf_44 (by decide) 47 rfl (fun _ => ?_) (fun h => absurd h (by decide))
      refine r_iconst hC 2 dX6_partOf_51 ic_2 52 rfl ?_
      exact r_iret hC (Nat.le_of_ble_eq_true rfl) (Nat.le_of_ble_eq_true rfl) (fun V9 h => hQ _ _ ⟨by rw [← hv]; simp [partQ, c1, c2], h.1⟩) dX6_partOf_52
    · skip
      refine r_iload_n hC 1 dX6_partOf_31 rfl 32 rfl ?_
      refine r_iconst hC 1 dX6_partOf_32 ic_1 33 rfl ?_
      refine r_icne hC 40 dX6_partOf_33 (by decide) 36 rfl (fun _ => ?_) (fun h => absurd h (by decide))
      refine r_iconst hC 3 dX6_partOf_40 ic_3 41 rfl ?_
      exact r_iret hC (Nat.le_of_ble_eq_true rfl) (Nat.le_of_ble_eq_true rfl) (fun V9 h => hQ _ _ ⟨by rw [← hv]; simp [partQ, c1, c2], h.1⟩) dX6_partOf_41
  · skip
    refine r_iload_n hC 1 dX6_partOf_6 rfl 7 rfl ?_
    refine r_ifne hC 14 dX6_partOf_7 (by decide) 10 rfl (fun _ => ?_) (fun h => absurd h (by decide))
    refine r_iload_n hC 1 dX6_partOf_14 rfl 15 rfl ?_
    refine r_iconst hC 1 dX6_partOf_15 ic_1 16 rfl ?_
    refine r_icne hC 23 dX6_partOf_16 (by decide) 19 rfl (fun _ => ?_) (fun h => absurd h (by decide))
    refine r_iconst hC (-1) dX6_partOf_23 ic_m1 24 rfl ?_
    exact r_iret hC (Nat.le_of_ble_eq_true rfl) (Nat.le_of_ble_eq_true rfl) (fun V9 h => hQ _ _ ⟨by rw [← hv]; simp [partQ, c1], h.1⟩) dX6_partOf_24
