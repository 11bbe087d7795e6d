/-! ===== the reference: energies, impulses, kicks, drifts ===== -/
set_option maxRecDepth 100000
/-- the reference's object: refs by number, int and long fields by number -/
def mF (b : Nat → Nat) (i : Nat → Int32) (j : Nat → Int64) : List Value := [.int (i 0), .ref (b 1), .ref (b 2), .ref (b 3), .ref (b 4), .ref (b 5), .ref (b 6), .ref (b 7), .ref (b 8), .int (i 9), .int (i 10), .int (i 11), .ref (b 12), .ref (b 13), .int (i 14), .int (i 15), .int (i 16), .int (i 17), .int (i 18), .long (j 19), .long (j 20), .int (i 21), .int (i 22), .ref (b 23), .ref (b 24), .ref (b 25), .long (j 26), .ref (b 27), .ref (b 28), .ref (b 29), .int (i 30), .ref (b 31), .int (i 32), .ref (b 33), .ref (b 34), .ref (b 35), .int (i 36), .int (i 37), .int (i 38)]
def reachQ (t r : Nat → Int64) (p : Nat) : Int64 := lN (distQ r p) + t 1
def impQ (t r : Nat → Int64) (p x : Nat) : Int64 := t 0 * r (6 + 5 * m_first p + 0) * r (6 + 5 * m_second p + 0) * (r (6 + 5 * m_second p + (1 + x)) - r (6 + 5 * m_first p + (1 + x))) / (reachQ t r p * reachQ t r p * reachQ t r p)
def kinQ (r : Nat → Int64) : Int64 := 0 + (r 9 * r 9 + r 10 * r 10) / (2 * r 6) + (r 14 * r 14 + r 15 * r 15) / (2 * r 11) + (r 19 * r 19 + r 20 * r 20) / (2 * r 16)
def potQ (t r : Nat → Int64) : Int64 := 0 - t 0 * r 6 * r 11 / reachQ t r 0 - t 0 * r 6 * r 16 / reachQ t r 1 - t 0 * r 11 * r 16 / reachQ t r 2
def enQ (t r : Nat → Int64) : Int64 := kinQ r + potQ t r
def bandQ (t r : Nat → Int64) : Int64 := m_floored (enQ t r) (t 4)
/-- what keeps divisors from zero -/
def rowOK (t r : Nat → Int64) : Prop := (∀ p, p < 3 → ¬ reachQ t r p = 0 ∧ ¬ reachQ t r p * reachQ t r p * reachQ t r p = 0) ∧ (¬ 2 * r 6 = 0 ∧ ¬ 2 * r 11 = 0 ∧ ¬ 2 * r 16 = 0) ∧ (¬ r 6 = 0 ∧ ¬ r 11 = 0 ∧ ¬ r 16 = 0) ∧ ¬ t 4 = 0
set_option maxHeartbeats 4000000 in
set_option maxRecDepth 100000 in
theorem metX6_reachOf (l : Launch) (G : xG) (hG : xGood G) (b : Nat → Nat) (i : Nat → Int32) (j : Nat → Int64) (t : Nat → Int64) (a : Nat) (r : Nat → Int64) (p : Nat) (hp : p < 3) : xRm l G yX6_reachOf (Cond.code yX6_reachOf cX6_reachOf 3 (some .long)) { frames := 3, locals := 73, cells := 0, slots := 0 } [.ref (b 0), .ref a, .int (nI p)] [(b 0, .inr (5, mF b i j)), (b 7, .inl (1, 5, .inr (.inl t))), (a, .inl (1, 111, .inr (.inl r)))] (some (.long (reachQ t r p))) := by
  intro V hV
  refine xMet_of RX6 hG rfl (by decide) (Nat.le_of_ble_eq_true rfl) fun C hC hQ hX hl hg _ => ?_
  subst hl hg
  refine rn.mono (J := xRo [(b 0, .inr (5, mF b i j)), (b 7, .inl (1, 5, .inr (.inl t))), (a, .inl (1, 111, .inr (.inl r)))] V) (fun V9 h => ⟨h, hV⟩) ?_
  show rn C (xRo [(b 0, .inr (5, mF b i j)), (b 7, .inl (1, 5, .inr (.inl t))), (a, .inl (1, 111, .inr (.inl r)))] V) 0 0 0 [(0, .ref (b 0)), (1, .ref a), (2, .int (nI p))] []
  refine r_aload_n hC 1 dX6_reachOf_0 rfl 1 rfl ?_
  refine r_iload_n hC 2 dX6_reachOf_1 rfl 2 rfl ?_
  refine r_invSr hC [.ref a, .int (nI p)] (.long (lN (distQ r p))) mSX6_distanceOf q2743 (metX6_distanceOf _ _ hG a _ p (by omega)) (fun _ h => h.in.sub [2] rfl rfl) ⟨rfl, rfl⟩ 0 0 rfl rfl (Nat.le_of_ble_eq_true rfl) (Nat.le_of_ble_eq_true rfl) rfl (Nat.le_of_ble_eq_true rfl) dX6_reachOf_2 5 rfl ?_
  refine r_aload_n hC 0 dX6_reachOf_5 rfl 6 rfl ?_
  refine r_get (v := .ref (b 7)) hC kX6 7 rfl q2760 (fun _ h => h.get 0 rfl) rfl dX6_reachOf_6 9 rfl ?_
  refine r_iconst hC 1 dX6_reachOf_9 ic_1 10 rfl ?_
  refine r_lald hC 1 (xix_n 1 (Nat.le_of_ble_eq_true rfl) (Nat.le_of_ble_eq_true rfl)) (fun _ h => h.get 1 rfl) (t 1) (rfl) dX6_reachOf_10 11 rfl ?_
  refine r_ladd hC ((lN (distQ r p)) + (t 1)) dX6_reachOf_11  (rfl) 12 rfl ?_
  exact r_lret hC (Nat.le_of_ble_eq_true rfl) (Nat.le_of_ble_eq_true rfl) (fun V9 h => hQ _ _ ⟨rfl, h.1⟩) dX6_reachOf_12
set_option maxHeartbeats 4000000 in
set_option maxRecDepth 100000 in
theorem metX6_impulseOf (l : Launch) (G : xG) (hG : xGood G) (b : Nat → Nat) (i : Nat → Int32) (j : Nat → Int64) (t : Nat → Int64) (a : Nat) (r : Nat → Int64) (p x : Nat) (hp : p < 3) (hx : x < 2) (hok : rowOK t r) : xRm l G yX6_impulseOf (Cond.code yX6_impulseOf cX6_impulseOf 10 (some .long)) { frames := 4, locals := 95, cells := 0, slots := 0 } [.ref (b 0), .ref a, .int (nI p), .int (nI x)] [(b 0, .inr (5, mF b i j)), (b 7, .inl (1, 5, .inr (.inl t))), (a, .inl (1, 111, .inr (.inl r)))] (some (.long (impQ t r p x))) := by
  intro V hV
  refine xMet_of RX6 hG rfl (by decide) (Nat.le_of_ble_eq_true rfl) fun C hC hQ hX hl hg _ => ?_
  subst hl hg
  have hf := @m_first_lt p
  have hs := @m_second_lt p
  refine rn.mono (J := xRo [(b 0, .inr (5, mF b i j)), (b 7, .inl (1, 5, .inr (.inl t))), (a, .inl (1, 111, .inr (.inl r)))] V) (fun V9 h => ⟨h, hV⟩) ?_
  show rn C (xRo [(b 0, .inr (5, mF b i j)), (b 7, .inl (1, 5, .inr (.inl t))), (a, .inl (1, 111, .inr (.inl r)))] V) 0 0 0 [(0, .ref (b 0)), (1, .ref a), (2, .int (nI p)), (3, .int (nI x))] []
  refine r_iload_n hC 2 dX6_impulseOf_0 rfl 1 rfl ?_
  refine r_invSr hC [.int (nI p)] (.int (nI (m_first p))) mSX6_firstOf q2733 (metX6_firstOf _ _ hG p (by omega)) (fun _ _ => xIn.nil) ⟨rfl, rfl⟩ 0 0 rfl rfl (Nat.le_of_ble_eq_true rfl) (Nat.le_of_ble_eq_true rfl) rfl (Nat.le_of_ble_eq_true rfl) dX6_impulseOf_1 4 rfl ?_
  refine r_istore hC 4 [(4, .int (nI (m_first p))), (0, .ref (b 0)), (1, .ref a), (2, .int (nI p)), (3, .int (nI x))] dX6_impulseOf_4 (Nat.le_of_ble_eq_true rfl) rfl 6 rfl ?_
  refine r_iload_n hC 3 dX6_impulseOf_6 rfl 7 rfl ?_
  refine r_invSr hC [.int (nI p)] (.int (nI (m_second p))) mSX6_secondOf q2736 (metX6_secondOf _ _ hG p (by omega)) (fun _ _ => xIn.nil) ⟨rfl, rfl⟩ 0 0 rfl rfl (Nat.le_of_ble_eq_true rfl) (Nat.le_of_ble_eq_true rfl) rfl (Nat.le_of_ble_eq_true rfl) dX6_impulseOf_7 10 rfl ?_
  refine r_istore hC 5 [(5, .int (nI (m_second p))), (4, .int (nI (m_first p))), (0, .ref (b 0)), (1, .ref a), (2, .int (nI p)), (3, .int (nI x))] dX6_impulseOf_10 (Nat.le_of_ble_eq_true rfl) rfl 12 rfl ?_
  refine r_aload_n hC 2 dX6_impulseOf_12 rfl 13 rfl ?_
  refine r_aload_n hC 3 dX6_impulseOf_13 rfl 14 rfl ?_
  refine r_iload_n hC 4 dX6_impulseOf_14 rfl 15 rfl ?_
  refine r_invVr hC kX6 (b 0) [.ref a, .int (nI p)] (.long (reachQ t r p)) mVX6_reachOf q2739 (fun _ h => h.get 0 rfl) (metX6_reachOf _ _ hG b _ _ _ a _ p (by omega)) (fun _ h => h.in.sub [0, 1, 2] rfl rfl) ⟨rfl, rfl⟩ 0 0 rfl rfl (Nat.le_of_ble_eq_true rfl) (Nat.le_of_ble_eq_true rfl) rfl (Nat.le_of_ble_eq_true rfl) dX6_impulseOf_15 18 rfl ?_
  refine r_lstore hC 6 [(6, .long (reachQ t r p)), (5, .int (nI (m_second p))), (4, .int (nI (m_first p))), (0, .ref (b 0)), (1, .ref a), (2, .int (nI p)), (3, .int (nI x))] dX6_impulseOf_18 (Nat.le_of_ble_eq_true rfl) rfl 20 rfl ?_
  refine r_aload_n hC 3 dX6_impulseOf_20 rfl 21 rfl ?_
  refine r_get (v := .ref (b 7)) hC kX6 7 rfl q2760 (fun _ h => h.get 0 rfl) rfl dX6_impulseOf_21 24 rfl ?_
  refine r_iconst hC 0 dX6_impulseOf_24 ic_0 25 rfl ?_
  refine r_lald hC 0 (xix_n 0 (Nat.le_of_ble_eq_true rfl) (Nat.le_of_ble_eq_true rfl)) (fun _ h => h.get 1 rfl) (t 0) (rfl) dX6_impulseOf_25 26 rfl ?_
  refine r_aload_n hC 4 dX6_impulseOf_26 rfl 27 rfl ?_
  refine r_iload hC 2 dX6_impulseOf_27 rfl 29 rfl ?_
  refine r_iconst hC 0 dX6_impulseOf_29 ic_0 30 rfl ?_
  refine r_invSr hC [.int (nI (m_first p)), .int 0] (.int (nI (6 + 5 * (m_first p) + 0))) mSX6_at q2711 (metX6_at _ _ hG (m_first p) 0) (fun _ _ => xIn.nil) ⟨rfl, rfl⟩ 0 0 rfl rfl (Nat.le_of_ble_eq_true rfl) (Nat.le_of_ble_eq_true rfl) rfl (Nat.le_of_ble_eq_true rfl) dX6_impulseOf_30 33 rfl ?_
  refine r_lald hC (6 + 5 * (m_first p) + 0) (xix_n (6 + 5 * (m_first p) + 0) (by omega) (Nat.le_of_ble_eq_true rfl)) (fun _ h => h.get 2 rfl) (r (6 + 5 * (m_first p) + 0)) (rfl) dX6_impulseOf_33 34 rfl ?_
  refine r_lmul hC ((t 0) * (r (6 + 5 * (m_first p) + 0))) dX6_impulseOf_34  (rfl) 35 rfl ?_
  refine r_aload_n hC 4 dX6_impulseOf_35 rfl 36 rfl ?_
  refine r_iload hC 1 dX6_impulseOf_36 rfl 38 rfl ?_
  refine r_iconst hC 0 dX6_impulseOf_38 ic_0 39 rfl ?_
  refine r_invSr hC [.int (nI (m_second p)), .int 0] (.int (nI (6 + 5 * (m_second p) + 0))) mSX6_at q2711 (metX6_at _ _ hG (m_second p) 0) (fun _ _ => xIn.nil) ⟨rfl, rfl⟩ 0 0 rfl rfl (Nat.le_of_ble_eq_true rfl) (Nat.le_of_ble_eq_true rfl) rfl (Nat.le_of_ble_eq_true rfl) dX6_impulseOf_39 42 rfl ?_
  refine r_lald hC (6 + 5 * (m_second p) + 0) (xix_n (6 + 5 * (m_second p) + 0) (by omega) (Nat.le_of_ble_eq_true rfl)) (fun _ h => h.get 2 rfl) (r (6 + 5 * (m_second p) + 0)) (rfl) dX6_impulseOf_42 43 rfl ?_
  refine r_lmul hC (((t 0) * (r (6 + 5 * (m_first p) + 0))) * (r (6 + 5 * (m_second p) + 0))) dX6_impulseOf_43  (rfl) 44 rfl ?_
  refine r_aload_n hC 4 dX6_impulseOf_44 rfl 45 rfl ?_
  refine r_iload hC 1 dX6_impulseOf_45 rfl 47 rfl ?_
  refine r_iconst hC 1 dX6_impulseOf_47 ic_1 48 rfl ?_
  refine r_iload_n hC 6 dX6_impulseOf_48 rfl 49 rfl ?_
  refine r_iadd hC (nI (1 + x)) dX6_impulseOf_49  (nI_add 1 x) 50 rfl ?_
  refine r_invSr hC [.int (nI (m_second p)), .int (nI (1 + x))] (.int (nI (6 + 5 * (m_second p) + (1 + x)))) mSX6_at q2711 (metX6_at _ _ hG (m_second p) (1 + x)) (fun _ _ => xIn.nil) ⟨rfl, rfl⟩ 0 0 rfl rfl (Nat.le_of_ble_eq_true rfl) (Nat.le_of_ble_eq_true rfl) rfl (Nat.le_of_ble_eq_true rfl) dX6_impulseOf_50 53 rfl ?_
  refine r_lald hC (6 + 5 * (m_second p) + (1 + x)) (xix_n (6 + 5 * (m_second p) + (1 + x)) (by omega) (Nat.le_of_ble_eq_true rfl)) (fun _ h => h.get 2 rfl) (r (6 + 5 * (m_second p) + (1 + x))) (rfl) dX6_impulseOf_53 54 rfl ?_
  refine r_aload_n hC 4 dX6_impulseOf_54 rfl 55 rfl ?_
  refine r_iload hC 2 dX6_impulseOf_55 rfl 57 rfl ?_
  refine r_iconst hC 1 dX6_impulseOf_57 ic_1 58 rfl ?_
  refine r_iload_n hC 6 dX6_impulseOf_58 rfl 59 rfl ?_
  refine r_iadd hC (nI (1 + x)) dX6_impulseOf_59  (nI_add 1 x) 60 rfl ?_
  refine r_invSr hC [.int (nI (m_first p)), .int (nI (1 + x))] (.int (nI (6 + 5 * (m_first p) + (1 + x)))) mSX6_at q2711 (metX6_at _ _ hG (m_first p) (1 + x)) (fun _ _ => xIn.nil) ⟨rfl, rfl⟩ 0 0 rfl rfl (Nat.le_of_ble_eq_true rfl) (Nat.le_of_ble_eq_true rfl) rfl (Nat.le_of_ble_eq_true rfl) dX6_impulseOf_60 63 rfl ?_
  refine r_lald hC (6 + 5 * (m_first p) + (1 + x)) (xix_n (6 + 5 * (m_first p) + (1 + x)) (by omega) (Nat.le_of_ble_eq_true rfl)) (fun _ h => h.get 2 rfl) (r (6 + 5 * (m_first p) + (1 + x))) (rfl) dX6_impulseOf_63 64 rfl ?_
  refine r_lsub hC ((r (6 + 5 * (m_second p) + (1 + x))) - (r (6 + 5 * (m_first p) + (1 + x)))) dX6_impulseOf_64  (rfl) 65 rfl ?_
  refine r_lmul hC ((((t 0) * (r (6 + 5 * (m_first p) + 0))) * (r (6 + 5 * (m_second p) + 0))) * ((r (6 + 5 * (m_second p) + (1 + x))) - (r (6 + 5 * (m_first p) + (1 + x))))) dX6_impulseOf_65  (rfl) 66 rfl ?_
  refine r_lstore hC 8 [(8, .long ((((t 0) * (r (6 + 5 * (m_first p) + 0))) * (r (6 + 5 * (m_second p) + 0))) * ((r (6 + 5 * (m_second p) + (1 + x))) - (r (6 + 5 * (m_first p) + (1 + x)))))), (6, .long (reachQ t r p)), (5, .int (nI (m_second p))), (4, .int (nI (m_first p))), (0, .ref (b 0)), (1, .ref a), (2, .int (nI p)), (3, .int (nI x))] dX6_impulseOf_66 (Nat.le_of_ble_eq_true rfl) rfl 68 rfl ?_
  refine r_lload hC 0 dX6_impulseOf_68 rfl 70 rfl ?_
  refine r_lload hC 1 dX6_impulseOf_70 rfl 72 rfl ?_
  refine r_lload hC 1 dX6_impulseOf_72 rfl 74 rfl ?_
  refine r_lmul hC ((reachQ t r p) * (reachQ t r p)) dX6_impulseOf_74  (rfl) 75 rfl ?_
  refine r_lload hC 1 dX6_impulseOf_75 rfl 77 rfl ?_
  refine r_lmul hC (((reachQ t r p) * (reachQ t r p)) * (reachQ t r p)) dX6_impulseOf_77  (rfl) 78 rfl ?_
  refine r_ldiv hC (((((t 0) * (r (6 + 5 * (m_first p) + 0))) * (r (6 + 5 * (m_second p) + 0))) * ((r (6 + 5 * (m_second p) + (1 + x))) - (r (6 + 5 * (m_first p) + (1 + x))))) / (((reachQ t r p) * (reachQ t r p)) * (reachQ t r p))) dX6_impulseOf_78 ((hok.1 p hp).2) (rfl) 79 rfl ?_
  exact r_lret hC (Nat.le_of_ble_eq_true rfl) (Nat.le_of_ble_eq_true rfl) (fun V9 h => hQ _ _ ⟨rfl, h.1⟩) dX6_impulseOf_79
set_option maxHeartbeats 4000000 in
set_option maxRecDepth 100000 in
theorem metX6_kineticOf (l : Launch) (G : xG) (hG : xGood G) (a : Nat) (r : Nat → Int64) (h6 : ¬ 2 * r 6 = 0) (h11 : ¬ 2 * r 11 = 0) (h16 : ¬ 2 * r 16 = 0) : xRm l G yX6_kineticOf (Cond.code yX6_kineticOf cX6_kineticOf 4 (some .long)) { frames := 1, locals := 21, cells := 0, slots := 0 } [.ref a] [(a, .inl (1, 111, .inr (.inl r)))] (some (.long (kinQ r))) := by
  intro V hV
  refine xMet_of RX6 hG rfl (by decide) (Nat.le_of_ble_eq_true rfl) fun C hC hQ hX hl hg _ => ?_
  subst hl hg
  refine rn.mono (J := xRo [(a, .inl (1, 111, .inr (.inl r)))] V) (fun V9 h => ⟨h, hV⟩) ?_
  show rn C (xRo [(a, .inl (1, 111, .inr (.inl r)))] V) 0 0 0 [(0, .ref a)] []
  refine r_lconst hC 0 dX6_kineticOf_0 lc_0 1 rfl ?_
  refine r_lstore_n hC 1 [(1, .long 0), (0, .ref a)] dX6_kineticOf_1 rfl (Nat.le_of_ble_eq_true rfl) rfl 2 rfl ?_
  refine r_iconst hC 0 dX6_kineticOf_2 ic_0 3 rfl ?_
  refine r_istore_n hC 3 [(3, .int 0), (1, .long 0), (0, .ref a)] dX6_kineticOf_3 rfl (Nat.le_of_ble_eq_true rfl) rfl 4 rfl ?_
  refine r_iload_n hC 0 dX6_kineticOf_4 rfl 5 rfl ?_
  refine r_iconst hC 3 dX6_kineticOf_5 ic_3 6 rfl ?_
  refine r_icge hC 61 dX6_kineticOf_6 (by decide) 9 rfl (fun h => absurd h (by decide)) (fun _ => ?_)
  refine r_lload_n hC 1 dX6_kineticOf_9 rfl 10 rfl ?_
  refine r_aload_n hC 2 dX6_kineticOf_10 rfl 11 rfl ?_
  refine r_iload_n hC 0 dX6_kineticOf_11 rfl 12 rfl ?_
  refine r_iconst hC 3 dX6_kineticOf_12 ic_3 13 rfl ?_
  refine r_invSr hC [.int 0, .int 3] (.int 9) mSX6_at q2711 (metX6_at _ _ hG 0 3) (fun _ _ => xIn.nil) ⟨rfl, rfl⟩ 0 0 rfl rfl (Nat.le_of_ble_eq_true rfl) (Nat.le_of_ble_eq_true rfl) rfl (Nat.le_of_ble_eq_true rfl) dX6_kineticOf_13 16 rfl ?_
  refine r_lald hC 9 (xix_n 9 (Nat.le_of_ble_eq_true rfl) (Nat.le_of_ble_eq_true rfl)) (fun _ h => h.get 0 rfl) (r 9) (rfl) dX6_kineticOf_16 17 rfl ?_
  refine r_aload_n hC 2 dX6_kineticOf_17 rfl 18 rfl ?_
  refine r_iload_n hC 0 dX6_kineticOf_18 rfl 19 rfl ?_
  refine r_iconst hC 3 dX6_kineticOf_19 ic_3 20 rfl ?_
  refine r_invSr hC [.int 0, .int 3] (.int 9) mSX6_at q2711 (metX6_at _ _ hG 0 3) (fun _ _ => xIn.nil) ⟨rfl, rfl⟩ 0 0 rfl rfl (Nat.le_of_ble_eq_true rfl) (Nat.le_of_ble_eq_true rfl) rfl (Nat.le_of_ble_eq_true rfl) dX6_kineticOf_20 23 rfl ?_
  refine r_lald hC 9 (xix_n 9 (Nat.le_of_ble_eq_true rfl) (Nat.le_of_ble_eq_true rfl)) (fun _ h => h.get 0 rfl) (r 9) (rfl) dX6_kineticOf_23 24 rfl ?_
  refine r_lmul hC ((r 9) * (r 9)) dX6_kineticOf_24  (rfl) 25 rfl ?_
  refine r_aload_n hC 2 dX6_kineticOf_25 rfl 26 rfl ?_
  refine r_iload_n hC 0 dX6_kineticOf_26 rfl 27 rfl ?_
  refine r_iconst hC 4 dX6_kineticOf_27 ic_4 28 rfl ?_
  refine r_invSr hC [.int 0, .int 4] (.int 10) mSX6_at q2711 (metX6_at _ _ hG 0 4) (fun _ _ => xIn.nil) ⟨rfl, rfl⟩ 0 0 rfl rfl (Nat.le_of_ble_eq_true rfl) (Nat.le_of_ble_eq_true rfl) rfl (Nat.le_of_ble_eq_true rfl) dX6_kineticOf_28 31 rfl ?_
  refine r_lald hC 10 (xix_n 10 (Nat.le_of_ble_eq_true rfl) (Nat.le_of_ble_eq_true rfl)) (fun _ h => h.get 0 rfl) (r 10) (rfl) dX6_kineticOf_31 32 rfl ?_
  refine r_aload_n hC 2 dX6_kineticOf_32 rfl 33 rfl ?_
  refine r_iload_n hC 0 dX6_kineticOf_33 rfl 34 rfl ?_
  refine r_iconst hC 4 dX6_kineticOf_34 ic_4 35 rfl ?_
  refine r_invSr hC [.int 0, .int 4] (.int 10) mSX6_at q2711 (metX6_at _ _ hG 0 4) (fun _ _ => xIn.nil) ⟨rfl, rfl⟩ 0 0 rfl rfl (Nat.le_of_ble_eq_true rfl) (Nat.le_of_ble_eq_true rfl) rfl (Nat.le_of_ble_eq_true rfl) dX6_kineticOf_35 38 rfl ?_
  refine r_lald hC 10 (xix_n 10 (Nat.le_of_ble_eq_true rfl) (Nat.le_of_ble_eq_true rfl)) (fun _ h => h.get 0 rfl) (r 10) (rfl) dX6_kineticOf_38 39 rfl ?_
  refine r_lmul hC ((r 10) * (r 10)) dX6_kineticOf_39  (rfl) 40 rfl ?_
  refine r_ladd hC (((r 9) * (r 9)) + ((r 10) * (r 10))) dX6_kineticOf_40  (rfl) 41 rfl ?_
  refine r_ldc2 hC q2728 dX6_kineticOf_41 44 rfl ?_
  refine r_aload_n hC 2 dX6_kineticOf_44 rfl 45 rfl ?_
  refine r_iload_n hC 0 dX6_kineticOf_45 rfl 46 rfl ?_
  refine r_iconst hC 0 dX6_kineticOf_46 ic_0 47 rfl ?_
  refine r_invSr hC [.int 0, .int 0] (.int 6) mSX6_at q2711 (metX6_at _ _ hG 0 0) (fun _ _ => xIn.nil) ⟨rfl, rfl⟩ 0 0 rfl rfl (Nat.le_of_ble_eq_true rfl) (Nat.le_of_ble_eq_true rfl) rfl (Nat.le_of_ble_eq_true rfl) dX6_kineticOf_47 50 rfl ?_
  refine r_lald hC 6 (xix_n 6 (Nat.le_of_ble_eq_true rfl) (Nat.le_of_ble_eq_true rfl)) (fun _ h => h.get 0 rfl) (r 6) (rfl) dX6_kineticOf_50 51 rfl ?_
  refine r_lmul hC (2 * (r 6)) dX6_kineticOf_51  (rfl) 52 rfl ?_
  refine r_ldiv hC ((((r 9) * (r 9)) + ((r 10) * (r 10))) / (2 * (r 6))) dX6_kineticOf_52 (by assumption) (rfl) 53 rfl ?_
  refine r_ladd hC (0 + ((((r 9) * (r 9)) + ((r 10) * (r 10))) / (2 * (r 6)))) dX6_kineticOf_53  (rfl) 54 rfl ?_
  refine r_lstore_n hC 1 [(1, .long (0 + ((((r 9) * (r 9)) + ((r 10) * (r 10))) / (2 * (r 6))))), (3, .int 0), (0, .ref a)] dX6_kineticOf_54 rfl (Nat.le_of_ble_eq_true rfl) rfl 55 rfl ?_
  refine r_iinc hC 1 3 1 [(3, .int 1), (1, .long (0 + ((((r 9) * (r 9)) + ((r 10) * (r 10))) / (2 * (r 6))))), (0, .ref a)] dX6_kineticOf_55 rfl (by decide) (Nat.le_of_ble_eq_true rfl) rfl 58 rfl ?_
  refine r_goto hC 4 dX6_kineticOf_58 (by decide) ?_
  refine r_iload_n hC 0 dX6_kineticOf_4 rfl 5 rfl ?_
  refine r_iconst hC 3 dX6_kineticOf_5 ic_3 6 rfl ?_
  refine r_icge hC 61 dX6_kineticOf_6 (by decide) 9 rfl (fun h => absurd h (by decide)) (fun _ => ?_)
  refine r_lload_n hC 1 dX6_kineticOf_9 rfl 10 rfl ?_
  refine r_aload_n hC 2 dX6_kineticOf_10 rfl 11 rfl ?_
  refine r_iload_n hC 0 dX6_kineticOf_11 rfl 12 rfl ?_
  refine r_iconst hC 3 dX6_kineticOf_12 ic_3 13 rfl ?_
  refine r_invSr hC [.int 1, .int 3] (.int 14) mSX6_at q2711 (metX6_at _ _ hG 1 3) (fun _ _ => xIn.nil) ⟨rfl, rfl⟩ 0 0 rfl rfl (Nat.le_of_ble_eq_true rfl) (Nat.le_of_ble_eq_true rfl) rfl (Nat.le_of_ble_eq_true rfl) dX6_kineticOf_13 16 rfl ?_
  refine r_lald hC 14 (xix_n 14 (Nat.le_of_ble_eq_true rfl) (Nat.le_of_ble_eq_true rfl)) (fun _ h => h.get 0 rfl) (r 14) (rfl) dX6_kineticOf_16 17 rfl ?_
  refine r_aload_n hC 2 dX6_kineticOf_17 rfl 18 rfl ?_
  refine r_iload_n hC 0 dX6_kineticOf_18 rfl 19 rfl ?_
  refine r_iconst hC 3 dX6_kineticOf_19 ic_3 20 rfl ?_
  refine r_invSr hC [.int 1, .int 3] (.int 14) mSX6_at q2711 (metX6_at _ _ hG 1 3) (fun _ _ => xIn.nil) ⟨rfl, rfl⟩ 0 0 rfl rfl (Nat.le_of_ble_eq_true rfl) (Nat.le_of_ble_eq_true rfl) rfl (Nat.le_of_ble_eq_true rfl) dX6_kineticOf_20 23 rfl ?_
  refine r_lald hC 14 (xix_n 14 (Nat.le_of_ble_eq_true rfl) (Nat.le_of_ble_eq_true rfl)) (fun _ h => h.get 0 rfl) (r 14) (rfl) dX6_kineticOf_23 24 rfl ?_
  refine r_lmul hC ((r 14) * (r 14)) dX6_kineticOf_24  (rfl) 25 rfl ?_
  refine r_aload_n hC 2 dX6_kineticOf_25 rfl 26 rfl ?_
  refine r_iload_n hC 0 dX6_kineticOf_26 rfl 27 rfl ?_
  refine r_iconst hC 4 dX6_kineticOf_27 ic_4 28 rfl ?_
  refine r_invSr hC [.int 1, .int 4] (.int 15) mSX6_at q2711 (metX6_at _ _ hG 1 4) (fun _ _ => xIn.nil) ⟨rfl, rfl⟩ 0 0 rfl rfl (Nat.le_of_ble_eq_true rfl) (Nat.le_of_ble_eq_true rfl) rfl (Nat.le_of_ble_eq_true rfl) dX6_kineticOf_28 31 rfl ?_
  refine r_lald hC 15 (xix_n 15 (Nat.le_of_ble_eq_true rfl) (Nat.le_of_ble_eq_true rfl)) (fun _ h => h.get 0 rfl) (r 15) (rfl) dX6_kineticOf_31 32 rfl ?_
  refine r_aload_n hC 2 dX6_kineticOf_32 rfl 33 rfl ?_
  refine r_iload_n hC 0 dX6_kineticOf_33 rfl 34 rfl ?_
  refine r_iconst hC 4 dX6_kineticOf_34 ic_4 35 rfl ?_
  refine r_invSr hC [.int 1, .int 4] (.int 15) mSX6_at q2711 (metX6_at _ _ hG 1 4) (fun _ _ => xIn.nil) ⟨rfl, rfl⟩ 0 0 rfl rfl (Nat.le_of_ble_eq_true rfl) (Nat.le_of_ble_eq_true rfl) rfl (Nat.le_of_ble_eq_true rfl) dX6_kineticOf_35 38 rfl ?_
  refine r_lald hC 15 (xix_n 15 (Nat.le_of_ble_eq_true rfl) (Nat.le_of_ble_eq_true rfl)) (fun _ h => h.get 0 rfl) (r 15) (rfl) dX6_kineticOf_38 39 rfl ?_
  refine r_lmul hC ((r 15) * (r 15)) dX6_kineticOf_39  (rfl) 40 rfl ?_
  refine r_ladd hC (((r 14) * (r 14)) + ((r 15) * (r 15))) dX6_kineticOf_40  (rfl) 41 rfl ?_
  refine r_ldc2 hC q2728 dX6_kineticOf_41 44 rfl ?_
  refine r_aload_n hC 2 dX6_kineticOf_44 rfl 45 rfl ?_
  refine r_iload_n hC 0 dX6_kineticOf_45 rfl 46 rfl ?_
  refine r_iconst hC 0 dX6_kineticOf_46 ic_0 47 rfl ?_
  refine r_invSr hC [.int 1, .int 0] (.int 11) mSX6_at q2711 (metX6_at _ _ hG 1 0) (fun _ _ => xIn.nil) ⟨rfl, rfl⟩ 0 0 rfl rfl (Nat.le_of_ble_eq_true rfl) (Nat.le_of_ble_eq_true rfl) rfl (Nat.le_of_ble_eq_true rfl) dX6_kineticOf_47 50 rfl ?_
  refine r_lald hC 11 (xix_n 11 (Nat.le_of_ble_eq_true rfl) (Nat.le_of_ble_eq_true rfl)) (fun _ h => h.get 0 rfl) (r 11) (rfl) dX6_kineticOf_50 51 rfl ?_
  refine r_lmul hC (2 * (r 11)) dX6_kineticOf_51  (rfl) 52 rfl ?_
  refine r_ldiv hC ((((r 14) * (r 14)) + ((r 15) * (r 15))) / (2 * (r 11))) dX6_kineticOf_52 (by assumption) (rfl) 53 rfl ?_
  refine r_ladd hC ((0 + ((((r 9) * (r 9)) + ((r 10) * (r 10))) / (2 * (r 6)))) + ((((r 14) * (r 14)) + ((r 15) * (r 15))) / (2 * (r 11)))) dX6_kineticOf_53  (rfl) 54 rfl ?_
  refine r_lstore_n hC 1 [(1, .long ((0 + ((((r 9) * (r 9)) + ((r 10) * (r 10))) / (2 * (r 6)))) + ((((r 14) * (r 14)) + ((r 15) * (r 15))) / (2 * (r 11))))), (3, .int 1), (0, .ref a)] dX6_kineticOf_54 rfl (Nat.le_of_ble_eq_true rfl) rfl 55 rfl ?_
  refine r_iinc hC 2 3 1 [(3, .int 2), (1, .long ((0 + ((((r 9) * (r 9)) + ((r 10) * (r 10))) / (2 * (r 6)))) + ((((r 14) * (r 14)) + ((r 15) * (r 15))) / (2 * (r 11))))), (0, .ref a)] dX6_kineticOf_55 rfl (by decide) (Nat.le_of_ble_eq_true rfl) rfl 58 rfl ?_
  refine r_goto hC 4 dX6_kineticOf_58 (by decide) ?_
  refine r_iload_n hC 0 dX6_kineticOf_4 rfl 5 rfl ?_
  refine r_iconst hC 3 dX6_kineticOf_5 ic_3 6 rfl ?_
  refine r_icge hC 61 dX6_kineticOf_6 (by decide) 9 rfl (fun h => absurd h (by decide)) (fun _ => ?_)
  refine r_lload_n hC 1 dX6_kineticOf_9 rfl 10 rfl ?_
  refine r_aload_n hC 2 dX6_kineticOf_10 rfl 11 rfl ?_
  refine r_iload_n hC 0 dX6_kineticOf_11 rfl 12 rfl ?_
  refine r_iconst hC 3 dX6_kineticOf_12 ic_3 13 rfl ?_
  refine r_invSr hC [.int 2, .int 3] (.int 19) mSX6_at q2711 (metX6_at _ _ hG 2 3) (fun _ _ => xIn.nil) ⟨rfl, rfl⟩ 0 0 rfl rfl (Nat.le_of_ble_eq_true rfl) (Nat.le_of_ble_eq_true rfl) rfl (Nat.le_of_ble_eq_true rfl) dX6_kineticOf_13 16 rfl ?_
  refine r_lald hC 19 (xix_n 19 (Nat.le_of_ble_eq_true rfl) (Nat.le_of_ble_eq_true rfl)) (fun _ h => h.get 0 rfl) (r 19) (rfl) dX6_kineticOf_16 17 rfl ?_
  refine r_aload_n hC 2 dX6_kineticOf_17 rfl 18 rfl ?_
  refine r_iload_n hC 0 dX6_kineticOf_18 rfl 19 rfl ?_
  refine r_iconst hC 3 dX6_kineticOf_19 ic_3 20 rfl ?_
  refine r_invSr hC [.int 2, .int 3] (.int 19) mSX6_at q2711 (metX6_at _ _ hG 2 3) (fun _ _ => xIn.nil) ⟨rfl, rfl⟩ 0 0 rfl rfl (Nat.le_of_ble_eq_true rfl) (Nat.le_of_ble_eq_true rfl) rfl (Nat.le_of_ble_eq_true rfl) dX6_kineticOf_20 23 rfl ?_
  refine r_lald hC 19 (xix_n 19 (Nat.le_of_ble_eq_true rfl) (Nat.le_of_ble_eq_true rfl)) (fun _ h => h.get 0 rfl) (r 19) (rfl) dX6_kineticOf_23 24 rfl ?_
  refine r_lmul hC ((r 19) * (r 19)) dX6_kineticOf_24  (rfl) 25 rfl ?_
  refine r_aload_n hC 2 dX6_kineticOf_25 rfl 26 rfl ?_
  refine r_iload_n hC 0 dX6_kineticOf_26 rfl 27 rfl ?_
  refine r_iconst hC 4 dX6_kineticOf_27 ic_4 28 rfl ?_
  refine r_invSr hC [.int 2, .int 4] (.int 20) mSX6_at q2711 (metX6_at _ _ hG 2 4) (fun _ _ => xIn.nil) ⟨rfl, rfl⟩ 0 0 rfl rfl (Nat.le_of_ble_eq_true rfl) (Nat.le_of_ble_eq_true rfl) rfl (Nat.le_of_ble_eq_true rfl) dX6_kineticOf_28 31 rfl ?_
  refine r_lald hC 20 (xix_n 20 (Nat.le_of_ble_eq_true rfl) (Nat.le_of_ble_eq_true rfl)) (fun _ h => h.get 0 rfl) (r 20) (rfl) dX6_kineticOf_31 32 rfl ?_
  refine r_aload_n hC 2 dX6_kineticOf_32 rfl 33 rfl ?_
  refine r_iload_n hC 0 dX6_kineticOf_33 rfl 34 rfl ?_
  refine r_iconst hC 4 dX6_kineticOf_34 ic_4 35 rfl ?_
  refine r_invSr hC [.int 2, .int 4] (.int 20) mSX6_at q2711 (metX6_at _ _ hG 2 4) (fun _ _ => xIn.nil) ⟨rfl, rfl⟩ 0 0 rfl rfl (Nat.le_of_ble_eq_true rfl) (Nat.le_of_ble_eq_true rfl) rfl (Nat.le_of_ble_eq_true rfl) dX6_kineticOf_35 38 rfl ?_
  refine r_lald hC 20 (xix_n 20 (Nat.le_of_ble_eq_true rfl) (Nat.le_of_ble_eq_true rfl)) (fun _ h => h.get 0 rfl) (r 20) (rfl) dX6_kineticOf_38 39 rfl ?_
  refine r_lmul hC ((r 20) * (r 20)) dX6_kineticOf_39  (rfl) 40 rfl ?_
  refine r_ladd hC (((r 19) * (r 19)) + ((r 20) * (r 20))) dX6_kineticOf_40  (rfl) 41 rfl ?_
  refine r_ldc2 hC q2728 dX6_kineticOf_41 44 rfl ?_
  refine r_aload_n hC 2 dX6_kineticOf_44 rfl 45 rfl ?_
  refine r_iload_n hC 0 dX6_kineticOf_45 rfl 46 rfl ?_
  refine r_iconst hC 0 dX6_kineticOf_46 ic_0 47 rfl ?_
  refine r_invSr hC [.int 2, .int 0] (.int 16) mSX6_at q2711 (metX6_at _ _ hG 2 0) (fun _ _ => xIn.nil) ⟨rfl, rfl⟩ 0 0 rfl rfl (Nat.le_of_ble_eq_true rfl) (Nat.le_of_ble_eq_true rfl) rfl (Nat.le_of_ble_eq_true rfl) dX6_kineticOf_47 50 rfl ?_
  refine r_lald hC 16 (xix_n 16 (Nat.le_of_ble_eq_true rfl) (Nat.le_of_ble_eq_true rfl)) (fun _ h => h.get 0 rfl) (r 16) (rfl) dX6_kineticOf_50 51 rfl ?_
  refine r_lmul hC (2 * (r 16)) dX6_kineticOf_51  (rfl) 52 rfl ?_
  refine r_ldiv hC ((((r 19) * (r 19)) + ((r 20) * (r 20))) / (2 * (r 16))) dX6_kineticOf_52 (by assumption) (rfl) 53 rfl ?_
  refine r_ladd hC (((0 + ((((r 9) * (r 9)) + ((r 10) * (r 10))) / (2 * (r 6)))) + ((((r 14) * (r 14)) + ((r 15) * (r 15))) / (2 * (r 11)))) + ((((r 19) * (r 19)) + ((r 20) * (r 20))) / (2 * (r 16)))) dX6_kineticOf_53  (rfl) 54 rfl ?_
  refine r_lstore_n hC 1 [(1, .long (((0 + ((((r 9) * (r 9)) + ((r 10) * (r 10))) / (2 * (r 6)))) + ((((r 14) * (r 14)) + ((r 15) * (r 15))) / (2 * (r 11)))) + ((((r 19) * (r 19)) + ((r 20) * (r 20))) / (2 * (r 16))))), (3, .int 2), (0, .ref a)] dX6_kineticOf_54 rfl (Nat.le_of_ble_eq_true rfl) rfl 55 rfl ?_
  refine r_iinc hC 3 3 1 [(3, .int 3), (1, .long (((0 + ((((r 9) * (r 9)) + ((r 10) * (r 10))) / (2 * (r 6)))) + ((((r 14) * (r 14)) + ((r 15) * (r 15))) / (2 * (r 11)))) + ((((r 19) * (r 19)) + ((r 20) * (r 20))) / (2 * (r 16))))), (0, .ref a)] dX6_kineticOf_55 rfl (by decide) (Nat.le_of_ble_eq_true rfl) rfl 58 rfl ?_
  refine r_goto hC 4 dX6_kineticOf_58 (by decide) ?_
  refine r_iload_n hC 0 dX6_kineticOf_4 rfl 5 rfl ?_
  refine r_iconst hC 3 dX6_kineticOf_5 ic_3 6 rfl ?_
  refine r_icge hC 61 dX6_kineticOf_6 (by decide) 9 rfl (fun _ => ?_) (fun h => absurd h (by decide))
  refine r_lload_n hC 1 dX6_kineticOf_61 rfl 62 rfl ?_
  exact r_lret hC (Nat.le_of_ble_eq_true rfl) (Nat.le_of_ble_eq_true rfl) (fun V9 h => hQ _ _ ⟨rfl, h.1⟩) dX6_kineticOf_62
set_option maxHeartbeats 4000000 in
set_option maxRecDepth 100000 in
theorem metX6_potentialOf (l : Launch) (G : xG) (hG : xGood G) (b : Nat → Nat) (i : Nat → Int32) (j : Nat → Int64) (t : Nat → Int64) (a : Nat) (r : Nat → Int64) (hok : rowOK t r) : xRm l G yX6_potentialOf (Cond.code yX6_potentialOf cX6_potentialOf 5 (some .long)) { frames := 4, locals := 95, cells := 0, slots := 0 } [.ref (b 0), .ref a] [(b 0, .inr (5, mF b i j)), (b 7, .inl (1, 5, .inr (.inl t))), (a, .inl (1, 111, .inr (.inl r)))] (some (.long (potQ t r))) := by
  intro V hV
  refine xMet_of RX6 hG rfl (by decide) (Nat.le_of_ble_eq_true rfl) fun C hC hQ hX hl hg _ => ?_
  subst hl hg
  refine rn.mono (J := xRo [(b 0, .inr (5, mF b i j)), (b 7, .inl (1, 5, .inr (.inl t))), (a, .inl (1, 111, .inr (.inl r)))] V) (fun V9 h => ⟨h, hV⟩) ?_
  show rn C (xRo [(b 0, .inr (5, mF b i j)), (b 7, .inl (1, 5, .inr (.inl t))), (a, .inl (1, 111, .inr (.inl r)))] V) 0 0 0 [(0, .ref (b 0)), (1, .ref a)] []
  refine r_lconst hC 0 dX6_potentialOf_0 lc_0 1 rfl ?_
  refine r_lstore_n hC 2 [(2, .long 0), (0, .ref (b 0)), (1, .ref a)] dX6_potentialOf_1 rfl (Nat.le_of_ble_eq_true rfl) rfl 2 rfl ?_
  refine r_iconst hC 0 dX6_potentialOf_2 ic_0 3 rfl ?_
  refine r_istore hC 4 [(4, .int 0), (2, .long 0), (0, .ref (b 0)), (1, .ref a)] dX6_potentialOf_3 (Nat.le_of_ble_eq_true rfl) rfl 5 rfl ?_
  refine r_iload hC 0 dX6_potentialOf_5 rfl 7 rfl ?_
  refine r_iconst hC 3 dX6_potentialOf_7 ic_3 8 rfl ?_
  refine r_icge hC 58 dX6_potentialOf_8 (by decide) 11 rfl (fun h => absurd h (by decide)) (fun _ => ?_)
  refine r_lload_n hC 1 dX6_potentialOf_11 rfl 12 rfl ?_
  refine r_aload_n hC 2 dX6_potentialOf_12 rfl 13 rfl ?_
  refine r_get (v := .ref (b 7)) hC kX6 7 rfl q2760 (fun _ h => h.get 0 rfl) rfl dX6_potentialOf_13 16 rfl ?_
  refine r_iconst hC 0 dX6_potentialOf_16 ic_0 17 rfl ?_
  refine r_lald hC 0 (xix_n 0 (Nat.le_of_ble_eq_true rfl) (Nat.le_of_ble_eq_true rfl)) (fun _ h => h.get 1 rfl) (t 0) (rfl) dX6_potentialOf_17 18 rfl ?_
  refine r_aload_n hC 3 dX6_potentialOf_18 rfl 19 rfl ?_
  refine r_iload hC 0 dX6_potentialOf_19 rfl 21 rfl ?_
  refine r_invSr hC [.int 0] (.int 0) mSX6_firstOf q2733 (metX6_firstOf _ _ hG 0 (Nat.le_of_ble_eq_true rfl)) (fun _ _ => xIn.nil) ⟨rfl, rfl⟩ 0 0 rfl rfl (Nat.le_of_ble_eq_true rfl) (Nat.le_of_ble_eq_true rfl) rfl (Nat.le_of_ble_eq_true rfl) dX6_potentialOf_21 24 rfl ?_
  refine r_iconst hC 0 dX6_potentialOf_24 ic_0 25 rfl ?_
  refine r_invSr hC [.int 0, .int 0] (.int 6) mSX6_at q2711 (metX6_at _ _ hG 0 0) (fun _ _ => xIn.nil) ⟨rfl, rfl⟩ 0 0 rfl rfl (Nat.le_of_ble_eq_true rfl) (Nat.le_of_ble_eq_true rfl) rfl (Nat.le_of_ble_eq_true rfl) dX6_potentialOf_25 28 rfl ?_
  refine r_lald hC 6 (xix_n 6 (Nat.le_of_ble_eq_true rfl) (Nat.le_of_ble_eq_true rfl)) (fun _ h => h.get 2 rfl) (r 6) (rfl) dX6_potentialOf_28 29 rfl ?_
  refine r_lmul hC ((t 0) * (r 6)) dX6_potentialOf_29  (rfl) 30 rfl ?_
  refine r_aload_n hC 3 dX6_potentialOf_30 rfl 31 rfl ?_
  refine r_iload hC 0 dX6_potentialOf_31 rfl 33 rfl ?_
  refine r_invSr hC [.int 0] (.int 1) mSX6_secondOf q2736 (metX6_secondOf _ _ hG 0 (Nat.le_of_ble_eq_true rfl)) (fun _ _ => xIn.nil) ⟨rfl, rfl⟩ 0 0 rfl rfl (Nat.le_of_ble_eq_true rfl) (Nat.le_of_ble_eq_true rfl) rfl (Nat.le_of_ble_eq_true rfl) dX6_potentialOf_33 36 rfl ?_
  refine r_iconst hC 0 dX6_potentialOf_36 ic_0 37 rfl ?_
  refine r_invSr hC [.int 1, .int 0] (.int 11) mSX6_at q2711 (metX6_at _ _ hG 1 0) (fun _ _ => xIn.nil) ⟨rfl, rfl⟩ 0 0 rfl rfl (Nat.le_of_ble_eq_true rfl) (Nat.le_of_ble_eq_true rfl) rfl (Nat.le_of_ble_eq_true rfl) dX6_potentialOf_37 40 rfl ?_
  refine r_lald hC 11 (xix_n 11 (Nat.le_of_ble_eq_true rfl) (Nat.le_of_ble_eq_true rfl)) (fun _ h => h.get 2 rfl) (r 11) (rfl) dX6_potentialOf_40 41 rfl ?_
  refine r_lmul hC (((t 0) * (r 6)) * (r 11)) dX6_potentialOf_41  (rfl) 42 rfl ?_
  refine r_aload_n hC 2 dX6_potentialOf_42 rfl 43 rfl ?_
  refine r_aload_n hC 3 dX6_potentialOf_43 rfl 44 rfl ?_
  refine r_iload hC 0 dX6_potentialOf_44 rfl 46 rfl ?_
  refine r_invVr hC kX6 (b 0) [.ref a, .int 0] (.long (reachQ t r 0)) mVX6_reachOf q2739 (fun _ h => h.get 0 rfl) (metX6_reachOf _ _ hG b _ _ _ a _ 0 (Nat.le_of_ble_eq_true rfl)) (fun _ h => h.in.sub [0, 1, 2] rfl rfl) ⟨rfl, rfl⟩ 0 0 rfl rfl (Nat.le_of_ble_eq_true rfl) (Nat.le_of_ble_eq_true rfl) rfl (Nat.le_of_ble_eq_true rfl) dX6_potentialOf_46 49 rfl ?_
  refine r_ldiv hC ((((t 0) * (r 6)) * (r 11)) / (reachQ t r 0)) dX6_potentialOf_49 ((hok.1 0 (Nat.le_of_ble_eq_true rfl)).1) (rfl) 50 rfl ?_
  refine r_lsub hC (0 - ((((t 0) * (r 6)) * (r 11)) / (reachQ t r 0))) dX6_potentialOf_50  (rfl) 51 rfl ?_
  refine r_lstore_n hC 2 [(2, .long (0 - ((((t 0) * (r 6)) * (r 11)) / (reachQ t r 0)))), (4, .int 0), (0, .ref (b 0)), (1, .ref a)] dX6_potentialOf_51 rfl (Nat.le_of_ble_eq_true rfl) rfl 52 rfl ?_
  refine r_iinc hC 1 4 1 [(4, .int 1), (2, .long (0 - ((((t 0) * (r 6)) * (r 11)) / (reachQ t r 0)))), (0, .ref (b 0)), (1, .ref a)] dX6_potentialOf_52 rfl (by decide) (Nat.le_of_ble_eq_true rfl) rfl 55 rfl ?_
  refine r_goto hC 5 dX6_potentialOf_55 (by decide) ?_
  refine r_iload hC 0 dX6_potentialOf_5 rfl 7 rfl ?_
  refine r_iconst hC 3 dX6_potentialOf_7 ic_3 8 rfl ?_
  refine r_icge hC 58 dX6_potentialOf_8 (by decide) 11 rfl (fun h => absurd h (by decide)) (fun _ => ?_)
  refine r_lload_n hC 1 dX6_potentialOf_11 rfl 12 rfl ?_
  refine r_aload_n hC 2 dX6_potentialOf_12 rfl 13 rfl ?_
  refine r_get (v := .ref (b 7)) hC kX6 7 rfl q2760 (fun _ h => h.get 0 rfl) rfl dX6_potentialOf_13 16 rfl ?_
  refine r_iconst hC 0 dX6_potentialOf_16 ic_0 17 rfl ?_
  refine r_lald hC 0 (xix_n 0 (Nat.le_of_ble_eq_true rfl) (Nat.le_of_ble_eq_true rfl)) (fun _ h => h.get 1 rfl) (t 0) (rfl) dX6_potentialOf_17 18 rfl ?_
  refine r_aload_n hC 3 dX6_potentialOf_18 rfl 19 rfl ?_
  refine r_iload hC 0 dX6_potentialOf_19 rfl 21 rfl ?_
  refine r_invSr hC [.int 1] (.int 0) mSX6_firstOf q2733 (metX6_firstOf _ _ hG 1 (Nat.le_of_ble_eq_true rfl)) (fun _ _ => xIn.nil) ⟨rfl, rfl⟩ 0 0 rfl rfl (Nat.le_of_ble_eq_true rfl) (Nat.le_of_ble_eq_true rfl) rfl (Nat.le_of_ble_eq_true rfl) dX6_potentialOf_21 24 rfl ?_
  refine r_iconst hC 0 dX6_potentialOf_24 ic_0 25 rfl ?_
  refine r_invSr hC [.int 0, .int 0] (.int 6) mSX6_at q2711 (metX6_at _ _ hG 0 0) (fun _ _ => xIn.nil) ⟨rfl, rfl⟩ 0 0 rfl rfl (Nat.le_of_ble_eq_true rfl) (Nat.le_of_ble_eq_true rfl) rfl (Nat.le_of_ble_eq_true rfl) dX6_potentialOf_25 28 rfl ?_
  refine r_lald hC 6 (xix_n 6 (Nat.le_of_ble_eq_true rfl) (Nat.le_of_ble_eq_true rfl)) (fun _ h => h.get 2 rfl) (r 6) (rfl) dX6_potentialOf_28 29 rfl ?_
  refine r_lmul hC ((t 0) * (r 6)) dX6_potentialOf_29  (rfl) 30 rfl ?_
  refine r_aload_n hC 3 dX6_potentialOf_30 rfl 31 rfl ?_
  refine r_iload hC 0 dX6_potentialOf_31 rfl 33 rfl ?_
  refine r_invSr hC [.int 1] (.int 2) mSX6_secondOf q2736 (metX6_secondOf _ _ hG 1 (Nat.le_of_ble_eq_true rfl)) (fun _ _ => xIn.nil) ⟨rfl, rfl⟩ 0 0 rfl rfl (Nat.le_of_ble_eq_true rfl) (Nat.le_of_ble_eq_true rfl) rfl (Nat.le_of_ble_eq_true rfl) dX6_potentialOf_33 36 rfl ?_
  refine r_iconst hC 0 dX6_potentialOf_36 ic_0 37 rfl ?_
  refine r_invSr hC [.int 2, .int 0] (.int 16) mSX6_at q2711 (metX6_at _ _ hG 2 0) (fun _ _ => xIn.nil) ⟨rfl, rfl⟩ 0 0 rfl rfl (Nat.le_of_ble_eq_true rfl) (Nat.le_of_ble_eq_true rfl) rfl (Nat.le_of_ble_eq_true rfl) dX6_potentialOf_37 40 rfl ?_
  refine r_lald hC 16 (xix_n 16 (Nat.le_of_ble_eq_true rfl) (Nat.le_of_ble_eq_true rfl)) (fun _ h => h.get 2 rfl) (r 16) (rfl) dX6_potentialOf_40 41 rfl ?_
  refine r_lmul hC (((t 0) * (r 6)) * (r 16)) dX6_potentialOf_41  (rfl) 42 rfl ?_
  refine r_aload_n hC 2 dX6_potentialOf_42 rfl 43 rfl ?_
  refine r_aload_n hC 3 dX6_potentialOf_43 rfl 44 rfl ?_
  refine r_iload hC 0 dX6_potentialOf_44 rfl 46 rfl ?_
  refine r_invVr hC kX6 (b 0) [.ref a, .int 1] (.long (reachQ t r 1)) mVX6_reachOf q2739 (fun _ h => h.get 0 rfl) (metX6_reachOf _ _ hG b _ _ _ a _ 1 (Nat.le_of_ble_eq_true rfl)) (fun _ h => h.in.sub [0, 1, 2] rfl rfl) ⟨rfl, rfl⟩ 0 0 rfl rfl (Nat.le_of_ble_eq_true rfl) (Nat.le_of_ble_eq_true rfl) rfl (Nat.le_of_ble_eq_true rfl) dX6_potentialOf_46 49 rfl ?_
  refine r_ldiv hC ((((t 0) * (r 6)) * (r 16)) / (reachQ t r 1)) dX6_potentialOf_49 ((hok.1 1 (Nat.le_of_ble_eq_true rfl)).1) (rfl) 50 rfl ?_
  refine r_lsub hC ((0 - ((((t 0) * (r 6)) * (r 11)) / (reachQ t r 0))) - ((((t 0) * (r 6)) * (r 16)) / (reachQ t r 1))) dX6_potentialOf_50  (rfl) 51 rfl ?_
  refine r_lstore_n hC 2 [(2, .long ((0 - ((((t 0) * (r 6)) * (r 11)) / (reachQ t r 0))) - ((((t 0) * (r 6)) * (r 16)) / (reachQ t r 1)))), (4, .int 1), (0, .ref (b 0)), (1, .ref a)] dX6_potentialOf_51 rfl (Nat.le_of_ble_eq_true rfl) rfl 52 rfl ?_
  refine r_iinc hC 2 4 1 [(4, .int 2), (2, .long ((0 - ((((t 0) * (r 6)) * (r 11)) / (reachQ t r 0))) - ((((t 0) * (r 6)) * (r 16)) / (reachQ t r 1)))), (0, .ref (b 0)), (1, .ref a)] dX6_potentialOf_52 rfl (by decide) (Nat.le_of_ble_eq_true rfl) rfl 55 rfl ?_
  refine r_goto hC 5 dX6_potentialOf_55 (by decide) ?_
  refine r_iload hC 0 dX6_potentialOf_5 rfl 7 rfl ?_
  refine r_iconst hC 3 dX6_potentialOf_7 ic_3 8 rfl ?_
  refine r_icge hC 58 dX6_potentialOf_8 (by decide) 11 rfl (fun h => absurd h (by decide)) (fun _ => ?_)
  refine r_lload_n hC 1 dX6_potentialOf_11 rfl 12 rfl ?_
  refine r_aload_n hC 2 dX6_potentialOf_12 rfl 13 rfl ?_
  refine r_get (v := .ref (b 7)) hC kX6 7 rfl q2760 (fun _ h => h.get 0 rfl) rfl dX6_potentialOf_13 16 rfl ?_
  refine r_iconst hC 0 dX6_potentialOf_16 ic_0 17 rfl ?_
  refine r_lald hC 0 (xix_n 0 (Nat.le_of_ble_eq_true rfl) (Nat.le_of_ble_eq_true rfl)) (fun _ h => h.get 1 rfl) (t 0) (rfl) dX6_potentialOf_17 18 rfl ?_
  refine r_aload_n hC 3 dX6_potentialOf_18 rfl 19 rfl ?_
  refine r_iload hC 0 dX6_potentialOf_19 rfl 21 rfl ?_
  refine r_invSr hC [.int 2] (.int 1) mSX6_firstOf q2733 (metX6_firstOf _ _ hG 2 (Nat.le_of_ble_eq_true rfl)) (fun _ _ => xIn.nil) ⟨rfl, rfl⟩ 0 0 rfl rfl (Nat.le_of_ble_eq_true rfl) (Nat.le_of_ble_eq_true rfl) rfl (Nat.le_of_ble_eq_true rfl) dX6_potentialOf_21 24 rfl ?_
  refine r_iconst hC 0 dX6_potentialOf_24 ic_0 25 rfl ?_
  refine r_invSr hC [.int 1, .int 0] (.int 11) mSX6_at q2711 (metX6_at _ _ hG 1 0) (fun _ _ => xIn.nil) ⟨rfl, rfl⟩ 0 0 rfl rfl (Nat.le_of_ble_eq_true rfl) (Nat.le_of_ble_eq_true rfl) rfl (Nat.le_of_ble_eq_true rfl) dX6_potentialOf_25 28 rfl ?_
  refine r_lald hC 11 (xix_n 11 (Nat.le_of_ble_eq_true rfl) (Nat.le_of_ble_eq_true rfl)) (fun _ h => h.get 2 rfl) (r 11) (rfl) dX6_potentialOf_28 29 rfl ?_
  refine r_lmul hC ((t 0) * (r 11)) dX6_potentialOf_29  (rfl) 30 rfl ?_
  refine r_aload_n hC 3 dX6_potentialOf_30 rfl 31 rfl ?_
  refine r_iload hC 0 dX6_potentialOf_31 rfl 33 rfl ?_
  refine r_invSr hC [.int 2] (.int 2) mSX6_secondOf q2736 (metX6_secondOf _ _ hG 2 (Nat.le_of_ble_eq_true rfl)) (fun _ _ => xIn.nil) ⟨rfl, rfl⟩ 0 0 rfl rfl (Nat.le_of_ble_eq_true rfl) (Nat.le_of_ble_eq_true rfl) rfl (Nat.le_of_ble_eq_true rfl) dX6_potentialOf_33 36 rfl ?_
  refine r_iconst hC 0 dX6_potentialOf_36 ic_0 37 rfl ?_
  refine r_invSr hC [.int 2, .int 0] (.int 16) mSX6_at q2711 (metX6_at _ _ hG 2 0) (fun _ _ => xIn.nil) ⟨rfl, rfl⟩ 0 0 rfl rfl (Nat.le_of_ble_eq_true rfl) (Nat.le_of_ble_eq_true rfl) rfl (Nat.le_of_ble_eq_true rfl) dX6_potentialOf_37 40 rfl ?_
  refine r_lald hC 16 (xix_n 16 (Nat.le_of_ble_eq_true rfl) (Nat.le_of_ble_eq_true rfl)) (fun _ h => h.get 2 rfl) (r 16) (rfl) dX6_potentialOf_40 41 rfl ?_
  refine r_lmul hC (((t 0) * (r 11)) * (r 16)) dX6_potentialOf_41  (rfl) 42 rfl ?_
  refine r_aload_n hC 2 dX6_potentialOf_42 rfl 43 rfl ?_
  refine r_aload_n hC 3 dX6_potentialOf_43 rfl 44 rfl ?_
  refine r_iload hC 0 dX6_potentialOf_44 rfl 46 rfl ?_
  refine r_invVr hC kX6 (b 0) [.ref a, .int 2] (.long (reachQ t r 2)) mVX6_reachOf q2739 (fun _ h => h.get 0 rfl) (metX6_reachOf _ _ hG b _ _ _ a _ 2 (Nat.le_of_ble_eq_true rfl)) (fun _ h => h.in.sub [0, 1, 2] rfl rfl) ⟨rfl, rfl⟩ 0 0 rfl rfl (Nat.le_of_ble_eq_true rfl) (Nat.le_of_ble_eq_true rfl) rfl (Nat.le_of_ble_eq_true rfl) dX6_potentialOf_46 49 rfl ?_
  refine r_ldiv hC ((((t 0) * (r 11)) * (r 16)) / (reachQ t r 2)) dX6_potentialOf_49 ((hok.1 2 (Nat.le_of_ble_eq_true rfl)).1) (rfl) 50 rfl ?_
  refine r_lsub hC (((0 - ((((t 0) * (r 6)) * (r 11)) / (reachQ t r 0))) - ((((t 0) * (r 6)) * (r 16)) / (reachQ t r 1))) - ((((t 0) * (r 11)) * (r 16)) / (reachQ t r 2))) dX6_potentialOf_50  (rfl) 51 rfl ?_
  refine r_lstore_n hC 2 [(2, .long (((0 - ((((t 0) * (r 6)) * (r 11)) / (reachQ t r 0))) - ((((t 0) * (r 6)) * (r 16)) / (reachQ t r 1))) - ((((t 0) * (r 11)) * (r 16)) / (reachQ t r 2)))), (4, .int 2), (0, .ref (b 0)), (1, .ref a)] dX6_potentialOf_51 rfl (Nat.le_of_ble_eq_true rfl) rfl 52 rfl ?_
  refine r_iinc hC 3 4 1 [(4, .int 3), (2, .long (((0 - ((((t 0) * (r 6)) * (r 11)) / (reachQ t r 0))) - ((((t 0) * (r 6)) * (r 16)) / (reachQ t r 1))) - ((((t 0) * (r 11)) * (r 16)) / (reachQ t r 2)))), (0, .ref (b 0)), (1, .ref a)] dX6_potentialOf_52 rfl (by decide) (Nat.le_of_ble_eq_true rfl) rfl 55 rfl ?_
  refine r_goto hC 5 dX6_potentialOf_55 (by decide) ?_
  refine r_iload hC 0 dX6_potentialOf_5 rfl 7 rfl ?_
  refine r_iconst hC 3 dX6_potentialOf_7 ic_3 8 rfl ?_
  refine r_icge hC 58 dX6_potentialOf_8 (by decide) 11 rfl (fun _ => ?_) (fun h => absurd h (by decide))
  refine r_lload_n hC 1 dX6_potentialOf_58 rfl 59 rfl ?_
  exact r_lret hC (Nat.le_of_ble_eq_true rfl) (Nat.le_of_ble_eq_true rfl) (fun V9 h => hQ _ _ ⟨rfl, h.1⟩) dX6_potentialOf_59
set_option maxHeartbeats 4000000 in
set_option maxRecDepth 100000 in
theorem metX6_energy (l : Launch) (G : xG) (hG : xGood G) (b : Nat → Nat) (i : Nat → Int32) (j : Nat → Int64) (t : Nat → Int64) (a : Nat) (r : Nat → Int64) (hok : rowOK t r) : xRm l G yX6_energy (Cond.code yX6_energy cX6_energy 2 (some .long)) { frames := 5, locals := 119, cells := 0, slots := 0 } [.ref (b 0), .ref a] [(b 0, .inr (5, mF b i j)), (b 7, .inl (1, 5, .inr (.inl t))), (a, .inl (1, 111, .inr (.inl r)))] (some (.long (enQ t r))) := by
  intro V hV
  refine xMet_of RX6 hG rfl (by decide) (Nat.le_of_ble_eq_true rfl) fun C hC hQ hX hl hg _ => ?_
  subst hl hg
  refine rn.mono (J := xRo [(b 0, .inr (5, mF b i j)), (b 7, .inl (1, 5, .inr (.inl t))), (a, .inl (1, 111, .inr (.inl r)))] V) (fun V9 h => ⟨h, hV⟩) ?_
  show rn C (xRo [(b 0, .inr (5, mF b i j)), (b 7, .inl (1, 5, .inr (.inl t))), (a, .inl (1, 111, .inr (.inl r)))] V) 0 0 0 [(0, .ref (b 0)), (1, .ref a)] []
  refine r_aload_n hC 1 dX6_energy_0 rfl 1 rfl ?_
  refine r_invSr hC [.ref a] (.long (kinQ r)) mSX6_kineticOf q2725 (metX6_kineticOf _ _ hG a _ (hok).2.1.1 (hok).2.1.2.1 (hok).2.1.2.2) (fun _ h => h.in.sub [2] rfl rfl) ⟨rfl, rfl⟩ 0 0 rfl rfl (Nat.le_of_ble_eq_true rfl) (Nat.le_of_ble_eq_true rfl) rfl (Nat.le_of_ble_eq_true rfl) dX6_energy_1 4 rfl ?_
  refine r_aload_n hC 0 dX6_energy_4 rfl 5 rfl ?_
  refine r_aload_n hC 1 dX6_energy_5 rfl 6 rfl ?_
  refine r_invVr hC kX6 (b 0) [.ref a] (.long (potQ t r)) mVX6_potentialOf q2729 (fun _ h => h.get 0 rfl) (metX6_potentialOf _ _ hG b _ _ _ a _   (hok)) (fun _ h => h.in.sub [0, 1, 2] rfl rfl) ⟨rfl, rfl⟩ 0 0 rfl rfl (Nat.le_of_ble_eq_true rfl) (Nat.le_of_ble_eq_true rfl) rfl (Nat.le_of_ble_eq_true rfl) dX6_energy_6 9 rfl ?_
  refine r_ladd hC ((kinQ r) + (potQ t r)) dX6_energy_9  (rfl) 10 rfl ?_
  exact r_lret hC (Nat.le_of_ble_eq_true rfl) (Nat.le_of_ble_eq_true rfl) (fun V9 h => hQ _ _ ⟨rfl, h.1⟩) dX6_energy_10
set_option maxHeartbeats 4000000 in
set_option maxRecDepth 100000 in
theorem metX6_bandOf (l : Launch) (G : xG) (hG : xGood G) (b : Nat → Nat) (i : Nat → Int32) (j : Nat → Int64) (t : Nat → Int64) (a : Nat) (r : Nat → Int64) (hok : rowOK t r) : xRm l G yX6_bandOf (Cond.code yX6_bandOf cX6_bandOf 2 (some .long)) { frames := 6, locals := 140, cells := 0, slots := 0 } [.ref (b 0), .ref a] [(b 0, .inr (5, mF b i j)), (b 7, .inl (1, 5, .inr (.inl t))), (a, .inl (1, 111, .inr (.inl r)))] (some (.long (bandQ t r))) := by
  intro V hV
  refine xMet_of RX6 hG rfl (by decide) (Nat.le_of_ble_eq_true rfl) fun C hC hQ hX hl hg _ => ?_
  subst hl hg
  refine rn.mono (J := xRo [(b 0, .inr (5, mF b i j)), (b 7, .inl (1, 5, .inr (.inl t))), (a, .inl (1, 111, .inr (.inl r)))] V) (fun V9 h => ⟨h, hV⟩) ?_
  show rn C (xRo [(b 0, .inr (5, mF b i j)), (b 7, .inl (1, 5, .inr (.inl t))), (a, .inl (1, 111, .inr (.inl r)))] V) 0 0 0 [(0, .ref (b 0)), (1, .ref a)] []
  refine r_aload_n hC 0 dX6_bandOf_0 rfl 1 rfl ?_
  refine r_aload_n hC 1 dX6_bandOf_1 rfl 2 rfl ?_
  refine r_invVr hC kX6 (b 0) [.ref a] (.long (enQ t r)) mVX6_energy q2721 (fun _ h => h.get 0 rfl) (metX6_energy _ _ hG b _ _ _ a _   (hok)) (fun _ h => h.in.sub [0, 1, 2] rfl rfl) ⟨rfl, rfl⟩ 0 0 rfl rfl (Nat.le_of_ble_eq_true rfl) (Nat.le_of_ble_eq_true rfl) rfl (Nat.le_of_ble_eq_true rfl) dX6_bandOf_2 5 rfl ?_
  refine r_aload_n hC 0 dX6_bandOf_5 rfl 6 rfl ?_
  refine r_get (v := .ref (b 7)) hC kX6 7 rfl q2760 (fun _ h => h.get 0 rfl) rfl dX6_bandOf_6 9 rfl ?_
  refine r_iconst hC 4 dX6_bandOf_9 ic_4 10 rfl ?_
  refine r_lald hC 4 (xix_n 4 (Nat.le_of_ble_eq_true rfl) (Nat.le_of_ble_eq_true rfl)) (fun _ h => h.get 1 rfl) (t 4) (rfl) dX6_bandOf_10 11 rfl ?_
  refine r_invSr hC [.long (enQ t r), .long (t 4)] (.long (m_floored (enQ t r) (t 4))) mSX6_floored q3042 (metX6_floored _ _ hG (enQ t r) (t 4) (hok.2.2.2)) (fun _ _ => xIn.nil) ⟨rfl, rfl⟩ 0 0 rfl rfl (Nat.le_of_ble_eq_true rfl) (Nat.le_of_ble_eq_true rfl) rfl (Nat.le_of_ble_eq_true rfl) dX6_bandOf_11 14 rfl ?_
  exact r_lret hC (Nat.le_of_ble_eq_true rfl) (Nat.le_of_ble_eq_true rfl) (fun V9 h => hQ _ _ ⟨rfl, h.1⟩) dX6_bandOf_14
