/-! ===== the JDK: trees: moveRootToFront ===== -/
set_option maxRecDepth 100000
theorem ic_pos {n : Nat} (h : 1 ≤ n) (h2 : n < 2147483648) : ¬ nI n ≤ 0 := by
  rw [Int32.le_iff_toInt_le, nI_toInt (by omega)]
  have h0 : (0 : Int32).toInt = 0 := rfl
  omega
set_option maxHeartbeats 4000000 in
set_option maxRecDepth 100000 in
theorem metJ26_moveRootToFrontA (l : Launch) (G : xG) (hG : xGood G) (L : List Nat) (kd : Nat → Bool) (hs : Nat → Int32) (ky vl : Nat → Nat) (nx bf af pa lf rt pv : Nat → Option Nat) (rd : Nat → Int32) (tb cap b : Nat) (tf : Nat → Option Nat) (hc1 : 1 ≤ cap) (hc2 : cap ≤ 1024) (hb : b < cap) (root : Nat) (hix : (nI (cap - 1) &&& hs root) = nI b) (hrL : root ∈ L) (hrk : kd root = true) (hf : tf b = some root) : xWm l G yJ26_moveRootToFront (Cond.code yJ26_moveRootToFront cJ26_moveRootToFront 7 none) { frames := 0, locals := 0, cells := 0, slots := 0 } [.ref tb, .ref root] ([(tb, .inl (8, cap, .inr (.inr (.inr (.inr tf)))))] ++ stW L (ndX kd hs ky vl nx bf af pa lf rt pv rd)) (fun v w' => v = none ∧ w' = ([(tb, .inl (8, cap, .inr (.inr (.inr (.inr tf)))))] ++ stW L (ndX kd hs ky vl nx bf af pa lf rt pv rd))) (fun _ _ => False) := by
  intro V hV
  refine xMet_ofT RJ26 hG rfl (by decide) (Nat.le_of_ble_eq_true rfl) fun C hC hQ hX hl hg _ hTab => ?_
  subst hl hg
  have hzAD := za_AD hG
  obtain ⟨V0, hV0⟩ : ∃ V0, V0 = V := ⟨_, rfl⟩
  obtain ⟨F, hF⟩ : ∃ F, F = xF ([(tb, .inl (8, cap, .inr (.inr (.inr (.inr tf)))))] ++ stW L (ndX kd hs ky vl nx bf af pa lf rt pv rd)) := ⟨_, rfl⟩
  refine rn.mono (J := xSt F V0 ([(tb, .inl (8, cap, .inr (.inr (.inr (.inr tf)))))] ++ stW L (ndX kd hs ky vl nx bf af pa lf rt pv rd))) (fun V9 h => by rw [h, hV0, hF]; exact hV.st) ?_
  show rn C (xSt F V0 ([(tb, .inl (8, cap, .inr (.inr (.inr (.inr tf)))))] ++ stW L (ndX kd hs ky vl nx bf af pa lf rt pv rd))) 0 0 0 [(0, .ref tb), (1, .ref root)] []
  refine r_aload_n hC 1 dJ26_moveRootToFront_0 rfl 1 rfl ?_
  refine r_ifnull hC dJ26_moveRootToFront_1 4 rfl ?_
  refine r_aload_n hC 0 dJ26_moveRootToFront_4 rfl 5 rfl ?_
  refine r_ifnull hC dJ26_moveRootToFront_5 8 rfl ?_
  refine r_aload_n hC 0 dJ26_moveRootToFront_8 rfl 9 rfl ?_
  refine r_alen hC (nI cap) (t := 8) rfl (fun _ h => h.get 0 rfl) rfl dJ26_moveRootToFront_9 10 rfl ?_
  refine r_dup hC dJ26_moveRootToFront_10 rfl 11 rfl ?_
  refine r_istore_n hC 2 [(2, .int (nI cap)), (0, .ref tb), (1, .ref root)] dJ26_moveRootToFront_11 rfl (Nat.le_of_ble_eq_true rfl) rfl 12 rfl ?_
  refine r_ifle hC 123 dJ26_moveRootToFront_12 (by decide) 15 rfl (fun h => absurd h (ic_pos (by omega) (by omega))) (fun _ => ?_)
  refine r_iload_n hC 0 dJ26_moveRootToFront_15 rfl 16 rfl ?_
  refine r_iconst hC 1 dJ26_moveRootToFront_16 ic_1 17 rfl ?_
  refine r_isub hC (nI (cap - 1)) dJ26_moveRootToFront_17  (pk_sub (a := cap) (b := 1) (by omega)) 18 rfl ?_
  refine r_aload_n hC 2 dJ26_moveRootToFront_18 rfl 19 rfl ?_
  refine r_getI (v := .int (hs root)) hC kJ26 0 rfl q2230 (Or.inr q2231) (fun _ h => stW_get h hrL (ndX_t hrk)) rfl dJ26_moveRootToFront_19 22 rfl ?_
  refine r_iand hC (nI b) dJ26_moveRootToFront_22  (hix) 23 rfl ?_
  refine r_istore_n hC 3 [(3, .int (nI b)), (2, .int (nI cap)), (0, .ref tb), (1, .ref root)] dJ26_moveRootToFront_23 rfl (Nat.le_of_ble_eq_true rfl) rfl 24 rfl ?_
  refine r_aload_n hC 2 dJ26_moveRootToFront_24 rfl 25 rfl ?_
  refine r_iload_n hC 0 dJ26_moveRootToFront_25 rfl 26 rfl ?_
  refine r_aald hC b (xix_n b hb (by omega)) (t := 8) rfl rfl (fun _ h => h.get 0 rfl) (some root) (hf) dJ26_moveRootToFront_26 27 rfl ?_
  show rn C (xSt F V0 ([(tb, .inl (8, cap, .inr (.inr (.inr (.inr tf)))))] ++ stW L (ndX kd hs ky vl nx bf af pa lf rt pv rd))) 0 0 27 [(3, .int (nI b)), (2, .int (nI cap)), (0, .ref tb), (1, .ref root)] [.ref root]
  refine r_castS hC kJ26 q2206 (fun _ h => ⟨_, stW_get h hrL (ndX_t hrk)⟩) dJ26_moveRootToFront_27 30 rfl ?_
  refine r_astore hC 4 [(4, .ref root), (3, .int (nI b)), (2, .int (nI cap)), (0, .ref tb), (1, .ref root)] dJ26_moveRootToFront_30 (Nat.le_of_ble_eq_true rfl) rfl 32 rfl ?_
  refine r_aload_n hC 4 dJ26_moveRootToFront_32 rfl 33 rfl ?_
  refine r_aload hC 0 dJ26_moveRootToFront_33 rfl 35 rfl ?_
  refine r_aceq (rx := (some root)) (ry := (some root)) hC 102 dJ26_moveRootToFront_35 (by decide) 38 rfl (fun _ => ?_) (fun h => absurd (rfl) h)
  refine r_gets hC hzAD q2286 dJ26_moveRootToFront_102 105 rfl ?_
  refine r_ifne hC 123 dJ26_moveRootToFront_105 (by decide) 108 rfl (fun _ => ?_) (fun h => absurd h (by decide))
  exact r_vret hC (Nat.le_of_ble_eq_true rfl) (Nat.le_of_ble_eq_true rfl) (fun V9 h => hQ _ _ ⟨_, ⟨rfl, rfl⟩, by rw [← hV0, ← hF]; exact h⟩) dJ26_moveRootToFront_123
set_option maxHeartbeats 4000000 in
set_option maxRecDepth 100000 in
theorem metJ26_moveRootToFrontB (l : Launch) (G : xG) (hG : xGood G) (L : List Nat) (kd : Nat → Bool) (hs : Nat → Int32) (ky vl : Nat → Nat) (nx bf af pa lf rt pv : Nat → Option Nat) (rd : Nat → Int32) (tb cap b : Nat) (tf : Nat → Option Nat) (hc1 : 1 ≤ cap) (hc2 : cap ≤ 1024) (hb : b < cap) (root : Nat) (hix : (nI (cap - 1) &&& hs root) = nI b) (hrL : root ∈ L) (hrk : kd root = true) (f z : Nat) (hf : tf b = some f) (hfr : f ≠ root) (hfL : f ∈ L) (hfk : kd f = true) (hpz : pv root = some z) (hzL : z ∈ L) (hzk : kd z = true) (hyn : ∀ y, nx root = some y → y ∈ L ∧ kd y = true) : xWm l G yJ26_moveRootToFront (Cond.code yJ26_moveRootToFront cJ26_moveRootToFront 7 none) { frames := 0, locals := 0, cells := 0, slots := 0 } [.ref tb, .ref root] ([(tb, .inl (8, cap, .inr (.inr (.inr (.inr tf)))))] ++ stW L (ndX kd hs ky vl nx bf af pa lf rt pv rd)) (fun v w' => v = none ∧ w' = ([(tb, .inl (8, cap, .inr (.inr (.inr (.inr (va_up tf b (some root)))))))] ++ stW L (ndX kd hs ky vl (va_up (va_up nx z (nx root)) root (some f)) bf af pa lf rt (va_up (va_up (pvm pv (nx root) z) f (some root)) root none) rd))) (fun _ _ => False) := by
  intro V hV
  refine xMet_ofT RJ26 hG rfl (by decide) (Nat.le_of_ble_eq_true rfl) fun C hC hQ hX hl hg _ hTab => ?_
  subst hl hg
  have hzAD := za_AD hG
  obtain ⟨V0, hV0⟩ : ∃ V0, V0 = V := ⟨_, rfl⟩
  obtain ⟨F, hF⟩ : ∃ F, F = xF ([(tb, .inl (8, cap, .inr (.inr (.inr (.inr tf)))))] ++ stW L (ndX kd hs ky vl nx bf af pa lf rt pv rd)) := ⟨_, rfl⟩
  refine rn.mono (J := xSt F V0 ([(tb, .inl (8, cap, .inr (.inr (.inr (.inr tf)))))] ++ stW L (ndX kd hs ky vl nx bf af pa lf rt pv rd))) (fun V9 h => by rw [h, hV0, hF]; exact hV.st) ?_
  show rn C (xSt F V0 ([(tb, .inl (8, cap, .inr (.inr (.inr (.inr tf)))))] ++ stW L (ndX kd hs ky vl nx bf af pa lf rt pv rd))) 0 0 0 [(0, .ref tb), (1, .ref root)] []
  refine r_aload_n hC 1 dJ26_moveRootToFront_0 rfl 1 rfl ?_
  refine r_ifnull hC dJ26_moveRootToFront_1 4 rfl ?_
  refine r_aload_n hC 0 dJ26_moveRootToFront_4 rfl 5 rfl ?_
  refine r_ifnull hC dJ26_moveRootToFront_5 8 rfl ?_
  refine r_aload_n hC 0 dJ26_moveRootToFront_8 rfl 9 rfl ?_
  refine r_alen hC (nI cap) (t := 8) rfl (fun _ h => h.get 0 rfl) rfl dJ26_moveRootToFront_9 10 rfl ?_
  refine r_dup hC dJ26_moveRootToFront_10 rfl 11 rfl ?_
  refine r_istore_n hC 2 [(2, .int (nI cap)), (0, .ref tb), (1, .ref root)] dJ26_moveRootToFront_11 rfl (Nat.le_of_ble_eq_true rfl) rfl 12 rfl ?_
  refine r_ifle hC 123 dJ26_moveRootToFront_12 (by decide) 15 rfl (fun h => absurd h (ic_pos (by omega) (by omega))) (fun _ => ?_)
  refine r_iload_n hC 0 dJ26_moveRootToFront_15 rfl 16 rfl ?_
  refine r_iconst hC 1 dJ26_moveRootToFront_16 ic_1 17 rfl ?_
  refine r_isub hC (nI (cap - 1)) dJ26_moveRootToFront_17  (pk_sub (a := cap) (b := 1) (by omega)) 18 rfl ?_
  refine r_aload_n hC 2 dJ26_moveRootToFront_18 rfl 19 rfl ?_
  refine r_getI (v := .int (hs root)) hC kJ26 0 rfl q2230 (Or.inr q2231) (fun _ h => stW_get h hrL (ndX_t hrk)) rfl dJ26_moveRootToFront_19 22 rfl ?_
  refine r_iand hC (nI b) dJ26_moveRootToFront_22  (hix) 23 rfl ?_
  refine r_istore_n hC 3 [(3, .int (nI b)), (2, .int (nI cap)), (0, .ref tb), (1, .ref root)] dJ26_moveRootToFront_23 rfl (Nat.le_of_ble_eq_true rfl) rfl 24 rfl ?_
  refine r_aload_n hC 2 dJ26_moveRootToFront_24 rfl 25 rfl ?_
  refine r_iload_n hC 0 dJ26_moveRootToFront_25 rfl 26 rfl ?_
  refine r_aald hC b (xix_n b hb (by omega)) (t := 8) rfl rfl (fun _ h => h.get 0 rfl) (some f) (hf) dJ26_moveRootToFront_26 27 rfl ?_
  show rn C (xSt F V0 ([(tb, .inl (8, cap, .inr (.inr (.inr (.inr tf)))))] ++ stW L (ndX kd hs ky vl nx bf af pa lf rt pv rd))) 0 0 27 [(3, .int (nI b)), (2, .int (nI cap)), (0, .ref tb), (1, .ref root)] [.ref f]
  refine r_castS hC kJ26 q2206 (fun _ h => ⟨_, stW_get h hfL (ndX_t hfk)⟩) dJ26_moveRootToFront_27 30 rfl ?_
  refine r_astore hC 4 [(4, .ref f), (3, .int (nI b)), (2, .int (nI cap)), (0, .ref tb), (1, .ref root)] dJ26_moveRootToFront_30 (Nat.le_of_ble_eq_true rfl) rfl 32 rfl ?_
  refine r_aload_n hC 4 dJ26_moveRootToFront_32 rfl 33 rfl ?_
  refine r_aload hC 0 dJ26_moveRootToFront_33 rfl 35 rfl ?_
  refine r_aceq (rx := (some root)) (ry := (some f)) hC 102 dJ26_moveRootToFront_35 (by decide) 38 rfl (fun h => absurd h (fun q9 => (Ne.symm hfr) (Option.some.inj q9))) (fun _ => ?_)
  refine r_aload_n hC 3 dJ26_moveRootToFront_38 rfl 39 rfl ?_
  refine r_iload_n hC 1 dJ26_moveRootToFront_39 rfl 40 rfl ?_
  refine r_aload_n hC 4 dJ26_moveRootToFront_40 rfl 41 rfl ?_
  refine r_aastO (J := xSt F V0 ([(tb, .inl (8, cap, .inr (.inr (.inr (.inr (va_up tf b (some root)))))))] ++ stW L (ndX kd hs ky vl nx bf af pa lf rt pv rd))) hC hG kJ26 q3423 b (xix_n b hb (by omega)) rfl (fun _ h => ⟨_, stW_get h hrL (ndX_t hrk)⟩) (fun _ h => h.get 0 rfl) dJ26_moveRootToFront_41 (fun _ h => h.set 0 _ rfl) 42 rfl ?_
  refine r_aload_n hC 4 dJ26_moveRootToFront_42 rfl 43 rfl ?_
  refine r_getI (v := .ref z) hC kJ26 9 rfl q2318 (Or.inl rfl) (fun _ h => stW_get h hrL (ndX_t hrk)) (congrArg (fun o9 => some (va_rf o9)) (hpz)) dJ26_moveRootToFront_43 46 rfl ?_
  refine r_astore hC 6 [(6, .ref z), (4, .ref f), (3, .int (nI b)), (2, .int (nI cap)), (0, .ref tb), (1, .ref root)] dJ26_moveRootToFront_46 (Nat.le_of_ble_eq_true rfl) rfl 48 rfl ?_
  refine r_aload_n hC 5 dJ26_moveRootToFront_48 rfl 49 rfl ?_
  rcases opt_c (nx root) with hl1 | ⟨x2, hl1⟩
  · skip
    refine r_getI (v := .null) hC kJ26 3 rfl q2247 (Or.inr q2248) (fun _ h => stW_get h hrL (ndX_t hrk)) (congrArg (fun o9 => some (va_rf o9)) (hl1)) dJ26_moveRootToFront_49 52 rfl ?_
    refine r_dup hC dJ26_moveRootToFront_52 rfl 53 rfl ?_
    refine r_astoreN hC 5 [(5, .null), (6, .ref z), (4, .ref f), (3, .int (nI b)), (2, .int (nI cap)), (0, .ref tb), (1, .ref root)] dJ26_moveRootToFront_53 (Nat.le_of_ble_eq_true rfl) rfl 55 rfl ?_
    refine r_ifnullN hC 68 dJ26_moveRootToFront_55 (by decide) ?_
    refine r_aload hC 1 dJ26_moveRootToFront_68 rfl 70 rfl ?_
    refine r_ifnull hC dJ26_moveRootToFront_70 73 rfl ?_
    refine r_aload hC 1 dJ26_moveRootToFront_73 rfl 75 rfl ?_
    refine r_aloadN hC 0 dJ26_moveRootToFront_75 rfl 77 rfl ?_
    refine r_putI (J := xSt F V0 ([(tb, .inl (8, cap, .inr (.inr (.inr (.inr (va_up tf b (some root)))))))] ++ stW L (ndX kd hs ky vl (va_up nx z none) bf af pa lf rt pv rd))) hC kJ26 3 rfl q2247 (Or.inr q2248) rfl (fun _ h => stW_get h hzL (ndX_t hzk)) (Nat.le_of_ble_eq_true rfl) rfl rfl dJ26_moveRootToFront_77 (fun _ h => stW_set h hzL (ndX_nx hzk)) 80 rfl ?_
    refine r_aload hC 2 dJ26_moveRootToFront_80 rfl 82 rfl ?_
    refine r_ifnull hC dJ26_moveRootToFront_82 85 rfl ?_
    refine r_aload hC 2 dJ26_moveRootToFront_85 rfl 87 rfl ?_
    refine r_aload_n hC 6 dJ26_moveRootToFront_87 rfl 88 rfl ?_
    refine r_putI (J := xSt F V0 ([(tb, .inl (8, cap, .inr (.inr (.inr (.inr (va_up tf b (some root)))))))] ++ stW L (ndX kd hs ky vl (va_up nx z none) bf af pa lf rt (va_up pv f (some root)) rd))) hC kJ26 9 rfl q2318 (Or.inl rfl) rfl (fun _ h => stW_get h hfL (ndX_t hfk)) (Nat.le_of_ble_eq_true rfl) rfl rfl dJ26_moveRootToFront_88 (fun _ h => stW_set h hfL (ndX_pv hfk)) 91 rfl ?_
    refine r_aload_n hC 6 dJ26_moveRootToFront_91 rfl 92 rfl ?_
    refine r_aload hC 2 dJ26_moveRootToFront_92 rfl 94 rfl ?_
    refine r_putI (J := xSt F V0 ([(tb, .inl (8, cap, .inr (.inr (.inr (.inr (va_up tf b (some root)))))))] ++ stW L (ndX kd hs ky vl (va_up (va_up nx z none) root (some f)) bf af pa lf rt (va_up pv f (some root)) rd))) hC kJ26 3 rfl q2247 (Or.inr q2248) rfl (fun _ h => stW_get h hrL (ndX_t hrk)) (Nat.le_of_ble_eq_true rfl) rfl rfl dJ26_moveRootToFront_94 (fun _ h => stW_set h hrL (ndX_nx hrk)) 97 rfl ?_
    refine r_aload_n hC 6 dJ26_moveRootToFront_97 rfl 98 rfl ?_
    refine r_null hC dJ26_moveRootToFront_98 99 rfl ?_
    refine r_putI (J := xSt F V0 ([(tb, .inl (8, cap, .inr (.inr (.inr (.inr (va_up tf b (some root)))))))] ++ stW L (ndX kd hs ky vl (va_up (va_up nx z none) root (some f)) bf af pa lf rt (va_up (va_up pv f (some root)) root none) rd))) hC kJ26 9 rfl q2318 (Or.inl rfl) rfl (fun _ h => stW_get h hrL (ndX_t hrk)) (Nat.le_of_ble_eq_true rfl) rfl rfl dJ26_moveRootToFront_99 (fun _ h => stW_set h hrL (ndX_pv hrk)) 102 rfl ?_
    refine r_gets hC hzAD q2286 dJ26_moveRootToFront_102 105 rfl ?_
    refine r_ifne hC 123 dJ26_moveRootToFront_105 (by decide) 108 rfl (fun _ => ?_) (fun h => absurd h (by decide))
    exact r_vret hC (Nat.le_of_ble_eq_true rfl) (Nat.le_of_ble_eq_true rfl) (fun V9 h => hQ _ _ ⟨_, ⟨rfl, rfl⟩, by rw [← hV0, ← hF]; simp only [hl1, pvm]; exact h⟩) dJ26_moveRootToFront_123
  · skip
    refine r_getI (v := .ref x2) hC kJ26 3 rfl q2247 (Or.inr q2248) (fun _ h => stW_get h hrL (ndX_t hrk)) (congrArg (fun o9 => some (va_rf o9)) (hl1)) dJ26_moveRootToFront_49 52 rfl ?_
    refine r_dup hC dJ26_moveRootToFront_52 rfl 53 rfl ?_
    refine r_astore hC 5 [(5, .ref x2), (6, .ref z), (4, .ref f), (3, .int (nI b)), (2, .int (nI cap)), (0, .ref tb), (1, .ref root)] dJ26_moveRootToFront_53 (Nat.le_of_ble_eq_true rfl) rfl 55 rfl ?_
    refine r_ifnull hC dJ26_moveRootToFront_55 58 rfl ?_
    refine r_aload hC 0 dJ26_moveRootToFront_58 rfl 60 rfl ?_
    refine r_castS hC kJ26 q2206 (fun _ h => ⟨_, stW_get h ((hyn x2 hl1).1) (ndX_t ((hyn x2 hl1).2))⟩) dJ26_moveRootToFront_60 63 rfl ?_
    refine r_aload hC 1 dJ26_moveRootToFront_63 rfl 65 rfl ?_
    refine r_putI (J := xSt F V0 ([(tb, .inl (8, cap, .inr (.inr (.inr (.inr (va_up tf b (some root)))))))] ++ stW L (ndX kd hs ky vl nx bf af pa lf rt (va_up pv x2 (some z)) rd))) hC kJ26 9 rfl q2318 (Or.inl rfl) rfl (fun _ h => stW_get h ((hyn x2 hl1).1) (ndX_t ((hyn x2 hl1).2))) (Nat.le_of_ble_eq_true rfl) rfl rfl dJ26_moveRootToFront_65 (fun _ h => stW_set h ((hyn x2 hl1).1) (ndX_pv ((hyn x2 hl1).2))) 68 rfl ?_
    refine r_aload hC 1 dJ26_moveRootToFront_68 rfl 70 rfl ?_
    refine r_ifnull hC dJ26_moveRootToFront_70 73 rfl ?_
    refine r_aload hC 1 dJ26_moveRootToFront_73 rfl 75 rfl ?_
    refine r_aload hC 0 dJ26_moveRootToFront_75 rfl 77 rfl ?_
    refine r_putI (J := xSt F V0 ([(tb, .inl (8, cap, .inr (.inr (.inr (.inr (va_up tf b (some root)))))))] ++ stW L (ndX kd hs ky vl (va_up nx z (some x2)) bf af pa lf rt (va_up pv x2 (some z)) rd))) hC kJ26 3 rfl q2247 (Or.inr q2248) rfl (fun _ h => stW_get h hzL (ndX_t hzk)) (Nat.le_of_ble_eq_true rfl) rfl rfl dJ26_moveRootToFront_77 (fun _ h => stW_set h hzL (ndX_nx hzk)) 80 rfl ?_
    refine r_aload hC 2 dJ26_moveRootToFront_80 rfl 82 rfl ?_
    refine r_ifnull hC dJ26_moveRootToFront_82 85 rfl ?_
    refine r_aload hC 2 dJ26_moveRootToFront_85 rfl 87 rfl ?_
    refine r_aload_n hC 6 dJ26_moveRootToFront_87 rfl 88 rfl ?_
    refine r_putI (J := xSt F V0 ([(tb, .inl (8, cap, .inr (.inr (.inr (.inr (va_up tf b (some root)))))))] ++ stW L (ndX kd hs ky vl (va_up nx z (some x2)) bf af pa lf rt (va_up (va_up pv x2 (some z)) f (some root)) rd))) hC kJ26 9 rfl q2318 (Or.inl rfl) rfl (fun _ h => stW_get h hfL (ndX_t hfk)) (Nat.le_of_ble_eq_true rfl) rfl rfl dJ26_moveRootToFront_88 (fun _ h => stW_set h hfL (ndX_pv hfk)) 91 rfl ?_
    refine r_aload_n hC 6 dJ26_moveRootToFront_91 rfl 92 rfl ?_
    refine r_aload hC 2 dJ26_moveRootToFront_92 rfl 94 rfl ?_
    refine r_putI (J := xSt F V0 ([(tb, .inl (8, cap, .inr (.inr (.inr (.inr (va_up tf b (some root)))))))] ++ stW L (ndX kd hs ky vl (va_up (va_up nx z (some x2)) root (some f)) bf af pa lf rt (va_up (va_up pv x2 (some z)) f (some root)) rd))) hC kJ26 3 rfl q2247 (Or.inr q2248) rfl (fun _ h => stW_get h hrL (ndX_t hrk)) (Nat.le_of_ble_eq_true rfl) rfl rfl dJ26_moveRootToFront_94 (fun _ h => stW_set h hrL (ndX_nx hrk)) 97 rfl ?_
    refine r_aload_n hC 6 dJ26_moveRootToFront_97 rfl 98 rfl ?_
    refine r_null hC dJ26_moveRootToFront_98 99 rfl ?_
    refine r_putI (J := xSt F V0 ([(tb, .inl (8, cap, .inr (.inr (.inr (.inr (va_up tf b (some root)))))))] ++ stW L (ndX kd hs ky vl (va_up (va_up nx z (some x2)) root (some f)) bf af pa lf rt (va_up (va_up (va_up pv x2 (some z)) f (some root)) root none) rd))) hC kJ26 9 rfl q2318 (Or.inl rfl) rfl (fun _ h => stW_get h hrL (ndX_t hrk)) (Nat.le_of_ble_eq_true rfl) rfl rfl dJ26_moveRootToFront_99 (fun _ h => stW_set h hrL (ndX_pv hrk)) 102 rfl ?_
    refine r_gets hC hzAD q2286 dJ26_moveRootToFront_102 105 rfl ?_
    refine r_ifne hC 123 dJ26_moveRootToFront_105 (by decide) 108 rfl (fun _ => ?_) (fun h => absurd h (by decide))
    exact r_vret hC (Nat.le_of_ble_eq_true rfl) (Nat.le_of_ble_eq_true rfl) (fun V9 h => hQ _ _ ⟨_, ⟨rfl, rfl⟩, by rw [← hV0, ← hF]; simp only [hl1, pvm]; exact h⟩) dJ26_moveRootToFront_123
set_option maxHeartbeats 4000000 in
set_option maxRecDepth 100000 in
theorem metJ26_moveRootToFront (l : Launch) (G : xG) (hG : xGood G) (L : List Nat) (kd : Nat → Bool) (hs : Nat → Int32) (ky vl : Nat → Nat) (nx bf af pa lf rt pv : Nat → Option Nat) (rd : Nat → Int32) (tb cap b : Nat) (tf : Nat → Option Nat) (hc1 : 1 ≤ cap) (hc2 : cap ≤ 1024) (hb : b < cap) (root : Nat) (hix : (nI (cap - 1) &&& hs root) = nI b) (hrL : root ∈ L) (hrk : kd root = true) (l1 l2 : List Nat) (hseg : seg nx (tf b) (l1 ++ root :: l2) none) (hbck : bck pv none (l1 ++ root :: l2)) (hnd : (l1 ++ root :: l2).Nodup) (hml : ∀ a, a ∈ l1 ++ root :: l2 → a ∈ L ∧ kd a = true) : xWm l G yJ26_moveRootToFront (Cond.code yJ26_moveRootToFront cJ26_moveRootToFront 7 none) { frames := 0, locals := 0, cells := 0, slots := 0 } [.ref tb, .ref root] ([(tb, .inl (8, cap, .inr (.inr (.inr (.inr tf)))))] ++ stW L (ndX kd hs ky vl nx bf af pa lf rt pv rd)) (fun v w' => ∃ (nx' pv' : Nat → Option Nat), v = none ∧ seg nx' (some root) (root :: (l1 ++ l2)) none ∧ bck pv' none (root :: (l1 ++ l2)) ∧ (∀ a, a ∉ l1 ++ root :: l2 → nx' a = nx a ∧ pv' a = pv a) ∧ w' = ([(tb, .inl (8, cap, .inr (.inr (.inr (.inr (va_up tf b (some root)))))))] ++ stW L (ndX kd hs ky vl nx' bf af pa lf rt pv' rd))) (fun _ _ => False) := by
  cases hl1 : l1 with
  | nil =>
    subst hl1
    have hf : tf b = some root := hseg.1
    refine xWm.imp2 (metJ26_moveRootToFrontA l G hG L kd hs ky vl nx bf af pa lf rt pv rd tb cap b tf hc1 hc2 hb root hix hrL hrk hf) (fun v w' h => ?_) (fun _ _ h => h)
    obtain ⟨rfl, rfl⟩ := h
    refine ⟨nx, pv, rfl, by rw [← hf]; exact hseg, hbck, fun _ _ => ⟨rfl, rfl⟩, by rw [up_idv hf]⟩
  | cons f t =>
    rw [← hl1]
    have hf : tf b = some f := by rw [hl1] at hseg; exact hseg.1
    have hl1' : l1 = f :: l1.tail := by rw [hl1]; rfl
    obtain ⟨l0, z, hl0⟩ := ex_last hl1
    have hfm : f ∈ l1 := by rw [hl1]; exact List.mem_cons_self
    have hzm : z ∈ l1 := by rw [hl0]; exact List.mem_append_right _ List.mem_cons_self
    obtain ⟨n1, n2, n3, n4⟩ := nd_split hnd
    have hfr : f ≠ root := fun e => n1 (by rw [← e]; exact hfm)
    have hpz : pv root = some z := by rw [hl0] at hbck; exact bck_at hbck
    obtain ⟨f1, f2⟩ := hml f (List.mem_append_left _ hfm)
    obtain ⟨z1, z2⟩ := hml z (List.mem_append_left _ hzm)
    have hyn : ∀ y, nx root = some y → y ∈ L ∧ kd y = true := fun y hy => by
      obtain ⟨t, rfl⟩ := seg_at hseg hy
      exact hml y (List.mem_append_right _ (List.mem_cons_of_mem _ List.mem_cons_self))
    refine xWm.imp2 (metJ26_moveRootToFrontB l G hG L kd hs ky vl nx bf af pa lf rt pv rd tb cap b tf hc1 hc2 hb root hix hrL hrk f z hf hfr f1 f2 hpz z1 z2 hyn) (fun v w' h => ?_) (fun _ _ h => h)
    obtain ⟨rfl, rfl⟩ := h
    rw [hf] at hseg
    refine ⟨_, _, rfl, mrf_seg hl1' hl0 hseg hnd, mrf_bck hl1' hl0 hseg hbck hnd, fun a ha => ?_, rfl⟩
    have a1 : a ≠ root := fun e => ha (by rw [e]; exact List.mem_append_right _ List.mem_cons_self)
    have a2 : a ≠ z := fun e => ha (by rw [e]; exact List.mem_append_left _ hzm)
    have a3 : a ≠ f := fun e => ha (by rw [e]; exact List.mem_append_left _ hfm)
    refine ⟨(up_ne a1).trans (up_ne a2), (up_ne a1).trans ((up_ne a3).trans ?_)⟩
    refine pvm_ne (fun y hy e => ha ?_)
    · obtain ⟨t, rfl⟩ := seg_at hseg hy
      rw [e]
      exact List.mem_append_right _ (List.mem_cons_of_mem _ List.mem_cons_self)
