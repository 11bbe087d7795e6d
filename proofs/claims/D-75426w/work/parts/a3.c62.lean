/-! ===== the JDK: trees: rotations, balanceInsertion ===== -/
set_option maxRecDepth 100000
set_option maxHeartbeats 4000000 in
set_option maxRecDepth 100000 in
theorem metJ26_rotateLeft (l : Launch) (G : xG) (hG : xGood G) (L : List Nat) (kd : Nat → Bool) (hs : Nat → Int32) (ky vl : Nat → Nat) (nx bf af pa lf rt pv : Nat → Option Nat) (rd : Nat → Int32) (T : Nat → Prop) (hTL : ∀ a, T a → a ∈ L) (hTk : ∀ a, T a → kd a = true) (lo hi : Nat → Int) (root p r : Nat) (ht : tIv (fun a => (hs a).toInt) T pa lf rt root lo hi) (hp : T p) (hr : rt p = some r) : xWm l G yJ26_rotateLeft (Cond.code yJ26_rotateLeft cJ26_rotateLeft 5 (some (.object "java/util/HashMap$TreeNode"))) { frames := 0, locals := 0, cells := 0, slots := 0 } [.ref root, .ref p] (stW L (ndX kd hs ky vl nx bf af pa lf rt pv rd)) (fun v w' => ∃ (pa' lf' rt' : Nat → Option Nat) (rd' : Nat → Int32) (root' : Nat), v = some (.ref root') ∧ rotF T pa lf rt rd root p r pa' lf' rt' rd' root' ∧ w' = stW L (ndX kd hs ky vl nx bf af pa' lf' rt' pv rd')) (fun _ _ => False) := by
  intro V hV
  refine xMet_ofT RJ26 hG rfl (by decide) (Nat.le_of_ble_eq_true rfl) fun C hC hQ hX hl hg _ hTab => ?_
  subst hl hg
  obtain ⟨tr, npr, nrp, hB9, hQ9⟩ := ht.ap hp hr
  obtain ⟨V0, hV0⟩ : ∃ V0, V0 = V := ⟨_, rfl⟩
  obtain ⟨F, hF⟩ : ∃ F, F = xF (stW L (ndX kd hs ky vl nx bf af pa lf rt pv rd)) := ⟨_, rfl⟩
  refine rn.mono (J := xSt F V0 ([] ++ stW L (ndX kd hs ky vl nx bf af pa lf rt pv rd))) (fun V9 h => by rw [h, hV0, hF]; exact hV.st) ?_
  show rn C (xSt F V0 ([] ++ stW L (ndX kd hs ky vl nx bf af pa lf rt pv rd))) 0 0 0 [(0, .ref root), (1, .ref p)] []
  refine r_aload_n hC 1 dJ26_rotateLeft_0 rfl 1 rfl ?_
  refine r_ifnull hC dJ26_rotateLeft_1 4 rfl ?_
  refine r_aload_n hC 1 dJ26_rotateLeft_4 rfl 5 rfl ?_
  refine r_getI (v := .ref r) hC kJ26 8 rfl q2317 (Or.inl rfl) (fun _ h => stW_get h (hTL p hp) (ndX_t (hTk p hp))) (congrArg (fun o9 => some (va_rf o9)) (hr)) dJ26_rotateLeft_5 8 rfl ?_
  refine r_dup hC dJ26_rotateLeft_8 rfl 9 rfl ?_
  refine r_astore_n hC 2 [(2, .ref r), (0, .ref root), (1, .ref p)] dJ26_rotateLeft_9 rfl (Nat.le_of_ble_eq_true rfl) rfl 10 rfl ?_
  refine r_ifnull hC dJ26_rotateLeft_10 13 rfl ?_
  refine r_aload_n hC 2 dJ26_rotateLeft_13 rfl 14 rfl ?_
  refine r_aload_n hC 0 dJ26_rotateLeft_14 rfl 15 rfl ?_
  rcases opt_c (lf r) with hl1 | ⟨x2, hl1⟩
  · skip
    refine r_getI (v := .null) hC kJ26 7 rfl q2316 (Or.inl rfl) (fun _ h => stW_get h (hTL r tr) (ndX_t (hTk r tr))) (congrArg (fun o9 => some (va_rf o9)) (hl1)) dJ26_rotateLeft_15 18 rfl ?_
    refine r_dup_x1 hC dJ26_rotateLeft_18 rfl rfl 19 rfl ?_
    refine r_putI (J := xSt F V0 ([] ++ stW L (ndX kd hs ky vl nx bf af pa lf (va_up rt p none) pv rd))) hC kJ26 8 rfl q2317 (Or.inl rfl) rfl (fun _ h => stW_get h (hTL p hp) (ndX_t (hTk p hp))) (Nat.le_of_ble_eq_true rfl) rfl rfl dJ26_rotateLeft_19 (fun _ h => stW_set h (hTL p hp) (ndX_rt (hTk p hp))) 22 rfl ?_
    refine r_dup hC dJ26_rotateLeft_22 rfl 23 rfl ?_
    refine r_astoreN hC 4 [(4, .null), (2, .ref r), (0, .ref root), (1, .ref p)] dJ26_rotateLeft_23 (Nat.le_of_ble_eq_true rfl) rfl 25 rfl ?_
    refine r_ifnullN hC 34 dJ26_rotateLeft_25 (by decide) ?_
    refine r_aload_n hC 1 dJ26_rotateLeft_34 rfl 35 rfl ?_
    refine r_aload_n hC 3 dJ26_rotateLeft_35 rfl 36 rfl ?_
    rcases opt_c (pa p) with hl3 | ⟨x4, hl3⟩
    · skip
      refine r_getI (v := .null) hC kJ26 6 rfl q2315 (Or.inl rfl) (fun _ h => stW_get h (hTL p hp) (ndX_t (hTk p hp))) (congrArg (fun o9 => some (va_rf o9)) (hl3)) dJ26_rotateLeft_36 39 rfl ?_
      refine r_dup_x1 hC dJ26_rotateLeft_39 rfl rfl 40 rfl ?_
      refine r_putI (J := xSt F V0 ([] ++ stW L (ndX kd hs ky vl nx bf af (va_up pa r none) lf (va_up rt p none) pv rd))) hC kJ26 6 rfl q2315 (Or.inl rfl) rfl (fun _ h => stW_get h (hTL r tr) (ndX_t (hTk r tr))) (Nat.le_of_ble_eq_true rfl) rfl rfl dJ26_rotateLeft_40 (fun _ h => stW_set h (hTL r tr) (ndX_pa (hTk r tr))) 43 rfl ?_
      refine r_dup hC dJ26_rotateLeft_43 rfl 44 rfl ?_
      refine r_astore_nN hC 3 [(3, .null), (4, .null), (2, .ref r), (0, .ref root), (1, .ref p)] dJ26_rotateLeft_44 rfl (Nat.le_of_ble_eq_true rfl) rfl 45 rfl ?_
      refine r_ifnonnullN hC dJ26_rotateLeft_45 48 rfl ?_
      refine r_aload_n hC 2 dJ26_rotateLeft_48 rfl 49 rfl ?_
      refine r_dup hC dJ26_rotateLeft_49 rfl 50 rfl ?_
      refine r_astore_n hC 0 [(0, .ref r), (3, .null), (4, .null), (2, .ref r), (1, .ref p)] dJ26_rotateLeft_50 rfl (Nat.le_of_ble_eq_true rfl) rfl 51 rfl ?_
      refine r_iconst hC 0 dJ26_rotateLeft_51 ic_0 52 rfl ?_
      refine r_putI (J := xSt F V0 ([] ++ stW L (ndX kd hs ky vl nx bf af (va_up pa r none) lf (va_up rt p none) pv (va_up rd r 0)))) hC kJ26 10 rfl q2320 (Or.inl rfl) rfl (fun _ h => stW_get h (hTL r tr) (ndX_t (hTk r tr))) (Nat.le_of_ble_eq_true rfl) rfl rfl dJ26_rotateLeft_52 (fun _ h => stW_set h (hTL r tr) (ndX_rd (hTk r tr))) 55 rfl ?_
      refine r_goto hC 79 dJ26_rotateLeft_55 (by decide) ?_
      refine r_aload_n hC 3 dJ26_rotateLeft_79 rfl 80 rfl ?_
      refine r_aload_n hC 4 dJ26_rotateLeft_80 rfl 81 rfl ?_
      refine r_putI (J := xSt F V0 ([] ++ stW L (ndX kd hs ky vl nx bf af (va_up pa r none) (va_up lf r (some p)) (va_up rt p none) pv (va_up rd r 0)))) hC kJ26 7 rfl q2316 (Or.inl rfl) rfl (fun _ h => stW_get h (hTL r tr) (ndX_t (hTk r tr))) (Nat.le_of_ble_eq_true rfl) rfl rfl dJ26_rotateLeft_81 (fun _ h => stW_set h (hTL r tr) (ndX_lf (hTk r tr))) 84 rfl ?_
      refine r_aload_n hC 4 dJ26_rotateLeft_84 rfl 85 rfl ?_
      refine r_aload_n hC 3 dJ26_rotateLeft_85 rfl 86 rfl ?_
      refine r_putI (J := xSt F V0 ([] ++ stW L (ndX kd hs ky vl nx bf af (va_up (va_up pa r none) p (some r)) (va_up lf r (some p)) (va_up rt p none) pv (va_up rd r 0)))) hC kJ26 6 rfl q2315 (Or.inl rfl) rfl (fun _ h => stW_get h (hTL p hp) (ndX_t (hTk p hp))) (Nat.le_of_ble_eq_true rfl) rfl rfl dJ26_rotateLeft_86 (fun _ h => stW_set h (hTL p hp) (ndX_pa (hTk p hp))) 89 rfl ?_
      refine r_aload_n hC 0 dJ26_rotateLeft_89 rfl 90 rfl ?_
      exact r_aret hC (v := (some r)) (Or.inl ⟨_, rfl⟩) (Nat.le_of_ble_eq_true rfl) (Nat.le_of_ble_eq_true rfl) (fun V9 h => hQ _ _ ⟨_, ⟨_, _, _, _, _, rfl, rot_on ht hp hr hl1 hl3, rfl⟩, by rw [← hV0, ← hF]; exact h⟩) dJ26_rotateLeft_90
    · skip
      obtain ⟨tq, nqp, nqr, npq, nrq, hQb, hside⟩ := hQ9 x4 hl3
      refine r_getI (v := .ref x4) hC kJ26 6 rfl q2315 (Or.inl rfl) (fun _ h => stW_get h (hTL p hp) (ndX_t (hTk p hp))) (congrArg (fun o9 => some (va_rf o9)) (hl3)) dJ26_rotateLeft_36 39 rfl ?_
      refine r_dup_x1 hC dJ26_rotateLeft_39 rfl rfl 40 rfl ?_
      refine r_putI (J := xSt F V0 ([] ++ stW L (ndX kd hs ky vl nx bf af (va_up pa r (some x4)) lf (va_up rt p none) pv rd))) hC kJ26 6 rfl q2315 (Or.inl rfl) rfl (fun _ h => stW_get h (hTL r tr) (ndX_t (hTk r tr))) (Nat.le_of_ble_eq_true rfl) rfl rfl dJ26_rotateLeft_40 (fun _ h => stW_set h (hTL r tr) (ndX_pa (hTk r tr))) 43 rfl ?_
      refine r_dup hC dJ26_rotateLeft_43 rfl 44 rfl ?_
      refine r_astore_n hC 3 [(3, .ref x4), (4, .null), (2, .ref r), (0, .ref root), (1, .ref p)] dJ26_rotateLeft_44 rfl (Nat.le_of_ble_eq_true rfl) rfl 45 rfl ?_
      refine r_ifnonnull hC 58 dJ26_rotateLeft_45 (by decide) ?_
      refine r_aload_n hC 0 dJ26_rotateLeft_58 rfl 59 rfl ?_
      rcases hside with ⟨hc, hc2⟩ | ⟨hc, hc2⟩
      · skip
        refine r_getI (v := .ref p) hC kJ26 7 rfl q2316 (Or.inl rfl) (fun _ h => stW_get h (hTL x4 tq) (ndX_t (hTk x4 tq))) (congrArg (fun o9 => some (va_rf o9)) (hc)) dJ26_rotateLeft_59 62 rfl ?_
        refine r_aload_n hC 4 dJ26_rotateLeft_62 rfl 63 rfl ?_
        refine r_acne (rx := (some p)) (ry := (some p)) hC 74 dJ26_rotateLeft_63 (by decide) 66 rfl (fun h => absurd (rfl) h) (fun _ => ?_)
        refine r_aload_n hC 0 dJ26_rotateLeft_66 rfl 67 rfl ?_
        refine r_aload_n hC 2 dJ26_rotateLeft_67 rfl 68 rfl ?_
        refine r_putI (J := xSt F V0 ([] ++ stW L (ndX kd hs ky vl nx bf af (va_up pa r (some x4)) (va_up lf x4 (some r)) (va_up rt p none) pv rd))) hC kJ26 7 rfl q2316 (Or.inl rfl) rfl (fun _ h => stW_get h (hTL x4 tq) (ndX_t (hTk x4 tq))) (Nat.le_of_ble_eq_true rfl) rfl rfl dJ26_rotateLeft_68 (fun _ h => stW_set h (hTL x4 tq) (ndX_lf (hTk x4 tq))) 71 rfl ?_
        refine r_goto hC 79 dJ26_rotateLeft_71 (by decide) ?_
        refine r_aload_n hC 2 dJ26_rotateLeft_79 rfl 80 rfl ?_
        refine r_aload_n hC 4 dJ26_rotateLeft_80 rfl 81 rfl ?_
        refine r_putI (J := xSt F V0 ([] ++ stW L (ndX kd hs ky vl nx bf af (va_up pa r (some x4)) (va_up (va_up lf x4 (some r)) r (some p)) (va_up rt p none) pv rd))) hC kJ26 7 rfl q2316 (Or.inl rfl) rfl (fun _ h => stW_get h (hTL r tr) (ndX_t (hTk r tr))) (Nat.le_of_ble_eq_true rfl) rfl rfl dJ26_rotateLeft_81 (fun _ h => stW_set h (hTL r tr) (ndX_lf (hTk r tr))) 84 rfl ?_
        refine r_aload_n hC 4 dJ26_rotateLeft_84 rfl 85 rfl ?_
        refine r_aload_n hC 2 dJ26_rotateLeft_85 rfl 86 rfl ?_
        refine r_putI (J := xSt F V0 ([] ++ stW L (ndX kd hs ky vl nx bf af (va_up (va_up pa r (some x4)) p (some r)) (va_up (va_up lf x4 (some r)) r (some p)) (va_up rt p none) pv rd))) hC kJ26 6 rfl q2315 (Or.inl rfl) rfl (fun _ h => stW_get h (hTL p hp) (ndX_t (hTk p hp))) (Nat.le_of_ble_eq_true rfl) rfl rfl dJ26_rotateLeft_86 (fun _ h => stW_set h (hTL p hp) (ndX_pa (hTk p hp))) 89 rfl ?_
        refine r_aload_n hC 3 dJ26_rotateLeft_89 rfl 90 rfl ?_
        exact r_aret hC (v := (some root)) (Or.inl ⟨_, rfl⟩) (Nat.le_of_ble_eq_true rfl) (Nat.le_of_ble_eq_true rfl) (fun V9 h => hQ _ _ ⟨_, ⟨_, _, _, _, _, rfl, rot_ol ht hp hr hl1 hl3 hc, rfl⟩, by rw [← hV0, ← hF]; exact h⟩) dJ26_rotateLeft_90
      · skip
        rcases opt_c (lf x4) with hl5 | ⟨x6, hl5⟩
        · skip
          refine r_getI (v := .null) hC kJ26 7 rfl q2316 (Or.inl rfl) (fun _ h => stW_get h (hTL x4 tq) (ndX_t (hTk x4 tq))) (congrArg (fun o9 => some (va_rf o9)) (hl5)) dJ26_rotateLeft_59 62 rfl ?_
          refine r_aload_n hC 4 dJ26_rotateLeft_62 rfl 63 rfl ?_
          refine r_acne (rx := none) (ry := (some p)) hC 74 dJ26_rotateLeft_63 (by decide) 66 rfl (fun _ => ?_) (fun h => absurd h (fun q9 => by cases q9))
          refine r_aload_n hC 0 dJ26_rotateLeft_74 rfl 75 rfl ?_
          refine r_aload_n hC 2 dJ26_rotateLeft_75 rfl 76 rfl ?_
          refine r_putI (J := xSt F V0 ([] ++ stW L (ndX kd hs ky vl nx bf af (va_up pa r (some x4)) lf (va_up (va_up rt p none) x4 (some r)) pv rd))) hC kJ26 8 rfl q2317 (Or.inl rfl) rfl (fun _ h => stW_get h (hTL x4 tq) (ndX_t (hTk x4 tq))) (Nat.le_of_ble_eq_true rfl) rfl rfl dJ26_rotateLeft_76 (fun _ h => stW_set h (hTL x4 tq) (ndX_rt (hTk x4 tq))) 79 rfl ?_
          refine r_aload_n hC 2 dJ26_rotateLeft_79 rfl 80 rfl ?_
          refine r_aload_n hC 4 dJ26_rotateLeft_80 rfl 81 rfl ?_
          refine r_putI (J := xSt F V0 ([] ++ stW L (ndX kd hs ky vl nx bf af (va_up pa r (some x4)) (va_up lf r (some p)) (va_up (va_up rt p none) x4 (some r)) pv rd))) hC kJ26 7 rfl q2316 (Or.inl rfl) rfl (fun _ h => stW_get h (hTL r tr) (ndX_t (hTk r tr))) (Nat.le_of_ble_eq_true rfl) rfl rfl dJ26_rotateLeft_81 (fun _ h => stW_set h (hTL r tr) (ndX_lf (hTk r tr))) 84 rfl ?_
          refine r_aload_n hC 4 dJ26_rotateLeft_84 rfl 85 rfl ?_
          refine r_aload_n hC 2 dJ26_rotateLeft_85 rfl 86 rfl ?_
          refine r_putI (J := xSt F V0 ([] ++ stW L (ndX kd hs ky vl nx bf af (va_up (va_up pa r (some x4)) p (some r)) (va_up lf r (some p)) (va_up (va_up rt p none) x4 (some r)) pv rd))) hC kJ26 6 rfl q2315 (Or.inl rfl) rfl (fun _ h => stW_get h (hTL p hp) (ndX_t (hTk p hp))) (Nat.le_of_ble_eq_true rfl) rfl rfl dJ26_rotateLeft_86 (fun _ h => stW_set h (hTL p hp) (ndX_pa (hTk p hp))) 89 rfl ?_
          refine r_aload_n hC 3 dJ26_rotateLeft_89 rfl 90 rfl ?_
          exact r_aret hC (v := (some root)) (Or.inl ⟨_, rfl⟩) (Nat.le_of_ble_eq_true rfl) (Nat.le_of_ble_eq_true rfl) (fun V9 h => hQ _ _ ⟨_, ⟨_, _, _, _, _, rfl, rot_or ht hp hr hl1 hl3 hc, rfl⟩, by rw [← hV0, ← hF]; exact h⟩) dJ26_rotateLeft_90
        · skip
          have nc9 : x6 ≠ p := fun e => hc2 (by rw [← e]; exact hl5)
          refine r_getI (v := .ref x6) hC kJ26 7 rfl q2316 (Or.inl rfl) (fun _ h => stW_get h (hTL x4 tq) (ndX_t (hTk x4 tq))) (congrArg (fun o9 => some (va_rf o9)) (hl5)) dJ26_rotateLeft_59 62 rfl ?_
          refine r_aload_n hC 4 dJ26_rotateLeft_62 rfl 63 rfl ?_
          refine r_acne (rx := (some x6)) (ry := (some p)) hC 74 dJ26_rotateLeft_63 (by decide) 66 rfl (fun _ => ?_) (fun h => absurd h (fun q9 => nc9 (Option.some.inj q9)))
          refine r_aload_n hC 0 dJ26_rotateLeft_74 rfl 75 rfl ?_
          refine r_aload_n hC 2 dJ26_rotateLeft_75 rfl 76 rfl ?_
          refine r_putI (J := xSt F V0 ([] ++ stW L (ndX kd hs ky vl nx bf af (va_up pa r (some x4)) lf (va_up (va_up rt p none) x4 (some r)) pv rd))) hC kJ26 8 rfl q2317 (Or.inl rfl) rfl (fun _ h => stW_get h (hTL x4 tq) (ndX_t (hTk x4 tq))) (Nat.le_of_ble_eq_true rfl) rfl rfl dJ26_rotateLeft_76 (fun _ h => stW_set h (hTL x4 tq) (ndX_rt (hTk x4 tq))) 79 rfl ?_
          refine r_aload_n hC 2 dJ26_rotateLeft_79 rfl 80 rfl ?_
          refine r_aload_n hC 4 dJ26_rotateLeft_80 rfl 81 rfl ?_
          refine r_putI (J := xSt F V0 ([] ++ stW L (ndX kd hs ky vl nx bf af (va_up pa r (some x4)) (va_up lf r (some p)) (va_up (va_up rt p none) x4 (some r)) pv rd))) hC kJ26 7 rfl q2316 (Or.inl rfl) rfl (fun _ h => stW_get h (hTL r tr) (ndX_t (hTk r tr))) (Nat.le_of_ble_eq_true rfl) rfl rfl dJ26_rotateLeft_81 (fun _ h => stW_set h (hTL r tr) (ndX_lf (hTk r tr))) 84 rfl ?_
          refine r_aload_n hC 4 dJ26_rotateLeft_84 rfl 85 rfl ?_
          refine r_aload_n hC 2 dJ26_rotateLeft_85 rfl 86 rfl ?_
          refine r_putI (J := xSt F V0 ([] ++ stW L (ndX kd hs ky vl nx bf af (va_up (va_up pa r (some x4)) p (some r)) (va_up lf r (some p)) (va_up (va_up rt p none) x4 (some r)) pv rd))) hC kJ26 6 rfl q2315 (Or.inl rfl) rfl (fun _ h => stW_get h (hTL p hp) (ndX_t (hTk p hp))) (Nat.le_of_ble_eq_true rfl) rfl rfl dJ26_rotateLeft_86 (fun _ h => stW_set h (hTL p hp) (ndX_pa (hTk p hp))) 89 rfl ?_
          refine r_aload_n hC 3 dJ26_rotateLeft_89 rfl 90 rfl ?_
          exact r_aret hC (v := (some root)) (Or.inl ⟨_, rfl⟩) (Nat.le_of_ble_eq_true rfl) (Nat.le_of_ble_eq_true rfl) (fun V9 h => hQ _ _ ⟨_, ⟨_, _, _, _, _, rfl, rot_or ht hp hr hl1 hl3 hc, rfl⟩, by rw [← hV0, ← hF]; exact h⟩) dJ26_rotateLeft_90
  · skip
    obtain ⟨tb, nbp, nbr, npb, nrb, hpb⟩ := hB9 x2 hl1
    refine r_getI (v := .ref x2) hC kJ26 7 rfl q2316 (Or.inl rfl) (fun _ h => stW_get h (hTL r tr) (ndX_t (hTk r tr))) (congrArg (fun o9 => some (va_rf o9)) (hl1)) dJ26_rotateLeft_15 18 rfl ?_
    refine r_dup_x1 hC dJ26_rotateLeft_18 rfl rfl 19 rfl ?_
    refine r_putI (J := xSt F V0 ([] ++ stW L (ndX kd hs ky vl nx bf af pa lf (va_up rt p (some x2)) pv rd))) hC kJ26 8 rfl q2317 (Or.inl rfl) rfl (fun _ h => stW_get h (hTL p hp) (ndX_t (hTk p hp))) (Nat.le_of_ble_eq_true rfl) rfl rfl dJ26_rotateLeft_19 (fun _ h => stW_set h (hTL p hp) (ndX_rt (hTk p hp))) 22 rfl ?_
    refine r_dup hC dJ26_rotateLeft_22 rfl 23 rfl ?_
    refine r_astore hC 4 [(4, .ref x2), (2, .ref r), (0, .ref root), (1, .ref p)] dJ26_rotateLeft_23 (Nat.le_of_ble_eq_true rfl) rfl 25 rfl ?_
    refine r_ifnull hC dJ26_rotateLeft_25 28 rfl ?_
    refine r_aload hC 0 dJ26_rotateLeft_28 rfl 30 rfl ?_
    refine r_aload_n hC 3 dJ26_rotateLeft_30 rfl 31 rfl ?_
    refine r_putI (J := xSt F V0 ([] ++ stW L (ndX kd hs ky vl nx bf af (va_up pa x2 (some p)) lf (va_up rt p (some x2)) pv rd))) hC kJ26 6 rfl q2315 (Or.inl rfl) rfl (fun _ h => stW_get h (hTL x2 tb) (ndX_t (hTk x2 tb))) (Nat.le_of_ble_eq_true rfl) rfl rfl dJ26_rotateLeft_31 (fun _ h => stW_set h (hTL x2 tb) (ndX_pa (hTk x2 tb))) 34 rfl ?_
    refine r_aload_n hC 1 dJ26_rotateLeft_34 rfl 35 rfl ?_
    refine r_aload_n hC 3 dJ26_rotateLeft_35 rfl 36 rfl ?_
    rcases opt_c (pa p) with hl7 | ⟨x8, hl7⟩
    · skip
      refine r_getI (v := .null) hC kJ26 6 rfl q2315 (Or.inl rfl) (fun _ h => stW_get h (hTL p hp) (ndX_t (hTk p hp))) (congrArg (fun o9 => some (va_rf o9)) ((up_ne (Ne.symm nbp)).trans hl7)) dJ26_rotateLeft_36 39 rfl ?_
      refine r_dup_x1 hC dJ26_rotateLeft_39 rfl rfl 40 rfl ?_
      refine r_putI (J := xSt F V0 ([] ++ stW L (ndX kd hs ky vl nx bf af (va_up (va_up pa x2 (some p)) r none) lf (va_up rt p (some x2)) pv rd))) hC kJ26 6 rfl q2315 (Or.inl rfl) rfl (fun _ h => stW_get h (hTL r tr) (ndX_t (hTk r tr))) (Nat.le_of_ble_eq_true rfl) rfl rfl dJ26_rotateLeft_40 (fun _ h => stW_set h (hTL r tr) (ndX_pa (hTk r tr))) 43 rfl ?_
      refine r_dup hC dJ26_rotateLeft_43 rfl 44 rfl ?_
      refine r_astore_nN hC 3 [(3, .null), (4, .ref x2), (2, .ref r), (0, .ref root), (1, .ref p)] dJ26_rotateLeft_44 rfl (Nat.le_of_ble_eq_true rfl) rfl 45 rfl ?_
      refine r_ifnonnullN hC dJ26_rotateLeft_45 48 rfl ?_
      refine r_aload_n hC 2 dJ26_rotateLeft_48 rfl 49 rfl ?_
      refine r_dup hC dJ26_rotateLeft_49 rfl 50 rfl ?_
      refine r_astore_n hC 0 [(0, .ref r), (3, .null), (4, .ref x2), (2, .ref r), (1, .ref p)] dJ26_rotateLeft_50 rfl (Nat.le_of_ble_eq_true rfl) rfl 51 rfl ?_
      refine r_iconst hC 0 dJ26_rotateLeft_51 ic_0 52 rfl ?_
      refine r_putI (J := xSt F V0 ([] ++ stW L (ndX kd hs ky vl nx bf af (va_up (va_up pa x2 (some p)) r none) lf (va_up rt p (some x2)) pv (va_up rd r 0)))) hC kJ26 10 rfl q2320 (Or.inl rfl) rfl (fun _ h => stW_get h (hTL r tr) (ndX_t (hTk r tr))) (Nat.le_of_ble_eq_true rfl) rfl rfl dJ26_rotateLeft_52 (fun _ h => stW_set h (hTL r tr) (ndX_rd (hTk r tr))) 55 rfl ?_
      refine r_goto hC 79 dJ26_rotateLeft_55 (by decide) ?_
      refine r_aload_n hC 3 dJ26_rotateLeft_79 rfl 80 rfl ?_
      refine r_aload_n hC 4 dJ26_rotateLeft_80 rfl 81 rfl ?_
      refine r_putI (J := xSt F V0 ([] ++ stW L (ndX kd hs ky vl nx bf af (va_up (va_up pa x2 (some p)) r none) (va_up lf r (some p)) (va_up rt p (some x2)) pv (va_up rd r 0)))) hC kJ26 7 rfl q2316 (Or.inl rfl) rfl (fun _ h => stW_get h (hTL r tr) (ndX_t (hTk r tr))) (Nat.le_of_ble_eq_true rfl) rfl rfl dJ26_rotateLeft_81 (fun _ h => stW_set h (hTL r tr) (ndX_lf (hTk r tr))) 84 rfl ?_
      refine r_aload_n hC 4 dJ26_rotateLeft_84 rfl 85 rfl ?_
      refine r_aload_n hC 3 dJ26_rotateLeft_85 rfl 86 rfl ?_
      refine r_putI (J := xSt F V0 ([] ++ stW L (ndX kd hs ky vl nx bf af (va_up (va_up (va_up pa x2 (some p)) r none) p (some r)) (va_up lf r (some p)) (va_up rt p (some x2)) pv (va_up rd r 0)))) hC kJ26 6 rfl q2315 (Or.inl rfl) rfl (fun _ h => stW_get h (hTL p hp) (ndX_t (hTk p hp))) (Nat.le_of_ble_eq_true rfl) rfl rfl dJ26_rotateLeft_86 (fun _ h => stW_set h (hTL p hp) (ndX_pa (hTk p hp))) 89 rfl ?_
      refine r_aload_n hC 0 dJ26_rotateLeft_89 rfl 90 rfl ?_
      exact r_aret hC (v := (some r)) (Or.inl ⟨_, rfl⟩) (Nat.le_of_ble_eq_true rfl) (Nat.le_of_ble_eq_true rfl) (fun V9 h => hQ _ _ ⟨_, ⟨_, _, _, _, _, rfl, rot_bn ht hp hr hl1 hl7, rfl⟩, by rw [← hV0, ← hF]; exact h⟩) dJ26_rotateLeft_90
    · skip
      obtain ⟨tq, nqp, nqr, npq, nrq, hQb, hside⟩ := hQ9 x8 hl7
      refine r_getI (v := .ref x8) hC kJ26 6 rfl q2315 (Or.inl rfl) (fun _ h => stW_get h (hTL p hp) (ndX_t (hTk p hp))) (congrArg (fun o9 => some (va_rf o9)) ((up_ne (Ne.symm nbp)).trans hl7)) dJ26_rotateLeft_36 39 rfl ?_
      refine r_dup_x1 hC dJ26_rotateLeft_39 rfl rfl 40 rfl ?_
      refine r_putI (J := xSt F V0 ([] ++ stW L (ndX kd hs ky vl nx bf af (va_up (va_up pa x2 (some p)) r (some x8)) lf (va_up rt p (some x2)) pv rd))) hC kJ26 6 rfl q2315 (Or.inl rfl) rfl (fun _ h => stW_get h (hTL r tr) (ndX_t (hTk r tr))) (Nat.le_of_ble_eq_true rfl) rfl rfl dJ26_rotateLeft_40 (fun _ h => stW_set h (hTL r tr) (ndX_pa (hTk r tr))) 43 rfl ?_
      refine r_dup hC dJ26_rotateLeft_43 rfl 44 rfl ?_
      refine r_astore_n hC 3 [(3, .ref x8), (4, .ref x2), (2, .ref r), (0, .ref root), (1, .ref p)] dJ26_rotateLeft_44 rfl (Nat.le_of_ble_eq_true rfl) rfl 45 rfl ?_
      refine r_ifnonnull hC 58 dJ26_rotateLeft_45 (by decide) ?_
      refine r_aload_n hC 0 dJ26_rotateLeft_58 rfl 59 rfl ?_
      rcases hside with ⟨hc, hc2⟩ | ⟨hc, hc2⟩
      · skip
        refine r_getI (v := .ref p) hC kJ26 7 rfl q2316 (Or.inl rfl) (fun _ h => stW_get h (hTL x8 tq) (ndX_t (hTk x8 tq))) (congrArg (fun o9 => some (va_rf o9)) (hc)) dJ26_rotateLeft_59 62 rfl ?_
        refine r_aload_n hC 4 dJ26_rotateLeft_62 rfl 63 rfl ?_
        refine r_acne (rx := (some p)) (ry := (some p)) hC 74 dJ26_rotateLeft_63 (by decide) 66 rfl (fun h => absurd (rfl) h) (fun _ => ?_)
        refine r_aload_n hC 0 dJ26_rotateLeft_66 rfl 67 rfl ?_
        refine r_aload_n hC 2 dJ26_rotateLeft_67 rfl 68 rfl ?_
        refine r_putI (J := xSt F V0 ([] ++ stW L (ndX kd hs ky vl nx bf af (va_up (va_up pa x2 (some p)) r (some x8)) (va_up lf x8 (some r)) (va_up rt p (some x2)) pv rd))) hC kJ26 7 rfl q2316 (Or.inl rfl) rfl (fun _ h => stW_get h (hTL x8 tq) (ndX_t (hTk x8 tq))) (Nat.le_of_ble_eq_true rfl) rfl rfl dJ26_rotateLeft_68 (fun _ h => stW_set h (hTL x8 tq) (ndX_lf (hTk x8 tq))) 71 rfl ?_
        refine r_goto hC 79 dJ26_rotateLeft_71 (by decide) ?_
        refine r_aload_n hC 2 dJ26_rotateLeft_79 rfl 80 rfl ?_
        refine r_aload_n hC 4 dJ26_rotateLeft_80 rfl 81 rfl ?_
        refine r_putI (J := xSt F V0 ([] ++ stW L (ndX kd hs ky vl nx bf af (va_up (va_up pa x2 (some p)) r (some x8)) (va_up (va_up lf x8 (some r)) r (some p)) (va_up rt p (some x2)) pv rd))) hC kJ26 7 rfl q2316 (Or.inl rfl) rfl (fun _ h => stW_get h (hTL r tr) (ndX_t (hTk r tr))) (Nat.le_of_ble_eq_true rfl) rfl rfl dJ26_rotateLeft_81 (fun _ h => stW_set h (hTL r tr) (ndX_lf (hTk r tr))) 84 rfl ?_
        refine r_aload_n hC 4 dJ26_rotateLeft_84 rfl 85 rfl ?_
        refine r_aload_n hC 2 dJ26_rotateLeft_85 rfl 86 rfl ?_
        refine r_putI (J := xSt F V0 ([] ++ stW L (ndX kd hs ky vl nx bf af (va_up (va_up (va_up pa x2 (some p)) r (some x8)) p (some r)) (va_up (va_up lf x8 (some r)) r (some p)) (va_up rt p (some x2)) pv rd))) hC kJ26 6 rfl q2315 (Or.inl rfl) rfl (fun _ h => stW_get h (hTL p hp) (ndX_t (hTk p hp))) (Nat.le_of_ble_eq_true rfl) rfl rfl dJ26_rotateLeft_86 (fun _ h => stW_set h (hTL p hp) (ndX_pa (hTk p hp))) 89 rfl ?_
        refine r_aload_n hC 3 dJ26_rotateLeft_89 rfl 90 rfl ?_
        exact r_aret hC (v := (some root)) (Or.inl ⟨_, rfl⟩) (Nat.le_of_ble_eq_true rfl) (Nat.le_of_ble_eq_true rfl) (fun V9 h => hQ _ _ ⟨_, ⟨_, _, _, _, _, rfl, rot_bl ht hp hr hl1 hl7 hc, rfl⟩, by rw [← hV0, ← hF]; exact h⟩) dJ26_rotateLeft_90
      · skip
        rcases opt_c (lf x8) with hl9 | ⟨x10, hl9⟩
        · skip
          refine r_getI (v := .null) hC kJ26 7 rfl q2316 (Or.inl rfl) (fun _ h => stW_get h (hTL x8 tq) (ndX_t (hTk x8 tq))) (congrArg (fun o9 => some (va_rf o9)) (hl9)) dJ26_rotateLeft_59 62 rfl ?_
          refine r_aload_n hC 4 dJ26_rotateLeft_62 rfl 63 rfl ?_
          refine r_acne (rx := none) (ry := (some p)) hC 74 dJ26_rotateLeft_63 (by decide) 66 rfl (fun _ => ?_) (fun h => absurd h (fun q9 => by cases q9))
          refine r_aload_n hC 0 dJ26_rotateLeft_74 rfl 75 rfl ?_
          refine r_aload_n hC 2 dJ26_rotateLeft_75 rfl 76 rfl ?_
          refine r_putI (J := xSt F V0 ([] ++ stW L (ndX kd hs ky vl nx bf af (va_up (va_up pa x2 (some p)) r (some x8)) lf (va_up (va_up rt p (some x2)) x8 (some r)) pv rd))) hC kJ26 8 rfl q2317 (Or.inl rfl) rfl (fun _ h => stW_get h (hTL x8 tq) (ndX_t (hTk x8 tq))) (Nat.le_of_ble_eq_true rfl) rfl rfl dJ26_rotateLeft_76 (fun _ h => stW_set h (hTL x8 tq) (ndX_rt (hTk x8 tq))) 79 rfl ?_
          refine r_aload_n hC 2 dJ26_rotateLeft_79 rfl 80 rfl ?_
          refine r_aload_n hC 4 dJ26_rotateLeft_80 rfl 81 rfl ?_
          refine r_putI (J := xSt F V0 ([] ++ stW L (ndX kd hs ky vl nx bf af (va_up (va_up pa x2 (some p)) r (some x8)) (va_up lf r (some p)) (va_up (va_up rt p (some x2)) x8 (some r)) pv rd))) hC kJ26 7 rfl q2316 (Or.inl rfl) rfl (fun _ h => stW_get h (hTL r tr) (ndX_t (hTk r tr))) (Nat.le_of_ble_eq_true rfl) rfl rfl dJ26_rotateLeft_81 (fun _ h => stW_set h (hTL r tr) (ndX_lf (hTk r tr))) 84 rfl ?_
          refine r_aload_n hC 4 dJ26_rotateLeft_84 rfl 85 rfl ?_
          refine r_aload_n hC 2 dJ26_rotateLeft_85 rfl 86 rfl ?_
          refine r_putI (J := xSt F V0 ([] ++ stW L (ndX kd hs ky vl nx bf af (va_up (va_up (va_up pa x2 (some p)) r (some x8)) p (some r)) (va_up lf r (some p)) (va_up (va_up rt p (some x2)) x8 (some r)) pv rd))) hC kJ26 6 rfl q2315 (Or.inl rfl) rfl (fun _ h => stW_get h (hTL p hp) (ndX_t (hTk p hp))) (Nat.le_of_ble_eq_true rfl) rfl rfl dJ26_rotateLeft_86 (fun _ h => stW_set h (hTL p hp) (ndX_pa (hTk p hp))) 89 rfl ?_
          refine r_aload_n hC 3 dJ26_rotateLeft_89 rfl 90 rfl ?_
          exact r_aret hC (v := (some root)) (Or.inl ⟨_, rfl⟩) (Nat.le_of_ble_eq_true rfl) (Nat.le_of_ble_eq_true rfl) (fun V9 h => hQ _ _ ⟨_, ⟨_, _, _, _, _, rfl, rot_br ht hp hr hl1 hl7 hc, rfl⟩, by rw [← hV0, ← hF]; exact h⟩) dJ26_rotateLeft_90
        · skip
          have nc9 : x10 ≠ p := fun e => hc2 (by rw [← e]; exact hl9)
          refine r_getI (v := .ref x10) hC kJ26 7 rfl q2316 (Or.inl rfl) (fun _ h => stW_get h (hTL x8 tq) (ndX_t (hTk x8 tq))) (congrArg (fun o9 => some (va_rf o9)) (hl9)) dJ26_rotateLeft_59 62 rfl ?_
          refine r_aload_n hC 4 dJ26_rotateLeft_62 rfl 63 rfl ?_
          refine r_acne (rx := (some x10)) (ry := (some p)) hC 74 dJ26_rotateLeft_63 (by decide) 66 rfl (fun _ => ?_) (fun h => absurd h (fun q9 => nc9 (Option.some.inj q9)))
          refine r_aload_n hC 0 dJ26_rotateLeft_74 rfl 75 rfl ?_
          refine r_aload_n hC 2 dJ26_rotateLeft_75 rfl 76 rfl ?_
          refine r_putI (J := xSt F V0 ([] ++ stW L (ndX kd hs ky vl nx bf af (va_up (va_up pa x2 (some p)) r (some x8)) lf (va_up (va_up rt p (some x2)) x8 (some r)) pv rd))) hC kJ26 8 rfl q2317 (Or.inl rfl) rfl (fun _ h => stW_get h (hTL x8 tq) (ndX_t (hTk x8 tq))) (Nat.le_of_ble_eq_true rfl) rfl rfl dJ26_rotateLeft_76 (fun _ h => stW_set h (hTL x8 tq) (ndX_rt (hTk x8 tq))) 79 rfl ?_
          refine r_aload_n hC 2 dJ26_rotateLeft_79 rfl 80 rfl ?_
          refine r_aload_n hC 4 dJ26_rotateLeft_80 rfl 81 rfl ?_
          refine r_putI (J := xSt F V0 ([] ++ stW L (ndX kd hs ky vl nx bf af (va_up (va_up pa x2 (some p)) r (some x8)) (va_up lf r (some p)) (va_up (va_up rt p (some x2)) x8 (some r)) pv rd))) hC kJ26 7 rfl q2316 (Or.inl rfl) rfl (fun _ h => stW_get h (hTL r tr) (ndX_t (hTk r tr))) (Nat.le_of_ble_eq_true rfl) rfl rfl dJ26_rotateLeft_81 (fun _ h => stW_set h (hTL r tr) (ndX_lf (hTk r tr))) 84 rfl ?_
          refine r_aload_n hC 4 dJ26_rotateLeft_84 rfl 85 rfl ?_
          refine r_aload_n hC 2 dJ26_rotateLeft_85 rfl 86 rfl ?_
          refine r_putI (J := xSt F V0 ([] ++ stW L (ndX kd hs ky vl nx bf af (va_up (va_up (va_up pa x2 (some p)) r (some x8)) p (some r)) (va_up lf r (some p)) (va_up (va_up rt p (some x2)) x8 (some r)) pv rd))) hC kJ26 6 rfl q2315 (Or.inl rfl) rfl (fun _ h => stW_get h (hTL p hp) (ndX_t (hTk p hp))) (Nat.le_of_ble_eq_true rfl) rfl rfl dJ26_rotateLeft_86 (fun _ h => stW_set h (hTL p hp) (ndX_pa (hTk p hp))) 89 rfl ?_
          refine r_aload_n hC 3 dJ26_rotateLeft_89 rfl 90 rfl ?_
          exact r_aret hC (v := (some root)) (Or.inl ⟨_, rfl⟩) (Nat.le_of_ble_eq_true rfl) (Nat.le_of_ble_eq_true rfl) (fun V9 h => hQ _ _ ⟨_, ⟨_, _, _, _, _, rfl, rot_br ht hp hr hl1 hl7 hc, rfl⟩, by rw [← hV0, ← hF]; exact h⟩) dJ26_rotateLeft_90
set_option maxHeartbeats 4000000 in
set_option maxRecDepth 100000 in
theorem metJ26_rotateRight (l : Launch) (G : xG) (hG : xGood G) (L : List Nat) (kd : Nat → Bool) (hs : Nat → Int32) (ky vl : Nat → Nat) (nx bf af pa lf rt pv : Nat → Option Nat) (rd : Nat → Int32) (T : Nat → Prop) (hTL : ∀ a, T a → a ∈ L) (hTk : ∀ a, T a → kd a = true) (lo hi : Nat → Int) (root p r : Nat) (ht : tIv (fun a => (hs a).toInt) T pa lf rt root lo hi) (hp : T p) (hr : lf p = some r) : xWm l G yJ26_rotateRight (Cond.code yJ26_rotateRight cJ26_rotateRight 5 (some (.object "java/util/HashMap$TreeNode"))) { frames := 0, locals := 0, cells := 0, slots := 0 } [.ref root, .ref p] (stW L (ndX kd hs ky vl nx bf af pa lf rt pv rd)) (fun v w' => ∃ (pa' lf' rt' : Nat → Option Nat) (rd' : Nat → Int32) (root' : Nat), v = some (.ref root') ∧ rotF T pa rt lf rd root p r pa' rt' lf' rd' root' ∧ w' = stW L (ndX kd hs ky vl nx bf af pa' lf' rt' pv rd')) (fun _ _ => False) := by
  intro V hV
  refine xMet_ofT RJ26 hG rfl (by decide) (Nat.le_of_ble_eq_true rfl) fun C hC hQ hX hl hg _ hTab => ?_
  subst hl hg
  obtain ⟨tr, npr, nrp, hB9, hQ9⟩ := ht.neg.ap hp hr
  obtain ⟨V0, hV0⟩ : ∃ V0, V0 = V := ⟨_, rfl⟩
  obtain ⟨F, hF⟩ : ∃ F, F = xF (stW L (ndX kd hs ky vl nx bf af pa lf rt pv rd)) := ⟨_, rfl⟩
  refine rn.mono (J := xSt F V0 ([] ++ stW L (ndX kd hs ky vl nx bf af pa lf rt pv rd))) (fun V9 h => by rw [h, hV0, hF]; exact hV.st) ?_
  show rn C (xSt F V0 ([] ++ stW L (ndX kd hs ky vl nx bf af pa lf rt pv rd))) 0 0 0 [(0, .ref root), (1, .ref p)] []
  refine r_aload_n hC 1 dJ26_rotateRight_0 rfl 1 rfl ?_
  refine r_ifnull hC dJ26_rotateRight_1 4 rfl ?_
  refine r_aload_n hC 1 dJ26_rotateRight_4 rfl 5 rfl ?_
  refine r_getI (v := .ref r) hC kJ26 7 rfl q2316 (Or.inl rfl) (fun _ h => stW_get h (hTL p hp) (ndX_t (hTk p hp))) (congrArg (fun o9 => some (va_rf o9)) (hr)) dJ26_rotateRight_5 8 rfl ?_
  refine r_dup hC dJ26_rotateRight_8 rfl 9 rfl ?_
  refine r_astore_n hC 2 [(2, .ref r), (0, .ref root), (1, .ref p)] dJ26_rotateRight_9 rfl (Nat.le_of_ble_eq_true rfl) rfl 10 rfl ?_
  refine r_ifnull hC dJ26_rotateRight_10 13 rfl ?_
  refine r_aload_n hC 2 dJ26_rotateRight_13 rfl 14 rfl ?_
  refine r_aload_n hC 0 dJ26_rotateRight_14 rfl 15 rfl ?_
  rcases opt_c (rt r) with hl1 | ⟨x2, hl1⟩
  · skip
    refine r_getI (v := .null) hC kJ26 8 rfl q2317 (Or.inl rfl) (fun _ h => stW_get h (hTL r tr) (ndX_t (hTk r tr))) (congrArg (fun o9 => some (va_rf o9)) (hl1)) dJ26_rotateRight_15 18 rfl ?_
    refine r_dup_x1 hC dJ26_rotateRight_18 rfl rfl 19 rfl ?_
    refine r_putI (J := xSt F V0 ([] ++ stW L (ndX kd hs ky vl nx bf af pa (va_up lf p none) rt pv rd))) hC kJ26 7 rfl q2316 (Or.inl rfl) rfl (fun _ h => stW_get h (hTL p hp) (ndX_t (hTk p hp))) (Nat.le_of_ble_eq_true rfl) rfl rfl dJ26_rotateRight_19 (fun _ h => stW_set h (hTL p hp) (ndX_lf (hTk p hp))) 22 rfl ?_
    refine r_dup hC dJ26_rotateRight_22 rfl 23 rfl ?_
    refine r_astoreN hC 4 [(4, .null), (2, .ref r), (0, .ref root), (1, .ref p)] dJ26_rotateRight_23 (Nat.le_of_ble_eq_true rfl) rfl 25 rfl ?_
    refine r_ifnullN hC 34 dJ26_rotateRight_25 (by decide) ?_
    refine r_aload_n hC 1 dJ26_rotateRight_34 rfl 35 rfl ?_
    refine r_aload_n hC 3 dJ26_rotateRight_35 rfl 36 rfl ?_
    rcases opt_c (pa p) with hl3 | ⟨x4, hl3⟩
    · skip
      refine r_getI (v := .null) hC kJ26 6 rfl q2315 (Or.inl rfl) (fun _ h => stW_get h (hTL p hp) (ndX_t (hTk p hp))) (congrArg (fun o9 => some (va_rf o9)) (hl3)) dJ26_rotateRight_36 39 rfl ?_
      refine r_dup_x1 hC dJ26_rotateRight_39 rfl rfl 40 rfl ?_
      refine r_putI (J := xSt F V0 ([] ++ stW L (ndX kd hs ky vl nx bf af (va_up pa r none) (va_up lf p none) rt pv rd))) hC kJ26 6 rfl q2315 (Or.inl rfl) rfl (fun _ h => stW_get h (hTL r tr) (ndX_t (hTk r tr))) (Nat.le_of_ble_eq_true rfl) rfl rfl dJ26_rotateRight_40 (fun _ h => stW_set h (hTL r tr) (ndX_pa (hTk r tr))) 43 rfl ?_
      refine r_dup hC dJ26_rotateRight_43 rfl 44 rfl ?_
      refine r_astore_nN hC 3 [(3, .null), (4, .null), (2, .ref r), (0, .ref root), (1, .ref p)] dJ26_rotateRight_44 rfl (Nat.le_of_ble_eq_true rfl) rfl 45 rfl ?_
      refine r_ifnonnullN hC dJ26_rotateRight_45 48 rfl ?_
      refine r_aload_n hC 2 dJ26_rotateRight_48 rfl 49 rfl ?_
      refine r_dup hC dJ26_rotateRight_49 rfl 50 rfl ?_
      refine r_astore_n hC 0 [(0, .ref r), (3, .null), (4, .null), (2, .ref r), (1, .ref p)] dJ26_rotateRight_50 rfl (Nat.le_of_ble_eq_true rfl) rfl 51 rfl ?_
      refine r_iconst hC 0 dJ26_rotateRight_51 ic_0 52 rfl ?_
      refine r_putI (J := xSt F V0 ([] ++ stW L (ndX kd hs ky vl nx bf af (va_up pa r none) (va_up lf p none) rt pv (va_up rd r 0)))) hC kJ26 10 rfl q2320 (Or.inl rfl) rfl (fun _ h => stW_get h (hTL r tr) (ndX_t (hTk r tr))) (Nat.le_of_ble_eq_true rfl) rfl rfl dJ26_rotateRight_52 (fun _ h => stW_set h (hTL r tr) (ndX_rd (hTk r tr))) 55 rfl ?_
      refine r_goto hC 79 dJ26_rotateRight_55 (by decide) ?_
      refine r_aload_n hC 3 dJ26_rotateRight_79 rfl 80 rfl ?_
      refine r_aload_n hC 4 dJ26_rotateRight_80 rfl 81 rfl ?_
      refine r_putI (J := xSt F V0 ([] ++ stW L (ndX kd hs ky vl nx bf af (va_up pa r none) (va_up lf p none) (va_up rt r (some p)) pv (va_up rd r 0)))) hC kJ26 8 rfl q2317 (Or.inl rfl) rfl (fun _ h => stW_get h (hTL r tr) (ndX_t (hTk r tr))) (Nat.le_of_ble_eq_true rfl) rfl rfl dJ26_rotateRight_81 (fun _ h => stW_set h (hTL r tr) (ndX_rt (hTk r tr))) 84 rfl ?_
      refine r_aload_n hC 4 dJ26_rotateRight_84 rfl 85 rfl ?_
      refine r_aload_n hC 3 dJ26_rotateRight_85 rfl 86 rfl ?_
      refine r_putI (J := xSt F V0 ([] ++ stW L (ndX kd hs ky vl nx bf af (va_up (va_up pa r none) p (some r)) (va_up lf p none) (va_up rt r (some p)) pv (va_up rd r 0)))) hC kJ26 6 rfl q2315 (Or.inl rfl) rfl (fun _ h => stW_get h (hTL p hp) (ndX_t (hTk p hp))) (Nat.le_of_ble_eq_true rfl) rfl rfl dJ26_rotateRight_86 (fun _ h => stW_set h (hTL p hp) (ndX_pa (hTk p hp))) 89 rfl ?_
      refine r_aload_n hC 0 dJ26_rotateRight_89 rfl 90 rfl ?_
      exact r_aret hC (v := (some r)) (Or.inl ⟨_, rfl⟩) (Nat.le_of_ble_eq_true rfl) (Nat.le_of_ble_eq_true rfl) (fun V9 h => hQ _ _ ⟨_, ⟨_, _, _, _, _, rfl, rot_on ht.neg hp hr hl1 hl3, rfl⟩, by rw [← hV0, ← hF]; exact h⟩) dJ26_rotateRight_90
    · skip
      obtain ⟨tq, nqp, nqr, npq, nrq, hQb, hside⟩ := hQ9 x4 hl3
      refine r_getI (v := .ref x4) hC kJ26 6 rfl q2315 (Or.inl rfl) (fun _ h => stW_get h (hTL p hp) (ndX_t (hTk p hp))) (congrArg (fun o9 => some (va_rf o9)) (hl3)) dJ26_rotateRight_36 39 rfl ?_
      refine r_dup_x1 hC dJ26_rotateRight_39 rfl rfl 40 rfl ?_
      refine r_putI (J := xSt F V0 ([] ++ stW L (ndX kd hs ky vl nx bf af (va_up pa r (some x4)) (va_up lf p none) rt pv rd))) hC kJ26 6 rfl q2315 (Or.inl rfl) rfl (fun _ h => stW_get h (hTL r tr) (ndX_t (hTk r tr))) (Nat.le_of_ble_eq_true rfl) rfl rfl dJ26_rotateRight_40 (fun _ h => stW_set h (hTL r tr) (ndX_pa (hTk r tr))) 43 rfl ?_
      refine r_dup hC dJ26_rotateRight_43 rfl 44 rfl ?_
      refine r_astore_n hC 3 [(3, .ref x4), (4, .null), (2, .ref r), (0, .ref root), (1, .ref p)] dJ26_rotateRight_44 rfl (Nat.le_of_ble_eq_true rfl) rfl 45 rfl ?_
      refine r_ifnonnull hC 58 dJ26_rotateRight_45 (by decide) ?_
      refine r_aload_n hC 0 dJ26_rotateRight_58 rfl 59 rfl ?_
      rcases hside with ⟨hc, hc2⟩ | ⟨hc, hc2⟩
      · skip
        refine r_getI (v := .ref p) hC kJ26 8 rfl q2317 (Or.inl rfl) (fun _ h => stW_get h (hTL x4 tq) (ndX_t (hTk x4 tq))) (congrArg (fun o9 => some (va_rf o9)) (hc)) dJ26_rotateRight_59 62 rfl ?_
        refine r_aload_n hC 4 dJ26_rotateRight_62 rfl 63 rfl ?_
        refine r_acne (rx := (some p)) (ry := (some p)) hC 74 dJ26_rotateRight_63 (by decide) 66 rfl (fun h => absurd (rfl) h) (fun _ => ?_)
        refine r_aload_n hC 0 dJ26_rotateRight_66 rfl 67 rfl ?_
        refine r_aload_n hC 2 dJ26_rotateRight_67 rfl 68 rfl ?_
        refine r_putI (J := xSt F V0 ([] ++ stW L (ndX kd hs ky vl nx bf af (va_up pa r (some x4)) (va_up lf p none) (va_up rt x4 (some r)) pv rd))) hC kJ26 8 rfl q2317 (Or.inl rfl) rfl (fun _ h => stW_get h (hTL x4 tq) (ndX_t (hTk x4 tq))) (Nat.le_of_ble_eq_true rfl) rfl rfl dJ26_rotateRight_68 (fun _ h => stW_set h (hTL x4 tq) (ndX_rt (hTk x4 tq))) 71 rfl ?_
        refine r_goto hC 79 dJ26_rotateRight_71 (by decide) ?_
        refine r_aload_n hC 2 dJ26_rotateRight_79 rfl 80 rfl ?_
        refine r_aload_n hC 4 dJ26_rotateRight_80 rfl 81 rfl ?_
        refine r_putI (J := xSt F V0 ([] ++ stW L (ndX kd hs ky vl nx bf af (va_up pa r (some x4)) (va_up lf p none) (va_up (va_up rt x4 (some r)) r (some p)) pv rd))) hC kJ26 8 rfl q2317 (Or.inl rfl) rfl (fun _ h => stW_get h (hTL r tr) (ndX_t (hTk r tr))) (Nat.le_of_ble_eq_true rfl) rfl rfl dJ26_rotateRight_81 (fun _ h => stW_set h (hTL r tr) (ndX_rt (hTk r tr))) 84 rfl ?_
        refine r_aload_n hC 4 dJ26_rotateRight_84 rfl 85 rfl ?_
        refine r_aload_n hC 2 dJ26_rotateRight_85 rfl 86 rfl ?_
        refine r_putI (J := xSt F V0 ([] ++ stW L (ndX kd hs ky vl nx bf af (va_up (va_up pa r (some x4)) p (some r)) (va_up lf p none) (va_up (va_up rt x4 (some r)) r (some p)) pv rd))) hC kJ26 6 rfl q2315 (Or.inl rfl) rfl (fun _ h => stW_get h (hTL p hp) (ndX_t (hTk p hp))) (Nat.le_of_ble_eq_true rfl) rfl rfl dJ26_rotateRight_86 (fun _ h => stW_set h (hTL p hp) (ndX_pa (hTk p hp))) 89 rfl ?_
        refine r_aload_n hC 3 dJ26_rotateRight_89 rfl 90 rfl ?_
        exact r_aret hC (v := (some root)) (Or.inl ⟨_, rfl⟩) (Nat.le_of_ble_eq_true rfl) (Nat.le_of_ble_eq_true rfl) (fun V9 h => hQ _ _ ⟨_, ⟨_, _, _, _, _, rfl, rot_ol ht.neg hp hr hl1 hl3 hc, rfl⟩, by rw [← hV0, ← hF]; exact h⟩) dJ26_rotateRight_90
      · skip
        rcases opt_c (rt x4) with hl5 | ⟨x6, hl5⟩
        · skip
          refine r_getI (v := .null) hC kJ26 8 rfl q2317 (Or.inl rfl) (fun _ h => stW_get h (hTL x4 tq) (ndX_t (hTk x4 tq))) (congrArg (fun o9 => some (va_rf o9)) (hl5)) dJ26_rotateRight_59 62 rfl ?_
          refine r_aload_n hC 4 dJ26_rotateRight_62 rfl 63 rfl ?_
          refine r_acne (rx := none) (ry := (some p)) hC 74 dJ26_rotateRight_63 (by decide) 66 rfl (fun _ => ?_) (fun h => absurd h (fun q9 => by cases q9))
          refine r_aload_n hC 0 dJ26_rotateRight_74 rfl 75 rfl ?_
          refine r_aload_n hC 2 dJ26_rotateRight_75 rfl 76 rfl ?_
          refine r_putI (J := xSt F V0 ([] ++ stW L (ndX kd hs ky vl nx bf af (va_up pa r (some x4)) (va_up (va_up lf p none) x4 (some r)) rt pv rd))) hC kJ26 7 rfl q2316 (Or.inl rfl) rfl (fun _ h => stW_get h (hTL x4 tq) (ndX_t (hTk x4 tq))) (Nat.le_of_ble_eq_true rfl) rfl rfl dJ26_rotateRight_76 (fun _ h => stW_set h (hTL x4 tq) (ndX_lf (hTk x4 tq))) 79 rfl ?_
          refine r_aload_n hC 2 dJ26_rotateRight_79 rfl 80 rfl ?_
          refine r_aload_n hC 4 dJ26_rotateRight_80 rfl 81 rfl ?_
          refine r_putI (J := xSt F V0 ([] ++ stW L (ndX kd hs ky vl nx bf af (va_up pa r (some x4)) (va_up (va_up lf p none) x4 (some r)) (va_up rt r (some p)) pv rd))) hC kJ26 8 rfl q2317 (Or.inl rfl) rfl (fun _ h => stW_get h (hTL r tr) (ndX_t (hTk r tr))) (Nat.le_of_ble_eq_true rfl) rfl rfl dJ26_rotateRight_81 (fun _ h => stW_set h (hTL r tr) (ndX_rt (hTk r tr))) 84 rfl ?_
          refine r_aload_n hC 4 dJ26_rotateRight_84 rfl 85 rfl ?_
          refine r_aload_n hC 2 dJ26_rotateRight_85 rfl 86 rfl ?_
          refine r_putI (J := xSt F V0 ([] ++ stW L (ndX kd hs ky vl nx bf af (va_up (va_up pa r (some x4)) p (some r)) (va_up (va_up lf p none) x4 (some r)) (va_up rt r (some p)) pv rd))) hC kJ26 6 rfl q2315 (Or.inl rfl) rfl (fun _ h => stW_get h (hTL p hp) (ndX_t (hTk p hp))) (Nat.le_of_ble_eq_true rfl) rfl rfl dJ26_rotateRight_86 (fun _ h => stW_set h (hTL p hp) (ndX_pa (hTk p hp))) 89 rfl ?_
          refine r_aload_n hC 3 dJ26_rotateRight_89 rfl 90 rfl ?_
          exact r_aret hC (v := (some root)) (Or.inl ⟨_, rfl⟩) (Nat.le_of_ble_eq_true rfl) (Nat.le_of_ble_eq_true rfl) (fun V9 h => hQ _ _ ⟨_, ⟨_, _, _, _, _, rfl, rot_or ht.neg hp hr hl1 hl3 hc, rfl⟩, by rw [← hV0, ← hF]; exact h⟩) dJ26_rotateRight_90
        · skip
          have nc9 : x6 ≠ p := fun e => hc2 (by rw [← e]; exact hl5)
          refine r_getI (v := .ref x6) hC kJ26 8 rfl q2317 (Or.inl rfl) (fun _ h => stW_get h (hTL x4 tq) (ndX_t (hTk x4 tq))) (congrArg (fun o9 => some (va_rf o9)) (hl5)) dJ26_rotateRight_59 62 rfl ?_
          refine r_aload_n hC 4 dJ26_rotateRight_62 rfl 63 rfl ?_
          refine r_acne (rx := (some x6)) (ry := (some p)) hC 74 dJ26_rotateRight_63 (by decide) 66 rfl (fun _ => ?_) (fun h => absurd h (fun q9 => nc9 (Option.some.inj q9)))
          refine r_aload_n hC 0 dJ26_rotateRight_74 rfl 75 rfl ?_
          refine r_aload_n hC 2 dJ26_rotateRight_75 rfl 76 rfl ?_
          refine r_putI (J := xSt F V0 ([] ++ stW L (ndX kd hs ky vl nx bf af (va_up pa r (some x4)) (va_up (va_up lf p none) x4 (some r)) rt pv rd))) hC kJ26 7 rfl q2316 (Or.inl rfl) rfl (fun _ h => stW_get h (hTL x4 tq) (ndX_t (hTk x4 tq))) (Nat.le_of_ble_eq_true rfl) rfl rfl dJ26_rotateRight_76 (fun _ h => stW_set h (hTL x4 tq) (ndX_lf (hTk x4 tq))) 79 rfl ?_
          refine r_aload_n hC 2 dJ26_rotateRight_79 rfl 80 rfl ?_
          refine r_aload_n hC 4 dJ26_rotateRight_80 rfl 81 rfl ?_
          refine r_putI (J := xSt F V0 ([] ++ stW L (ndX kd hs ky vl nx bf af (va_up pa r (some x4)) (va_up (va_up lf p none) x4 (some r)) (va_up rt r (some p)) pv rd))) hC kJ26 8 rfl q2317 (Or.inl rfl) rfl (fun _ h => stW_get h (hTL r tr) (ndX_t (hTk r tr))) (Nat.le_of_ble_eq_true rfl) rfl rfl dJ26_rotateRight_81 (fun _ h => stW_set h (hTL r tr) (ndX_rt (hTk r tr))) 84 rfl ?_
          refine r_aload_n hC 4 dJ26_rotateRight_84 rfl 85 rfl ?_
          refine r_aload_n hC 2 dJ26_rotateRight_85 rfl 86 rfl ?_
          refine r_putI (J := xSt F V0 ([] ++ stW L (ndX kd hs ky vl nx bf af (va_up (va_up pa r (some x4)) p (some r)) (va_up (va_up lf p none) x4 (some r)) (va_up rt r (some p)) pv rd))) hC kJ26 6 rfl q2315 (Or.inl rfl) rfl (fun _ h => stW_get h (hTL p hp) (ndX_t (hTk p hp))) (Nat.le_of_ble_eq_true rfl) rfl rfl dJ26_rotateRight_86 (fun _ h => stW_set h (hTL p hp) (ndX_pa (hTk p hp))) 89 rfl ?_
          refine r_aload_n hC 3 dJ26_rotateRight_89 rfl 90 rfl ?_
          exact r_aret hC (v := (some root)) (Or.inl ⟨_, rfl⟩) (Nat.le_of_ble_eq_true rfl) (Nat.le_of_ble_eq_true rfl) (fun V9 h => hQ _ _ ⟨_, ⟨_, _, _, _, _, rfl, rot_or ht.neg hp hr hl1 hl3 hc, rfl⟩, by rw [← hV0, ← hF]; exact h⟩) dJ26_rotateRight_90
  · skip
    obtain ⟨tb, nbp, nbr, npb, nrb, hpb⟩ := hB9 x2 hl1
    refine r_getI (v := .ref x2) hC kJ26 8 rfl q2317 (Or.inl rfl) (fun _ h => stW_get h (hTL r tr) (ndX_t (hTk r tr))) (congrArg (fun o9 => some (va_rf o9)) (hl1)) dJ26_rotateRight_15 18 rfl ?_
    refine r_dup_x1 hC dJ26_rotateRight_18 rfl rfl 19 rfl ?_
    refine r_putI (J := xSt F V0 ([] ++ stW L (ndX kd hs ky vl nx bf af pa (va_up lf p (some x2)) rt pv rd))) hC kJ26 7 rfl q2316 (Or.inl rfl) rfl (fun _ h => stW_get h (hTL p hp) (ndX_t (hTk p hp))) (Nat.le_of_ble_eq_true rfl) rfl rfl dJ26_rotateRight_19 (fun _ h => stW_set h (hTL p hp) (ndX_lf (hTk p hp))) 22 rfl ?_
    refine r_dup hC dJ26_rotateRight_22 rfl 23 rfl ?_
    refine r_astore hC 4 [(4, .ref x2), (2, .ref r), (0, .ref root), (1, .ref p)] dJ26_rotateRight_23 (Nat.le_of_ble_eq_true rfl) rfl 25 rfl ?_
    refine r_ifnull hC dJ26_rotateRight_25 28 rfl ?_
    refine r_aload hC 0 dJ26_rotateRight_28 rfl 30 rfl ?_
    refine r_aload_n hC 3 dJ26_rotateRight_30 rfl 31 rfl ?_
    refine r_putI (J := xSt F V0 ([] ++ stW L (ndX kd hs ky vl nx bf af (va_up pa x2 (some p)) (va_up lf p (some x2)) rt pv rd))) hC kJ26 6 rfl q2315 (Or.inl rfl) rfl (fun _ h => stW_get h (hTL x2 tb) (ndX_t (hTk x2 tb))) (Nat.le_of_ble_eq_true rfl) rfl rfl dJ26_rotateRight_31 (fun _ h => stW_set h (hTL x2 tb) (ndX_pa (hTk x2 tb))) 34 rfl ?_
    refine r_aload_n hC 1 dJ26_rotateRight_34 rfl 35 rfl ?_
    refine r_aload_n hC 3 dJ26_rotateRight_35 rfl 36 rfl ?_
    rcases opt_c (pa p) with hl7 | ⟨x8, hl7⟩
    · skip
      refine r_getI (v := .null) hC kJ26 6 rfl q2315 (Or.inl rfl) (fun _ h => stW_get h (hTL p hp) (ndX_t (hTk p hp))) (congrArg (fun o9 => some (va_rf o9)) ((up_ne (Ne.symm nbp)).trans hl7)) dJ26_rotateRight_36 39 rfl ?_
      refine r_dup_x1 hC dJ26_rotateRight_39 rfl rfl 40 rfl ?_
      refine r_putI (J := xSt F V0 ([] ++ stW L (ndX kd hs ky vl nx bf af (va_up (va_up pa x2 (some p)) r none) (va_up lf p (some x2)) rt pv rd))) hC kJ26 6 rfl q2315 (Or.inl rfl) rfl (fun _ h => stW_get h (hTL r tr) (ndX_t (hTk r tr))) (Nat.le_of_ble_eq_true rfl) rfl rfl dJ26_rotateRight_40 (fun _ h => stW_set h (hTL r tr) (ndX_pa (hTk r tr))) 43 rfl ?_
      refine r_dup hC dJ26_rotateRight_43 rfl 44 rfl ?_
      refine r_astore_nN hC 3 [(3, .null), (4, .ref x2), (2, .ref r), (0, .ref root), (1, .ref p)] dJ26_rotateRight_44 rfl (Nat.le_of_ble_eq_true rfl) rfl 45 rfl ?_
      refine r_ifnonnullN hC dJ26_rotateRight_45 48 rfl ?_
      refine r_aload_n hC 2 dJ26_rotateRight_48 rfl 49 rfl ?_
      refine r_dup hC dJ26_rotateRight_49 rfl 50 rfl ?_
      refine r_astore_n hC 0 [(0, .ref r), (3, .null), (4, .ref x2), (2, .ref r), (1, .ref p)] dJ26_rotateRight_50 rfl (Nat.le_of_ble_eq_true rfl) rfl 51 rfl ?_
      refine r_iconst hC 0 dJ26_rotateRight_51 ic_0 52 rfl ?_
      refine r_putI (J := xSt F V0 ([] ++ stW L (ndX kd hs ky vl nx bf af (va_up (va_up pa x2 (some p)) r none) (va_up lf p (some x2)) rt pv (va_up rd r 0)))) hC kJ26 10 rfl q2320 (Or.inl rfl) rfl (fun _ h => stW_get h (hTL r tr) (ndX_t (hTk r tr))) (Nat.le_of_ble_eq_true rfl) rfl rfl dJ26_rotateRight_52 (fun _ h => stW_set h (hTL r tr) (ndX_rd (hTk r tr))) 55 rfl ?_
      refine r_goto hC 79 dJ26_rotateRight_55 (by decide) ?_
      refine r_aload_n hC 3 dJ26_rotateRight_79 rfl 80 rfl ?_
      refine r_aload_n hC 4 dJ26_rotateRight_80 rfl 81 rfl ?_
      refine r_putI (J := xSt F V0 ([] ++ stW L (ndX kd hs ky vl nx bf af (va_up (va_up pa x2 (some p)) r none) (va_up lf p (some x2)) (va_up rt r (some p)) pv (va_up rd r 0)))) hC kJ26 8 rfl q2317 (Or.inl rfl) rfl (fun _ h => stW_get h (hTL r tr) (ndX_t (hTk r tr))) (Nat.le_of_ble_eq_true rfl) rfl rfl dJ26_rotateRight_81 (fun _ h => stW_set h (hTL r tr) (ndX_rt (hTk r tr))) 84 rfl ?_
      refine r_aload_n hC 4 dJ26_rotateRight_84 rfl 85 rfl ?_
      refine r_aload_n hC 3 dJ26_rotateRight_85 rfl 86 rfl ?_
      refine r_putI (J := xSt F V0 ([] ++ stW L (ndX kd hs ky vl nx bf af (va_up (va_up (va_up pa x2 (some p)) r none) p (some r)) (va_up lf p (some x2)) (va_up rt r (some p)) pv (va_up rd r 0)))) hC kJ26 6 rfl q2315 (Or.inl rfl) rfl (fun _ h => stW_get h (hTL p hp) (ndX_t (hTk p hp))) (Nat.le_of_ble_eq_true rfl) rfl rfl dJ26_rotateRight_86 (fun _ h => stW_set h (hTL p hp) (ndX_pa (hTk p hp))) 89 rfl ?_
      refine r_aload_n hC 0 dJ26_rotateRight_89 rfl 90 rfl ?_
      exact r_aret hC (v := (some r)) (Or.inl ⟨_, rfl⟩) (Nat.le_of_ble_eq_true rfl) (Nat.le_of_ble_eq_true rfl) (fun V9 h => hQ _ _ ⟨_, ⟨_, _, _, _, _, rfl, rot_bn ht.neg hp hr hl1 hl7, rfl⟩, by rw [← hV0, ← hF]; exact h⟩) dJ26_rotateRight_90
    · skip
      obtain ⟨tq, nqp, nqr, npq, nrq, hQb, hside⟩ := hQ9 x8 hl7
      refine r_getI (v := .ref x8) hC kJ26 6 rfl q2315 (Or.inl rfl) (fun _ h => stW_get h (hTL p hp) (ndX_t (hTk p hp))) (congrArg (fun o9 => some (va_rf o9)) ((up_ne (Ne.symm nbp)).trans hl7)) dJ26_rotateRight_36 39 rfl ?_
      refine r_dup_x1 hC dJ26_rotateRight_39 rfl rfl 40 rfl ?_
      refine r_putI (J := xSt F V0 ([] ++ stW L (ndX kd hs ky vl nx bf af (va_up (va_up pa x2 (some p)) r (some x8)) (va_up lf p (some x2)) rt pv rd))) hC kJ26 6 rfl q2315 (Or.inl rfl) rfl (fun _ h => stW_get h (hTL r tr) (ndX_t (hTk r tr))) (Nat.le_of_ble_eq_true rfl) rfl rfl dJ26_rotateRight_40 (fun _ h => stW_set h (hTL r tr) (ndX_pa (hTk r tr))) 43 rfl ?_
      refine r_dup hC dJ26_rotateRight_43 rfl 44 rfl ?_
      refine r_astore_n hC 3 [(3, .ref x8), (4, .ref x2), (2, .ref r), (0, .ref root), (1, .ref p)] dJ26_rotateRight_44 rfl (Nat.le_of_ble_eq_true rfl) rfl 45 rfl ?_
      refine r_ifnonnull hC 58 dJ26_rotateRight_45 (by decide) ?_
      refine r_aload_n hC 0 dJ26_rotateRight_58 rfl 59 rfl ?_
      rcases hside with ⟨hc, hc2⟩ | ⟨hc, hc2⟩
      · skip
        refine r_getI (v := .ref p) hC kJ26 8 rfl q2317 (Or.inl rfl) (fun _ h => stW_get h (hTL x8 tq) (ndX_t (hTk x8 tq))) (congrArg (fun o9 => some (va_rf o9)) (hc)) dJ26_rotateRight_59 62 rfl ?_
        refine r_aload_n hC 4 dJ26_rotateRight_62 rfl 63 rfl ?_
        refine r_acne (rx := (some p)) (ry := (some p)) hC 74 dJ26_rotateRight_63 (by decide) 66 rfl (fun h => absurd (rfl) h) (fun _ => ?_)
        refine r_aload_n hC 0 dJ26_rotateRight_66 rfl 67 rfl ?_
        refine r_aload_n hC 2 dJ26_rotateRight_67 rfl 68 rfl ?_
        refine r_putI (J := xSt F V0 ([] ++ stW L (ndX kd hs ky vl nx bf af (va_up (va_up pa x2 (some p)) r (some x8)) (va_up lf p (some x2)) (va_up rt x8 (some r)) pv rd))) hC kJ26 8 rfl q2317 (Or.inl rfl) rfl (fun _ h => stW_get h (hTL x8 tq) (ndX_t (hTk x8 tq))) (Nat.le_of_ble_eq_true rfl) rfl rfl dJ26_rotateRight_68 (fun _ h => stW_set h (hTL x8 tq) (ndX_rt (hTk x8 tq))) 71 rfl ?_
        refine r_goto hC 79 dJ26_rotateRight_71 (by decide) ?_
        refine r_aload_n hC 2 dJ26_rotateRight_79 rfl 80 rfl ?_
        refine r_aload_n hC 4 dJ26_rotateRight_80 rfl 81 rfl ?_
        refine r_putI (J := xSt F V0 ([] ++ stW L (ndX kd hs ky vl nx bf af (va_up (va_up pa x2 (some p)) r (some x8)) (va_up lf p (some x2)) (va_up (va_up rt x8 (some r)) r (some p)) pv rd))) hC kJ26 8 rfl q2317 (Or.inl rfl) rfl (fun _ h => stW_get h (hTL r tr) (ndX_t (hTk r tr))) (Nat.le_of_ble_eq_true rfl) rfl rfl dJ26_rotateRight_81 (fun _ h => stW_set h (hTL r tr) (ndX_rt (hTk r tr))) 84 rfl ?_
        refine r_aload_n hC 4 dJ26_rotateRight_84 rfl 85 rfl ?_
        refine r_aload_n hC 2 dJ26_rotateRight_85 rfl 86 rfl ?_
        refine r_putI (J := xSt F V0 ([] ++ stW L (ndX kd hs ky vl nx bf af (va_up (va_up (va_up pa x2 (some p)) r (some x8)) p (some r)) (va_up lf p (some x2)) (va_up (va_up rt x8 (some r)) r (some p)) pv rd))) hC kJ26 6 rfl q2315 (Or.inl rfl) rfl (fun _ h => stW_get h (hTL p hp) (ndX_t (hTk p hp))) (Nat.le_of_ble_eq_true rfl) rfl rfl dJ26_rotateRight_86 (fun _ h => stW_set h (hTL p hp) (ndX_pa (hTk p hp))) 89 rfl ?_
        refine r_aload_n hC 3 dJ26_rotateRight_89 rfl 90 rfl ?_
        exact r_aret hC (v := (some root)) (Or.inl ⟨_, rfl⟩) (Nat.le_of_ble_eq_true rfl) (Nat.le_of_ble_eq_true rfl) (fun V9 h => hQ _ _ ⟨_, ⟨_, _, _, _, _, rfl, rot_bl ht.neg hp hr hl1 hl7 hc, rfl⟩, by rw [← hV0, ← hF]; exact h⟩) dJ26_rotateRight_90
      · skip
        rcases opt_c (rt x8) with hl9 | ⟨x10, hl9⟩
        · skip
          refine r_getI (v := .null) hC kJ26 8 rfl q2317 (Or.inl rfl) (fun _ h => stW_get h (hTL x8 tq) (ndX_t (hTk x8 tq))) (congrArg (fun o9 => some (va_rf o9)) (hl9)) dJ26_rotateRight_59 62 rfl ?_
          refine r_aload_n hC 4 dJ26_rotateRight_62 rfl 63 rfl ?_
          refine r_acne (rx := none) (ry := (some p)) hC 74 dJ26_rotateRight_63 (by decide) 66 rfl (fun _ => ?_) (fun h => absurd h (fun q9 => by cases q9))
          refine r_aload_n hC 0 dJ26_rotateRight_74 rfl 75 rfl ?_
          refine r_aload_n hC 2 dJ26_rotateRight_75 rfl 76 rfl ?_
          refine r_putI (J := xSt F V0 ([] ++ stW L (ndX kd hs ky vl nx bf af (va_up (va_up pa x2 (some p)) r (some x8)) (va_up (va_up lf p (some x2)) x8 (some r)) rt pv rd))) hC kJ26 7 rfl q2316 (Or.inl rfl) rfl (fun _ h => stW_get h (hTL x8 tq) (ndX_t (hTk x8 tq))) (Nat.le_of_ble_eq_true rfl) rfl rfl dJ26_rotateRight_76 (fun _ h => stW_set h (hTL x8 tq) (ndX_lf (hTk x8 tq))) 79 rfl ?_
          refine r_aload_n hC 2 dJ26_rotateRight_79 rfl 80 rfl ?_
          refine r_aload_n hC 4 dJ26_rotateRight_80 rfl 81 rfl ?_
          refine r_putI (J := xSt F V0 ([] ++ stW L (ndX kd hs ky vl nx bf af (va_up (va_up pa x2 (some p)) r (some x8)) (va_up (va_up lf p (some x2)) x8 (some r)) (va_up rt r (some p)) pv rd))) hC kJ26 8 rfl q2317 (Or.inl rfl) rfl (fun _ h => stW_get h (hTL r tr) (ndX_t (hTk r tr))) (Nat.le_of_ble_eq_true rfl) rfl rfl dJ26_rotateRight_81 (fun _ h => stW_set h (hTL r tr) (ndX_rt (hTk r tr))) 84 rfl ?_
          refine r_aload_n hC 4 dJ26_rotateRight_84 rfl 85 rfl ?_
          refine r_aload_n hC 2 dJ26_rotateRight_85 rfl 86 rfl ?_
          refine r_putI (J := xSt F V0 ([] ++ stW L (ndX kd hs ky vl nx bf af (va_up (va_up (va_up pa x2 (some p)) r (some x8)) p (some r)) (va_up (va_up lf p (some x2)) x8 (some r)) (va_up rt r (some p)) pv rd))) hC kJ26 6 rfl q2315 (Or.inl rfl) rfl (fun _ h => stW_get h (hTL p hp) (ndX_t (hTk p hp))) (Nat.le_of_ble_eq_true rfl) rfl rfl dJ26_rotateRight_86 (fun _ h => stW_set h (hTL p hp) (ndX_pa (hTk p hp))) 89 rfl ?_
          refine r_aload_n hC 3 dJ26_rotateRight_89 rfl 90 rfl ?_
          exact r_aret hC (v := (some root)) (Or.inl ⟨_, rfl⟩) (Nat.le_of_ble_eq_true rfl) (Nat.le_of_ble_eq_true rfl) (fun V9 h => hQ _ _ ⟨_, ⟨_, _, _, _, _, rfl, rot_br ht.neg hp hr hl1 hl7 hc, rfl⟩, by rw [← hV0, ← hF]; exact h⟩) dJ26_rotateRight_90
        · skip
          have nc9 : x10 ≠ p := fun e => hc2 (by rw [← e]; exact hl9)
          refine r_getI (v := .ref x10) hC kJ26 8 rfl q2317 (Or.inl rfl) (fun _ h => stW_get h (hTL x8 tq) (ndX_t (hTk x8 tq))) (congrArg (fun o9 => some (va_rf o9)) (hl9)) dJ26_rotateRight_59 62 rfl ?_
          refine r_aload_n hC 4 dJ26_rotateRight_62 rfl 63 rfl ?_
          refine r_acne (rx := (some x10)) (ry := (some p)) hC 74 dJ26_rotateRight_63 (by decide) 66 rfl (fun _ => ?_) (fun h => absurd h (fun q9 => nc9 (Option.some.inj q9)))
          refine r_aload_n hC 0 dJ26_rotateRight_74 rfl 75 rfl ?_
          refine r_aload_n hC 2 dJ26_rotateRight_75 rfl 76 rfl ?_
          refine r_putI (J := xSt F V0 ([] ++ stW L (ndX kd hs ky vl nx bf af (va_up (va_up pa x2 (some p)) r (some x8)) (va_up (va_up lf p (some x2)) x8 (some r)) rt pv rd))) hC kJ26 7 rfl q2316 (Or.inl rfl) rfl (fun _ h => stW_get h (hTL x8 tq) (ndX_t (hTk x8 tq))) (Nat.le_of_ble_eq_true rfl) rfl rfl dJ26_rotateRight_76 (fun _ h => stW_set h (hTL x8 tq) (ndX_lf (hTk x8 tq))) 79 rfl ?_
          refine r_aload_n hC 2 dJ26_rotateRight_79 rfl 80 rfl ?_
          refine r_aload_n hC 4 dJ26_rotateRight_80 rfl 81 rfl ?_
          refine r_putI (J := xSt F V0 ([] ++ stW L (ndX kd hs ky vl nx bf af (va_up (va_up pa x2 (some p)) r (some x8)) (va_up (va_up lf p (some x2)) x8 (some r)) (va_up rt r (some p)) pv rd))) hC kJ26 8 rfl q2317 (Or.inl rfl) rfl (fun _ h => stW_get h (hTL r tr) (ndX_t (hTk r tr))) (Nat.le_of_ble_eq_true rfl) rfl rfl dJ26_rotateRight_81 (fun _ h => stW_set h (hTL r tr) (ndX_rt (hTk r tr))) 84 rfl ?_
          refine r_aload_n hC 4 dJ26_rotateRight_84 rfl 85 rfl ?_
          refine r_aload_n hC 2 dJ26_rotateRight_85 rfl 86 rfl ?_
          refine r_putI (J := xSt F V0 ([] ++ stW L (ndX kd hs ky vl nx bf af (va_up (va_up (va_up pa x2 (some p)) r (some x8)) p (some r)) (va_up (va_up lf p (some x2)) x8 (some r)) (va_up rt r (some p)) pv rd))) hC kJ26 6 rfl q2315 (Or.inl rfl) rfl (fun _ h => stW_get h (hTL p hp) (ndX_t (hTk p hp))) (Nat.le_of_ble_eq_true rfl) rfl rfl dJ26_rotateRight_86 (fun _ h => stW_set h (hTL p hp) (ndX_pa (hTk p hp))) 89 rfl ?_
          refine r_aload_n hC 3 dJ26_rotateRight_89 rfl 90 rfl ?_
          exact r_aret hC (v := (some root)) (Or.inl ⟨_, rfl⟩) (Nat.le_of_ble_eq_true rfl) (Nat.le_of_ble_eq_true rfl) (fun V9 h => hQ _ _ ⟨_, ⟨_, _, _, _, _, rfl, rot_br ht.neg hp hr hl1 hl7 hc, rfl⟩, by rw [← hV0, ← hF]; exact h⟩) dJ26_rotateRight_90
set_option maxHeartbeats 4000000 in
set_option maxRecDepth 100000 in
theorem lpJ26_bal {C : xC} {F : Nat → Prop} {V0 : xV} (hG : xGood (xGG C)) (hC : xCtx C RJ26 cJ26_balanceInsertion 6 (some (.object "java/util/HashMap$TreeNode")) { frames := 1, locals := 24, cells := 0, slots := 0 }) (k n : Nat) (hk9 : k ≤ 0) (hn9 : n ≤ 0) (L : List Nat) (kd : Nat → Bool) (hs : Nat → Int32) (ky vl : Nat → Nat) (nx bf af pv : Nat → Option Nat) (T : Nat → Prop) (hTL : ∀ a, T a → a ∈ L) (hTk : ∀ a, T a → kd a = true) (pa0 lf0 rt0 : Nat → Option Nat) (rd0 : Nat → Int32) (kx : ∀ (pc : Nat) (pa lf rt : Nat → Option Nat) (rd : Nat → Int32) (root : Nat), (pc = 20 ∨ pc = 38) → tI (fun a => (hs a).toInt) T pa lf rt root → oF T pa0 lf0 rt0 rd0 pa lf rt rd → rn C (xSt F V0 ([] ++ stW L (ndX kd hs ky vl nx bf af pa lf rt pv rd))) k n pc [] [.ref root]) : ∀ (m : Nat) (pa lf rt : Nat → Option Nat) (rd : Nat → Int32) (root x : Nat) (lo hi : Nat → Int), tIv (fun a => (hs a).toInt) T pa lf rt root lo hi → T x → oF T pa0 lf0 rt0 rd0 pa lf rt rd → (8589934592 - (hi x - lo x)).toNat < m → rn C (xSt F V0 ([] ++ stW L (ndX kd hs ky vl nx bf af pa lf rt pv rd))) k n 5 [(1, .ref x), (0, .ref root)] [] := by
  intro m
  induction m with
  | zero =>
    intro pa lf rt rd root x lo hi ht hx ho hm
    exact absurd hm (Nat.not_lt_zero _)
  | succ m ih =>
    intro pa lf rt rd root x lo hi ht hx ho hm
    refine r_aload_n hC 0 dJ26_balanceInsertion_5 rfl 6 rfl ?_
    rcases opt_c (pa x) with hl1 | ⟨x2, hl1⟩
    · skip
      refine r_getI (v := .null) hC kJ26 6 rfl q2315 (Or.inl rfl) (fun _ h => stW_get h (hTL x hx) (ndX_t (hTk x hx))) (congrArg (fun o9 => some (va_rf o9)) (hl1)) dJ26_balanceInsertion_6 9 rfl ?_
      refine r_dup hC dJ26_balanceInsertion_9 rfl 10 rfl ?_
      refine r_astore_nN hC 2 [(2, .null), (1, .ref x), (0, .ref root)] dJ26_balanceInsertion_10 rfl (Nat.le_of_ble_eq_true rfl) rfl 11 rfl ?_
      refine r_ifnonnullN hC dJ26_balanceInsertion_11 14 rfl ?_
      refine r_aload_n hC 1 dJ26_balanceInsertion_14 rfl 15 rfl ?_
      refine r_iconst hC 0 dJ26_balanceInsertion_15 ic_0 16 rfl ?_
      refine r_putI (J := xSt F V0 ([] ++ stW L (ndX kd hs ky vl nx bf af pa lf rt pv (va_up rd x 0)))) hC kJ26 10 rfl q2320 (Or.inl rfl) rfl (fun _ h => stW_get h (hTL x hx) (ndX_t (hTk x hx))) (Nat.le_of_ble_eq_true rfl) rfl rfl dJ26_balanceInsertion_16 (fun _ h => stW_set h (hTL x hx) (ndX_rd (hTk x hx))) 19 rfl ?_
      refine r_aload_n hC 1 dJ26_balanceInsertion_19 rfl 20 rfl ?_
      refine rn.sub (lv' := []) [] rfl ?_
      have hx0 : x = root := ht.root_of hx hl1
      exact kx 20 pa lf rt _ x (Or.inl rfl) ⟨lo, hi, by rw [hx0]; exact ht⟩ (ho.red hx)
    · skip
      obtain ⟨txp, nxp, nxp2, hsx⟩ := ht.side hx hl1
      refine r_getI (v := .ref x2) hC kJ26 6 rfl q2315 (Or.inl rfl) (fun _ h => stW_get h (hTL x hx) (ndX_t (hTk x hx))) (congrArg (fun o9 => some (va_rf o9)) (hl1)) dJ26_balanceInsertion_6 9 rfl ?_
      refine r_dup hC dJ26_balanceInsertion_9 rfl 10 rfl ?_
      refine r_astore_n hC 2 [(2, .ref x2), (1, .ref x), (0, .ref root)] dJ26_balanceInsertion_10 rfl (Nat.le_of_ble_eq_true rfl) rfl 11 rfl ?_
      refine r_ifnonnull hC 21 dJ26_balanceInsertion_11 (by decide) ?_
      refine r_aload_n hC 0 dJ26_balanceInsertion_21 rfl 22 rfl ?_
      refine r_getI (v := .int (rd x2)) hC kJ26 10 rfl q2320 (Or.inl rfl) (fun _ h => stW_get h (hTL x2 txp) (ndX_t (hTk x2 txp))) rfl dJ26_balanceInsertion_22 25 rfl ?_
      refine r_ifeq hC 37 dJ26_balanceInsertion_25 (by decide) 28 rfl (fun c3 => ?_) (fun c3 => ?_)
      · skip
        refine r_aload_n hC 2 dJ26_balanceInsertion_37 rfl 38 rfl ?_
        refine rn.sub (lv' := []) [] rfl ?_
        exact kx 38 pa lf rt _ root (Or.inr rfl) ⟨lo, hi, ht⟩ ho
      · skip
        refine r_aload_n hC 0 dJ26_balanceInsertion_28 rfl 29 rfl ?_
        rcases opt_c (pa x2) with hl4 | ⟨x5, hl4⟩
        · skip
          refine r_getI (v := .null) hC kJ26 6 rfl q2315 (Or.inl rfl) (fun _ h => stW_get h (hTL x2 txp) (ndX_t (hTk x2 txp))) (congrArg (fun o9 => some (va_rf o9)) (hl4)) dJ26_balanceInsertion_29 32 rfl ?_
          refine r_dup hC dJ26_balanceInsertion_32 rfl 33 rfl ?_
          refine r_astore_nN hC 3 [(3, .null), (2, .ref x2), (1, .ref x), (0, .ref root)] dJ26_balanceInsertion_33 rfl (Nat.le_of_ble_eq_true rfl) rfl 34 rfl ?_
          refine r_ifnonnullN hC dJ26_balanceInsertion_34 37 rfl ?_
          refine r_aload_n hC 3 dJ26_balanceInsertion_37 rfl 38 rfl ?_
          refine rn.sub (lv' := []) [] rfl ?_
          exact kx 38 pa lf rt _ root (Or.inr rfl) ⟨lo, hi, ht⟩ ho
        · skip
          obtain ⟨txq, nqp, nqp2, hsp⟩ := ht.side txp hl4
          obtain ⟨-, nqx, nqx2⟩ := ht.meas hx hl1 txp hl4
          refine r_getI (v := .ref x5) hC kJ26 6 rfl q2315 (Or.inl rfl) (fun _ h => stW_get h (hTL x2 txp) (ndX_t (hTk x2 txp))) (congrArg (fun o9 => some (va_rf o9)) (hl4)) dJ26_balanceInsertion_29 32 rfl ?_
          refine r_dup hC dJ26_balanceInsertion_32 rfl 33 rfl ?_
          refine r_astore_n hC 3 [(3, .ref x5), (2, .ref x2), (1, .ref x), (0, .ref root)] dJ26_balanceInsertion_33 rfl (Nat.le_of_ble_eq_true rfl) rfl 34 rfl ?_
          refine r_ifnonnull hC 39 dJ26_balanceInsertion_34 (by decide) ?_
          refine r_aload_n hC 1 dJ26_balanceInsertion_39 rfl 40 rfl ?_
          refine r_aload_n hC 0 dJ26_balanceInsertion_40 rfl 41 rfl ?_
          rcases hsp with ⟨hcp, hcp2⟩ | ⟨hcp, hcp2⟩
          · skip
            refine r_getI (v := .ref x2) hC kJ26 7 rfl q2316 (Or.inl rfl) (fun _ h => stW_get h (hTL x5 txq) (ndX_t (hTk x5 txq))) (congrArg (fun o9 => some (va_rf o9)) (hcp)) dJ26_balanceInsertion_41 44 rfl ?_
            refine r_dup hC dJ26_balanceInsertion_44 rfl 45 rfl ?_
            refine r_astore hC 4 [(4, .ref x2), (3, .ref x5), (2, .ref x2), (1, .ref x), (0, .ref root)] dJ26_balanceInsertion_45 (Nat.le_of_ble_eq_true rfl) rfl 47 rfl ?_
            refine r_acne (rx := (some x2)) (ry := (some x2)) hC 150 dJ26_balanceInsertion_47 (by decide) 50 rfl (fun h => absurd (rfl) h) (fun _ => ?_)
            refine r_aload_n hC 1 dJ26_balanceInsertion_50 rfl 51 rfl ?_
            rcases opt_c (rt x5) with hl6 | ⟨x7, hl6⟩
            · skip
              refine r_getI (v := .null) hC kJ26 8 rfl q2317 (Or.inl rfl) (fun _ h => stW_get h (hTL x5 txq) (ndX_t (hTk x5 txq))) (congrArg (fun o9 => some (va_rf o9)) (hl6)) dJ26_balanceInsertion_51 54 rfl ?_
              refine r_dup hC dJ26_balanceInsertion_54 rfl 55 rfl ?_
              refine r_astoreN hC 5 [(5, .null), (4, .ref x2), (3, .ref x5), (2, .ref x2), (1, .ref x), (0, .ref root)] dJ26_balanceInsertion_55 (Nat.le_of_ble_eq_true rfl) rfl 57 rfl ?_
              refine r_ifnullN hC 89 dJ26_balanceInsertion_57 (by decide) ?_
              refine r_aload_n hC 4 dJ26_balanceInsertion_89 rfl 90 rfl ?_
              refine r_aload_n hC 3 dJ26_balanceInsertion_90 rfl 91 rfl ?_
              rcases hsx with ⟨hcx, hcx2⟩ | ⟨hcx, hcx2⟩
              · skip
                rcases opt_c (rt x2) with hl8 | ⟨x9, hl8⟩
                · skip
                  refine r_getI (v := .null) hC kJ26 8 rfl q2317 (Or.inl rfl) (fun _ h => stW_get h (hTL x2 txp) (ndX_t (hTk x2 txp))) (congrArg (fun o9 => some (va_rf o9)) (hl8)) dJ26_balanceInsertion_91 94 rfl ?_
                  refine r_acne (rx := (some x)) (ry := none) hC 123 dJ26_balanceInsertion_94 (by decide) 97 rfl (fun _ => ?_) (fun h => absurd h (fun q9 => by cases q9))
                  refine r_aload_n hC 3 dJ26_balanceInsertion_123 rfl 124 rfl ?_
                  refine r_ifnull hC dJ26_balanceInsertion_124 127 rfl ?_
                  refine r_aload_n hC 3 dJ26_balanceInsertion_127 rfl 128 rfl ?_
                  refine r_iconst hC 0 dJ26_balanceInsertion_128 ic_0 129 rfl ?_
                  refine r_putI (J := xSt F V0 ([] ++ stW L (ndX kd hs ky vl nx bf af pa lf rt pv (va_up rd x2 0)))) hC kJ26 10 rfl q2320 (Or.inl rfl) rfl (fun _ h => stW_get h (hTL x2 txp) (ndX_t (hTk x2 txp))) (Nat.le_of_ble_eq_true rfl) rfl rfl dJ26_balanceInsertion_129 (fun _ h => stW_set h (hTL x2 txp) (ndX_rd (hTk x2 txp))) 132 rfl ?_
                  refine r_aload_n hC 2 dJ26_balanceInsertion_132 rfl 133 rfl ?_
                  refine r_ifnull hC dJ26_balanceInsertion_133 136 rfl ?_
                  refine r_aload_n hC 2 dJ26_balanceInsertion_136 rfl 137 rfl ?_
                  refine r_iconst hC 1 dJ26_balanceInsertion_137 ic_1 138 rfl ?_
                  refine r_putI (J := xSt F V0 ([] ++ stW L (ndX kd hs ky vl nx bf af pa lf rt pv (va_up (va_up rd x2 0) x5 1)))) hC kJ26 10 rfl q2320 (Or.inl rfl) rfl (fun _ h => stW_get h (hTL x5 txq) (ndX_t (hTk x5 txq))) (Nat.le_of_ble_eq_true rfl) rfl rfl dJ26_balanceInsertion_138 (fun _ h => stW_set h (hTL x5 txq) (ndX_rd (hTk x5 txq))) 141 rfl ?_
                  refine r_aload_n hC 5 dJ26_balanceInsertion_141 rfl 142 rfl ?_
                  refine r_aload_n hC 2 dJ26_balanceInsertion_142 rfl 143 rfl ?_
                  refine xCall.ct (wcx := []) (wr := []) (r_cS hC [.ref root, .ref x5] mSJ26_rotateRight q2280 (fun V9 h9 => (metJ26_rotateRight _ _ hG L kd hs ky vl nx bf af pa lf rt pv (va_up (va_up rd x2 0) x5 1) T hTL hTk lo hi root x5 x2 ht txq hcp) V9 (h9.in.cut (wcx := []) (wr := []) [] [] 0 rfl rfl rfl rfl)) ⟨rfl, rfl⟩ (by first | omega | (dsimp only; omega)) (by first | omega | (dsimp only; omega)) rfl (Nat.le_of_ble_eq_true rfl) dJ26_balanceInsertion_143) [] [] 0 rfl rfl rfl rfl k n 146 rfl rfl rfl (fun v16 w17 h18 => ?_) (fun _ _ h => h.elim)
                  obtain ⟨pa10, lf11, rt12, rd13, ro14, rfl, f15, rfl⟩ := h18
                  show rn C (xSt F V0 ([] ++ stW L (ndX kd hs ky vl nx bf af pa10 lf11 rt12 pv rd13))) k n 146 [(5, .null), (4, .ref x2), (3, .ref x5), (2, .ref x2), (1, .ref x), (0, .ref root)] [.ref ro14]
                  have hA5 : pa10 x = some x2 := f15.keep hx nqx2 nxp2 hcx2 hl1
                  have hA6 : rd13 x2 = 0 := f15.red (by simp [va_up, nqp2])
                  refine r_astore_n hC 0 [(0, .ref ro14), (5, .null), (4, .ref x2), (3, .ref x5), (2, .ref x2), (1, .ref x)] dJ26_balanceInsertion_146 rfl (Nat.le_of_ble_eq_true rfl) rfl 147 rfl ?_
                  refine r_goto hC 5 dJ26_balanceInsertion_147 (by decide) ?_
                  refine r_aload_n hC 5 dJ26_balanceInsertion_5 rfl 6 rfl ?_
                  refine r_getI (v := .ref x2) hC kJ26 6 rfl q2315 (Or.inl rfl) (fun _ h => stW_get h (hTL x hx) (ndX_t (hTk x hx))) (congrArg (fun o9 => some (va_rf o9)) (hA5)) dJ26_balanceInsertion_6 9 rfl ?_
                  refine r_dup hC dJ26_balanceInsertion_9 rfl 10 rfl ?_
                  refine r_astore_n hC 2 [(2, .ref x2), (0, .ref ro14), (5, .null), (4, .ref x2), (3, .ref x5), (1, .ref x)] dJ26_balanceInsertion_10 rfl (Nat.le_of_ble_eq_true rfl) rfl 11 rfl ?_
                  refine r_ifnonnull hC 21 dJ26_balanceInsertion_11 (by decide) ?_
                  refine r_aload_n hC 0 dJ26_balanceInsertion_21 rfl 22 rfl ?_
                  refine r_getI (v := .int (rd13 x2)) hC kJ26 10 rfl q2320 (Or.inl rfl) (fun _ h => stW_get h (hTL x2 txp) (ndX_t (hTk x2 txp))) rfl dJ26_balanceInsertion_22 25 rfl ?_
                  refine r_eqi (y := 0) (hA6) ?_
                  refine r_ifeq hC 37 dJ26_balanceInsertion_25 (by decide) 28 rfl (fun _ => ?_) (fun h => absurd h (by decide))
                  refine r_aload_n hC 1 dJ26_balanceInsertion_37 rfl 38 rfl ?_
                  refine rn.sub (lv' := []) [] rfl ?_
                  exact kx 38 _ _ _ _ ro14 (Or.inr rfl) (f15.treem ht txq hcp) (((ho.red txp).red txq).trans f15.outm)
                · skip
                  have nz9 : x9 ≠ x := fun e => hcx2 (by rw [← e]; exact hl8)
                  refine r_getI (v := .ref x9) hC kJ26 8 rfl q2317 (Or.inl rfl) (fun _ h => stW_get h (hTL x2 txp) (ndX_t (hTk x2 txp))) (congrArg (fun o9 => some (va_rf o9)) (hl8)) dJ26_balanceInsertion_91 94 rfl ?_
                  refine r_acne (rx := (some x)) (ry := (some x9)) hC 123 dJ26_balanceInsertion_94 (by decide) 97 rfl (fun _ => ?_) (fun h => absurd h (fun q9 => (Ne.symm nz9) (Option.some.inj q9)))
                  refine r_aload_n hC 3 dJ26_balanceInsertion_123 rfl 124 rfl ?_
                  refine r_ifnull hC dJ26_balanceInsertion_124 127 rfl ?_
                  refine r_aload_n hC 3 dJ26_balanceInsertion_127 rfl 128 rfl ?_
                  refine r_iconst hC 0 dJ26_balanceInsertion_128 ic_0 129 rfl ?_
                  refine r_putI (J := xSt F V0 ([] ++ stW L (ndX kd hs ky vl nx bf af pa lf rt pv (va_up rd x2 0)))) hC kJ26 10 rfl q2320 (Or.inl rfl) rfl (fun _ h => stW_get h (hTL x2 txp) (ndX_t (hTk x2 txp))) (Nat.le_of_ble_eq_true rfl) rfl rfl dJ26_balanceInsertion_129 (fun _ h => stW_set h (hTL x2 txp) (ndX_rd (hTk x2 txp))) 132 rfl ?_
                  refine r_aload_n hC 2 dJ26_balanceInsertion_132 rfl 133 rfl ?_
                  refine r_ifnull hC dJ26_balanceInsertion_133 136 rfl ?_
                  refine r_aload_n hC 2 dJ26_balanceInsertion_136 rfl 137 rfl ?_
                  refine r_iconst hC 1 dJ26_balanceInsertion_137 ic_1 138 rfl ?_
                  refine r_putI (J := xSt F V0 ([] ++ stW L (ndX kd hs ky vl nx bf af pa lf rt pv (va_up (va_up rd x2 0) x5 1)))) hC kJ26 10 rfl q2320 (Or.inl rfl) rfl (fun _ h => stW_get h (hTL x5 txq) (ndX_t (hTk x5 txq))) (Nat.le_of_ble_eq_true rfl) rfl rfl dJ26_balanceInsertion_138 (fun _ h => stW_set h (hTL x5 txq) (ndX_rd (hTk x5 txq))) 141 rfl ?_
                  refine r_aload_n hC 5 dJ26_balanceInsertion_141 rfl 142 rfl ?_
                  refine r_aload_n hC 2 dJ26_balanceInsertion_142 rfl 143 rfl ?_
                  refine xCall.ct (wcx := []) (wr := []) (r_cS hC [.ref root, .ref x5] mSJ26_rotateRight q2280 (fun V9 h9 => (metJ26_rotateRight _ _ hG L kd hs ky vl nx bf af pa lf rt pv (va_up (va_up rd x2 0) x5 1) T hTL hTk lo hi root x5 x2 ht txq hcp) V9 (h9.in.cut (wcx := []) (wr := []) [] [] 0 rfl rfl rfl rfl)) ⟨rfl, rfl⟩ (by first | omega | (dsimp only; omega)) (by first | omega | (dsimp only; omega)) rfl (Nat.le_of_ble_eq_true rfl) dJ26_balanceInsertion_143) [] [] 0 rfl rfl rfl rfl k n 146 rfl rfl rfl (fun v25 w26 h27 => ?_) (fun _ _ h => h.elim)
                  obtain ⟨pa19, lf20, rt21, rd22, ro23, rfl, f24, rfl⟩ := h27
                  show rn C (xSt F V0 ([] ++ stW L (ndX kd hs ky vl nx bf af pa19 lf20 rt21 pv rd22))) k n 146 [(5, .null), (4, .ref x2), (3, .ref x5), (2, .ref x2), (1, .ref x), (0, .ref root)] [.ref ro23]
                  have hA5 : pa19 x = some x2 := f24.keep hx nqx2 nxp2 hcx2 hl1
                  have hA6 : rd22 x2 = 0 := f24.red (by simp [va_up, nqp2])
                  refine r_astore_n hC 0 [(0, .ref ro23), (5, .null), (4, .ref x2), (3, .ref x5), (2, .ref x2), (1, .ref x)] dJ26_balanceInsertion_146 rfl (Nat.le_of_ble_eq_true rfl) rfl 147 rfl ?_
                  refine r_goto hC 5 dJ26_balanceInsertion_147 (by decide) ?_
                  refine r_aload_n hC 5 dJ26_balanceInsertion_5 rfl 6 rfl ?_
                  refine r_getI (v := .ref x2) hC kJ26 6 rfl q2315 (Or.inl rfl) (fun _ h => stW_get h (hTL x hx) (ndX_t (hTk x hx))) (congrArg (fun o9 => some (va_rf o9)) (hA5)) dJ26_balanceInsertion_6 9 rfl ?_
                  refine r_dup hC dJ26_balanceInsertion_9 rfl 10 rfl ?_
                  refine r_astore_n hC 2 [(2, .ref x2), (0, .ref ro23), (5, .null), (4, .ref x2), (3, .ref x5), (1, .ref x)] dJ26_balanceInsertion_10 rfl (Nat.le_of_ble_eq_true rfl) rfl 11 rfl ?_
                  refine r_ifnonnull hC 21 dJ26_balanceInsertion_11 (by decide) ?_
                  refine r_aload_n hC 0 dJ26_balanceInsertion_21 rfl 22 rfl ?_
                  refine r_getI (v := .int (rd22 x2)) hC kJ26 10 rfl q2320 (Or.inl rfl) (fun _ h => stW_get h (hTL x2 txp) (ndX_t (hTk x2 txp))) rfl dJ26_balanceInsertion_22 25 rfl ?_
                  refine r_eqi (y := 0) (hA6) ?_
                  refine r_ifeq hC 37 dJ26_balanceInsertion_25 (by decide) 28 rfl (fun _ => ?_) (fun h => absurd h (by decide))
                  refine r_aload_n hC 1 dJ26_balanceInsertion_37 rfl 38 rfl ?_
                  refine rn.sub (lv' := []) [] rfl ?_
                  exact kx 38 _ _ _ _ ro23 (Or.inr rfl) (f24.treem ht txq hcp) (((ho.red txp).red txq).trans f24.outm)
              · skip
                refine r_getI (v := .ref x) hC kJ26 8 rfl q2317 (Or.inl rfl) (fun _ h => stW_get h (hTL x2 txp) (ndX_t (hTk x2 txp))) (congrArg (fun o9 => some (va_rf o9)) (hcx)) dJ26_balanceInsertion_91 94 rfl ?_
                refine r_acne (rx := (some x)) (ry := (some x)) hC 123 dJ26_balanceInsertion_94 (by decide) 97 rfl (fun h => absurd (rfl) h) (fun _ => ?_)
                refine r_aload_n hC 5 dJ26_balanceInsertion_97 rfl 98 rfl ?_
                refine r_aload_n hC 3 dJ26_balanceInsertion_98 rfl 99 rfl ?_
                refine r_dup hC dJ26_balanceInsertion_99 rfl 100 rfl ?_
                refine r_astore_n hC 1 [(1, .ref x2), (5, .null), (4, .ref x2), (3, .ref x5), (2, .ref x2), (0, .ref root)] dJ26_balanceInsertion_100 rfl (Nat.le_of_ble_eq_true rfl) rfl 101 rfl ?_
                refine xCall.ct (wcx := []) (wr := []) (r_cS hC [.ref root, .ref x2] mSJ26_rotateLeft q2277 (fun V9 h9 => (metJ26_rotateLeft _ _ hG L kd hs ky vl nx bf af pa lf rt pv rd T hTL hTk lo hi root x2 x ht txp hcx) V9 (h9.in.cut (wcx := []) (wr := []) [] [] 0 rfl rfl rfl rfl)) ⟨rfl, rfl⟩ (by first | omega | (dsimp only; omega)) (by first | omega | (dsimp only; omega)) rfl (Nat.le_of_ble_eq_true rfl) dJ26_balanceInsertion_101) [] [] 0 rfl rfl rfl rfl k n 104 rfl rfl rfl (fun v34 w35 h36 => ?_) (fun _ _ h => h.elim)
                obtain ⟨pa28, lf29, rt30, rd31, ro32, rfl, f33, rfl⟩ := h36
                show rn C (xSt F V0 ([] ++ stW L (ndX kd hs ky vl nx bf af pa28 lf29 rt30 pv rd31))) k n 104 [(1, .ref x2), (5, .null), (4, .ref x2), (3, .ref x5), (2, .ref x2), (0, .ref root)] [.ref ro32]
                obtain ⟨lo1, hi1, ht1⟩ := f33.tree ht txp hcx
                have hA1 : pa28 x2 = some x := f33.2.2.1
                have hA2 : pa28 x = some x5 := f33.2.2.2.1.trans hl4
                have hA3 : lf29 x5 = some x := (f33.2.2.2.2.2.2.2.2.1 x5 txq nqp nqx).2.2.1 hcp
                refine r_astore_n hC 0 [(0, .ref ro32), (1, .ref x2), (5, .null), (4, .ref x2), (3, .ref x5), (2, .ref x2)] dJ26_balanceInsertion_104 rfl (Nat.le_of_ble_eq_true rfl) rfl 105 rfl ?_
                refine r_aload_n hC 1 dJ26_balanceInsertion_105 rfl 106 rfl ?_
                refine r_getI (v := .ref x) hC kJ26 6 rfl q2315 (Or.inl rfl) (fun _ h => stW_get h (hTL x2 txp) (ndX_t (hTk x2 txp))) (congrArg (fun o9 => some (va_rf o9)) (hA1)) dJ26_balanceInsertion_106 109 rfl ?_
                refine r_dup hC dJ26_balanceInsertion_109 rfl 110 rfl ?_
                refine r_astore_n hC 2 [(2, .ref x), (0, .ref ro32), (1, .ref x2), (5, .null), (4, .ref x2), (3, .ref x5)] dJ26_balanceInsertion_110 rfl (Nat.le_of_ble_eq_true rfl) rfl 111 rfl ?_
                refine r_ifnonnull hC 118 dJ26_balanceInsertion_111 (by decide) ?_
                refine r_aload_n hC 0 dJ26_balanceInsertion_118 rfl 119 rfl ?_
                refine r_getI (v := .ref x5) hC kJ26 6 rfl q2315 (Or.inl rfl) (fun _ h => stW_get h (hTL x hx) (ndX_t (hTk x hx))) (congrArg (fun o9 => some (va_rf o9)) (hA2)) dJ26_balanceInsertion_119 122 rfl ?_
                refine r_astore_n hC 3 [(3, .ref x5), (2, .ref x), (0, .ref ro32), (1, .ref x2), (5, .null), (4, .ref x2)] dJ26_balanceInsertion_122 rfl (Nat.le_of_ble_eq_true rfl) rfl 123 rfl ?_
                refine r_aload_n hC 1 dJ26_balanceInsertion_123 rfl 124 rfl ?_
                refine r_ifnull hC dJ26_balanceInsertion_124 127 rfl ?_
                refine r_aload_n hC 1 dJ26_balanceInsertion_127 rfl 128 rfl ?_
                refine r_iconst hC 0 dJ26_balanceInsertion_128 ic_0 129 rfl ?_
                refine r_putI (J := xSt F V0 ([] ++ stW L (ndX kd hs ky vl nx bf af pa28 lf29 rt30 pv (va_up rd31 x 0)))) hC kJ26 10 rfl q2320 (Or.inl rfl) rfl (fun _ h => stW_get h (hTL x hx) (ndX_t (hTk x hx))) (Nat.le_of_ble_eq_true rfl) rfl rfl dJ26_balanceInsertion_129 (fun _ h => stW_set h (hTL x hx) (ndX_rd (hTk x hx))) 132 rfl ?_
                refine r_aload_n hC 0 dJ26_balanceInsertion_132 rfl 133 rfl ?_
                refine r_ifnull hC dJ26_balanceInsertion_133 136 rfl ?_
                refine r_aload_n hC 0 dJ26_balanceInsertion_136 rfl 137 rfl ?_
                refine r_iconst hC 1 dJ26_balanceInsertion_137 ic_1 138 rfl ?_
                refine r_putI (J := xSt F V0 ([] ++ stW L (ndX kd hs ky vl nx bf af pa28 lf29 rt30 pv (va_up (va_up rd31 x 0) x5 1)))) hC kJ26 10 rfl q2320 (Or.inl rfl) rfl (fun _ h => stW_get h (hTL x5 txq) (ndX_t (hTk x5 txq))) (Nat.le_of_ble_eq_true rfl) rfl rfl dJ26_balanceInsertion_138 (fun _ h => stW_set h (hTL x5 txq) (ndX_rd (hTk x5 txq))) 141 rfl ?_
                refine r_aload_n hC 2 dJ26_balanceInsertion_141 rfl 142 rfl ?_
                refine r_aload_n hC 0 dJ26_balanceInsertion_142 rfl 143 rfl ?_
                refine xCall.ct (wcx := []) (wr := []) (r_cS hC [.ref ro32, .ref x5] mSJ26_rotateRight q2280 (fun V9 h9 => (metJ26_rotateRight _ _ hG L kd hs ky vl nx bf af pa28 lf29 rt30 pv (va_up (va_up rd31 x 0) x5 1) T hTL hTk lo1 hi1 ro32 x5 x ht1 txq hA3) V9 (h9.in.cut (wcx := []) (wr := []) [] [] 0 rfl rfl rfl rfl)) ⟨rfl, rfl⟩ (by first | omega | (dsimp only; omega)) (by first | omega | (dsimp only; omega)) rfl (Nat.le_of_ble_eq_true rfl) dJ26_balanceInsertion_143) [] [] 0 rfl rfl rfl rfl k n 146 rfl rfl rfl (fun v43 w44 h45 => ?_) (fun _ _ h => h.elim)
                obtain ⟨pa37, lf38, rt39, rd40, ro41, rfl, f42, rfl⟩ := h45
                show rn C (xSt F V0 ([] ++ stW L (ndX kd hs ky vl nx bf af pa37 lf38 rt39 pv rd40))) k n 146 [(3, .ref x5), (2, .ref x), (0, .ref ro32), (1, .ref x2), (5, .null), (4, .ref x2)] [.ref ro41]
                have hA4 : rt30 x ≠ some x2 := fun z => by
                  have z2 : rt x = some x2 := f33.2.2.2.2.2.2.2.1.symm.trans z
                  have g1 := (ht.rtK hx z2).2.2
                  have g2 := (ht.rtK txp hcx).2.2
                  omega
                have hA5 : pa37 x2 = some x := f42.keep txp nqp2 nxp hA4 hA1
                have hA6 : rd40 x = 0 := f42.red (by simp [va_up, nqx2])
                refine r_astore_n hC 0 [(0, .ref ro41), (3, .ref x5), (2, .ref x), (1, .ref x2), (5, .null), (4, .ref x2)] dJ26_balanceInsertion_146 rfl (Nat.le_of_ble_eq_true rfl) rfl 147 rfl ?_
                refine r_goto hC 5 dJ26_balanceInsertion_147 (by decide) ?_
                refine r_aload_n hC 3 dJ26_balanceInsertion_5 rfl 6 rfl ?_
                refine r_getI (v := .ref x) hC kJ26 6 rfl q2315 (Or.inl rfl) (fun _ h => stW_get h (hTL x2 txp) (ndX_t (hTk x2 txp))) (congrArg (fun o9 => some (va_rf o9)) (hA5)) dJ26_balanceInsertion_6 9 rfl ?_
                refine r_dup hC dJ26_balanceInsertion_9 rfl 10 rfl ?_
                refine r_astore_n hC 2 [(2, .ref x), (0, .ref ro41), (3, .ref x5), (1, .ref x2), (5, .null), (4, .ref x2)] dJ26_balanceInsertion_10 rfl (Nat.le_of_ble_eq_true rfl) rfl 11 rfl ?_
                refine r_ifnonnull hC 21 dJ26_balanceInsertion_11 (by decide) ?_
                refine r_aload_n hC 0 dJ26_balanceInsertion_21 rfl 22 rfl ?_
                refine r_getI (v := .int (rd40 x)) hC kJ26 10 rfl q2320 (Or.inl rfl) (fun _ h => stW_get h (hTL x hx) (ndX_t (hTk x hx))) rfl dJ26_balanceInsertion_22 25 rfl ?_
                refine r_eqi (y := 0) (hA6) ?_
                refine r_ifeq hC 37 dJ26_balanceInsertion_25 (by decide) 28 rfl (fun _ => ?_) (fun h => absurd h (by decide))
                refine r_aload_n hC 1 dJ26_balanceInsertion_37 rfl 38 rfl ?_
                refine rn.sub (lv' := []) [] rfl ?_
                exact kx 38 _ _ _ _ ro41 (Or.inr rfl) (f42.treem ht1 txq hA3) ((((ho.trans f33.out).red hx).red txq).trans f42.outm)
            · skip
              obtain ⟨tun, -, -⟩ := ht.rtK txq hl6
              refine r_getI (v := .ref x7) hC kJ26 8 rfl q2317 (Or.inl rfl) (fun _ h => stW_get h (hTL x5 txq) (ndX_t (hTk x5 txq))) (congrArg (fun o9 => some (va_rf o9)) (hl6)) dJ26_balanceInsertion_51 54 rfl ?_
              refine r_dup hC dJ26_balanceInsertion_54 rfl 55 rfl ?_
              refine r_astore hC 5 [(5, .ref x7), (4, .ref x2), (3, .ref x5), (2, .ref x2), (1, .ref x), (0, .ref root)] dJ26_balanceInsertion_55 (Nat.le_of_ble_eq_true rfl) rfl 57 rfl ?_
              refine r_ifnull hC dJ26_balanceInsertion_57 60 rfl ?_
              refine r_aload hC 0 dJ26_balanceInsertion_60 rfl 62 rfl ?_
              refine r_getI (v := .int (rd x7)) hC kJ26 10 rfl q2320 (Or.inl rfl) (fun _ h => stW_get h (hTL x7 tun) (ndX_t (hTk x7 tun))) rfl dJ26_balanceInsertion_62 65 rfl ?_
              refine r_ifeq hC 89 dJ26_balanceInsertion_65 (by decide) 68 rfl (fun c46 => ?_) (fun c46 => ?_)
              · skip
                refine r_aload_n hC 4 dJ26_balanceInsertion_89 rfl 90 rfl ?_
                refine r_aload_n hC 3 dJ26_balanceInsertion_90 rfl 91 rfl ?_
                rcases hsx with ⟨hcx, hcx2⟩ | ⟨hcx, hcx2⟩
                · skip
                  rcases opt_c (rt x2) with hl47 | ⟨x48, hl47⟩
                  · skip
                    refine r_getI (v := .null) hC kJ26 8 rfl q2317 (Or.inl rfl) (fun _ h => stW_get h (hTL x2 txp) (ndX_t (hTk x2 txp))) (congrArg (fun o9 => some (va_rf o9)) (hl47)) dJ26_balanceInsertion_91 94 rfl ?_
                    refine r_acne (rx := (some x)) (ry := none) hC 123 dJ26_balanceInsertion_94 (by decide) 97 rfl (fun _ => ?_) (fun h => absurd h (fun q9 => by cases q9))
                    refine r_aload_n hC 3 dJ26_balanceInsertion_123 rfl 124 rfl ?_
                    refine r_ifnull hC dJ26_balanceInsertion_124 127 rfl ?_
                    refine r_aload_n hC 3 dJ26_balanceInsertion_127 rfl 128 rfl ?_
                    refine r_iconst hC 0 dJ26_balanceInsertion_128 ic_0 129 rfl ?_
                    refine r_putI (J := xSt F V0 ([] ++ stW L (ndX kd hs ky vl nx bf af pa lf rt pv (va_up rd x2 0)))) hC kJ26 10 rfl q2320 (Or.inl rfl) rfl (fun _ h => stW_get h (hTL x2 txp) (ndX_t (hTk x2 txp))) (Nat.le_of_ble_eq_true rfl) rfl rfl dJ26_balanceInsertion_129 (fun _ h => stW_set h (hTL x2 txp) (ndX_rd (hTk x2 txp))) 132 rfl ?_
                    refine r_aload_n hC 2 dJ26_balanceInsertion_132 rfl 133 rfl ?_
                    refine r_ifnull hC dJ26_balanceInsertion_133 136 rfl ?_
                    refine r_aload_n hC 2 dJ26_balanceInsertion_136 rfl 137 rfl ?_
                    refine r_iconst hC 1 dJ26_balanceInsertion_137 ic_1 138 rfl ?_
                    refine r_putI (J := xSt F V0 ([] ++ stW L (ndX kd hs ky vl nx bf af pa lf rt pv (va_up (va_up rd x2 0) x5 1)))) hC kJ26 10 rfl q2320 (Or.inl rfl) rfl (fun _ h => stW_get h (hTL x5 txq) (ndX_t (hTk x5 txq))) (Nat.le_of_ble_eq_true rfl) rfl rfl dJ26_balanceInsertion_138 (fun _ h => stW_set h (hTL x5 txq) (ndX_rd (hTk x5 txq))) 141 rfl ?_
                    refine r_aload_n hC 5 dJ26_balanceInsertion_141 rfl 142 rfl ?_
                    refine r_aload_n hC 2 dJ26_balanceInsertion_142 rfl 143 rfl ?_
                    refine xCall.ct (wcx := []) (wr := []) (r_cS hC [.ref root, .ref x5] mSJ26_rotateRight q2280 (fun V9 h9 => (metJ26_rotateRight _ _ hG L kd hs ky vl nx bf af pa lf rt pv (va_up (va_up rd x2 0) x5 1) T hTL hTk lo hi root x5 x2 ht txq hcp) V9 (h9.in.cut (wcx := []) (wr := []) [] [] 0 rfl rfl rfl rfl)) ⟨rfl, rfl⟩ (by first | omega | (dsimp only; omega)) (by first | omega | (dsimp only; omega)) rfl (Nat.le_of_ble_eq_true rfl) dJ26_balanceInsertion_143) [] [] 0 rfl rfl rfl rfl k n 146 rfl rfl rfl (fun v55 w56 h57 => ?_) (fun _ _ h => h.elim)
                    obtain ⟨pa49, lf50, rt51, rd52, ro53, rfl, f54, rfl⟩ := h57
                    show rn C (xSt F V0 ([] ++ stW L (ndX kd hs ky vl nx bf af pa49 lf50 rt51 pv rd52))) k n 146 [(5, .ref x7), (4, .ref x2), (3, .ref x5), (2, .ref x2), (1, .ref x), (0, .ref root)] [.ref ro53]
                    have hA5 : pa49 x = some x2 := f54.keep hx nqx2 nxp2 hcx2 hl1
                    have hA6 : rd52 x2 = 0 := f54.red (by simp [va_up, nqp2])
                    refine r_astore_n hC 0 [(0, .ref ro53), (5, .ref x7), (4, .ref x2), (3, .ref x5), (2, .ref x2), (1, .ref x)] dJ26_balanceInsertion_146 rfl (Nat.le_of_ble_eq_true rfl) rfl 147 rfl ?_
                    refine r_goto hC 5 dJ26_balanceInsertion_147 (by decide) ?_
                    refine r_aload_n hC 5 dJ26_balanceInsertion_5 rfl 6 rfl ?_
                    refine r_getI (v := .ref x2) hC kJ26 6 rfl q2315 (Or.inl rfl) (fun _ h => stW_get h (hTL x hx) (ndX_t (hTk x hx))) (congrArg (fun o9 => some (va_rf o9)) (hA5)) dJ26_balanceInsertion_6 9 rfl ?_
                    refine r_dup hC dJ26_balanceInsertion_9 rfl 10 rfl ?_
                    refine r_astore_n hC 2 [(2, .ref x2), (0, .ref ro53), (5, .ref x7), (4, .ref x2), (3, .ref x5), (1, .ref x)] dJ26_balanceInsertion_10 rfl (Nat.le_of_ble_eq_true rfl) rfl 11 rfl ?_
                    refine r_ifnonnull hC 21 dJ26_balanceInsertion_11 (by decide) ?_
                    refine r_aload_n hC 0 dJ26_balanceInsertion_21 rfl 22 rfl ?_
                    refine r_getI (v := .int (rd52 x2)) hC kJ26 10 rfl q2320 (Or.inl rfl) (fun _ h => stW_get h (hTL x2 txp) (ndX_t (hTk x2 txp))) rfl dJ26_balanceInsertion_22 25 rfl ?_
                    refine r_eqi (y := 0) (hA6) ?_
                    refine r_ifeq hC 37 dJ26_balanceInsertion_25 (by decide) 28 rfl (fun _ => ?_) (fun h => absurd h (by decide))
                    refine r_aload_n hC 1 dJ26_balanceInsertion_37 rfl 38 rfl ?_
                    refine rn.sub (lv' := []) [] rfl ?_
                    exact kx 38 _ _ _ _ ro53 (Or.inr rfl) (f54.treem ht txq hcp) (((ho.red txp).red txq).trans f54.outm)
                  · skip
                    have nz9 : x48 ≠ x := fun e => hcx2 (by rw [← e]; exact hl47)
                    refine r_getI (v := .ref x48) hC kJ26 8 rfl q2317 (Or.inl rfl) (fun _ h => stW_get h (hTL x2 txp) (ndX_t (hTk x2 txp))) (congrArg (fun o9 => some (va_rf o9)) (hl47)) dJ26_balanceInsertion_91 94 rfl ?_
                    refine r_acne (rx := (some x)) (ry := (some x48)) hC 123 dJ26_balanceInsertion_94 (by decide) 97 rfl (fun _ => ?_) (fun h => absurd h (fun q9 => (Ne.symm nz9) (Option.some.inj q9)))
                    refine r_aload_n hC 3 dJ26_balanceInsertion_123 rfl 124 rfl ?_
                    refine r_ifnull hC dJ26_balanceInsertion_124 127 rfl ?_
                    refine r_aload_n hC 3 dJ26_balanceInsertion_127 rfl 128 rfl ?_
                    refine r_iconst hC 0 dJ26_balanceInsertion_128 ic_0 129 rfl ?_
                    refine r_putI (J := xSt F V0 ([] ++ stW L (ndX kd hs ky vl nx bf af pa lf rt pv (va_up rd x2 0)))) hC kJ26 10 rfl q2320 (Or.inl rfl) rfl (fun _ h => stW_get h (hTL x2 txp) (ndX_t (hTk x2 txp))) (Nat.le_of_ble_eq_true rfl) rfl rfl dJ26_balanceInsertion_129 (fun _ h => stW_set h (hTL x2 txp) (ndX_rd (hTk x2 txp))) 132 rfl ?_
                    refine r_aload_n hC 2 dJ26_balanceInsertion_132 rfl 133 rfl ?_
                    refine r_ifnull hC dJ26_balanceInsertion_133 136 rfl ?_
                    refine r_aload_n hC 2 dJ26_balanceInsertion_136 rfl 137 rfl ?_
                    refine r_iconst hC 1 dJ26_balanceInsertion_137 ic_1 138 rfl ?_
                    refine r_putI (J := xSt F V0 ([] ++ stW L (ndX kd hs ky vl nx bf af pa lf rt pv (va_up (va_up rd x2 0) x5 1)))) hC kJ26 10 rfl q2320 (Or.inl rfl) rfl (fun _ h => stW_get h (hTL x5 txq) (ndX_t (hTk x5 txq))) (Nat.le_of_ble_eq_true rfl) rfl rfl dJ26_balanceInsertion_138 (fun _ h => stW_set h (hTL x5 txq) (ndX_rd (hTk x5 txq))) 141 rfl ?_
                    refine r_aload_n hC 5 dJ26_balanceInsertion_141 rfl 142 rfl ?_
                    refine r_aload_n hC 2 dJ26_balanceInsertion_142 rfl 143 rfl ?_
                    refine xCall.ct (wcx := []) (wr := []) (r_cS hC [.ref root, .ref x5] mSJ26_rotateRight q2280 (fun V9 h9 => (metJ26_rotateRight _ _ hG L kd hs ky vl nx bf af pa lf rt pv (va_up (va_up rd x2 0) x5 1) T hTL hTk lo hi root x5 x2 ht txq hcp) V9 (h9.in.cut (wcx := []) (wr := []) [] [] 0 rfl rfl rfl rfl)) ⟨rfl, rfl⟩ (by first | omega | (dsimp only; omega)) (by first | omega | (dsimp only; omega)) rfl (Nat.le_of_ble_eq_true rfl) dJ26_balanceInsertion_143) [] [] 0 rfl rfl rfl rfl k n 146 rfl rfl rfl (fun v64 w65 h66 => ?_) (fun _ _ h => h.elim)
                    obtain ⟨pa58, lf59, rt60, rd61, ro62, rfl, f63, rfl⟩ := h66
                    show rn C (xSt F V0 ([] ++ stW L (ndX kd hs ky vl nx bf af pa58 lf59 rt60 pv rd61))) k n 146 [(5, .ref x7), (4, .ref x2), (3, .ref x5), (2, .ref x2), (1, .ref x), (0, .ref root)] [.ref ro62]
                    have hA5 : pa58 x = some x2 := f63.keep hx nqx2 nxp2 hcx2 hl1
                    have hA6 : rd61 x2 = 0 := f63.red (by simp [va_up, nqp2])
                    refine r_astore_n hC 0 [(0, .ref ro62), (5, .ref x7), (4, .ref x2), (3, .ref x5), (2, .ref x2), (1, .ref x)] dJ26_balanceInsertion_146 rfl (Nat.le_of_ble_eq_true rfl) rfl 147 rfl ?_
                    refine r_goto hC 5 dJ26_balanceInsertion_147 (by decide) ?_
                    refine r_aload_n hC 5 dJ26_balanceInsertion_5 rfl 6 rfl ?_
                    refine r_getI (v := .ref x2) hC kJ26 6 rfl q2315 (Or.inl rfl) (fun _ h => stW_get h (hTL x hx) (ndX_t (hTk x hx))) (congrArg (fun o9 => some (va_rf o9)) (hA5)) dJ26_balanceInsertion_6 9 rfl ?_
                    refine r_dup hC dJ26_balanceInsertion_9 rfl 10 rfl ?_
                    refine r_astore_n hC 2 [(2, .ref x2), (0, .ref ro62), (5, .ref x7), (4, .ref x2), (3, .ref x5), (1, .ref x)] dJ26_balanceInsertion_10 rfl (Nat.le_of_ble_eq_true rfl) rfl 11 rfl ?_
                    refine r_ifnonnull hC 21 dJ26_balanceInsertion_11 (by decide) ?_
                    refine r_aload_n hC 0 dJ26_balanceInsertion_21 rfl 22 rfl ?_
                    refine r_getI (v := .int (rd61 x2)) hC kJ26 10 rfl q2320 (Or.inl rfl) (fun _ h => stW_get h (hTL x2 txp) (ndX_t (hTk x2 txp))) rfl dJ26_balanceInsertion_22 25 rfl ?_
                    refine r_eqi (y := 0) (hA6) ?_
                    refine r_ifeq hC 37 dJ26_balanceInsertion_25 (by decide) 28 rfl (fun _ => ?_) (fun h => absurd h (by decide))
                    refine r_aload_n hC 1 dJ26_balanceInsertion_37 rfl 38 rfl ?_
                    refine rn.sub (lv' := []) [] rfl ?_
                    exact kx 38 _ _ _ _ ro62 (Or.inr rfl) (f63.treem ht txq hcp) (((ho.red txp).red txq).trans f63.outm)
                · skip
                  refine r_getI (v := .ref x) hC kJ26 8 rfl q2317 (Or.inl rfl) (fun _ h => stW_get h (hTL x2 txp) (ndX_t (hTk x2 txp))) (congrArg (fun o9 => some (va_rf o9)) (hcx)) dJ26_balanceInsertion_91 94 rfl ?_
                  refine r_acne (rx := (some x)) (ry := (some x)) hC 123 dJ26_balanceInsertion_94 (by decide) 97 rfl (fun h => absurd (rfl) h) (fun _ => ?_)
                  refine r_aload_n hC 5 dJ26_balanceInsertion_97 rfl 98 rfl ?_
                  refine r_aload_n hC 3 dJ26_balanceInsertion_98 rfl 99 rfl ?_
                  refine r_dup hC dJ26_balanceInsertion_99 rfl 100 rfl ?_
                  refine r_astore_n hC 1 [(1, .ref x2), (5, .ref x7), (4, .ref x2), (3, .ref x5), (2, .ref x2), (0, .ref root)] dJ26_balanceInsertion_100 rfl (Nat.le_of_ble_eq_true rfl) rfl 101 rfl ?_
                  refine xCall.ct (wcx := []) (wr := []) (r_cS hC [.ref root, .ref x2] mSJ26_rotateLeft q2277 (fun V9 h9 => (metJ26_rotateLeft _ _ hG L kd hs ky vl nx bf af pa lf rt pv rd T hTL hTk lo hi root x2 x ht txp hcx) V9 (h9.in.cut (wcx := []) (wr := []) [] [] 0 rfl rfl rfl rfl)) ⟨rfl, rfl⟩ (by first | omega | (dsimp only; omega)) (by first | omega | (dsimp only; omega)) rfl (Nat.le_of_ble_eq_true rfl) dJ26_balanceInsertion_101) [] [] 0 rfl rfl rfl rfl k n 104 rfl rfl rfl (fun v73 w74 h75 => ?_) (fun _ _ h => h.elim)
                  obtain ⟨pa67, lf68, rt69, rd70, ro71, rfl, f72, rfl⟩ := h75
                  show rn C (xSt F V0 ([] ++ stW L (ndX kd hs ky vl nx bf af pa67 lf68 rt69 pv rd70))) k n 104 [(1, .ref x2), (5, .ref x7), (4, .ref x2), (3, .ref x5), (2, .ref x2), (0, .ref root)] [.ref ro71]
                  obtain ⟨lo1, hi1, ht1⟩ := f72.tree ht txp hcx
                  have hA1 : pa67 x2 = some x := f72.2.2.1
                  have hA2 : pa67 x = some x5 := f72.2.2.2.1.trans hl4
                  have hA3 : lf68 x5 = some x := (f72.2.2.2.2.2.2.2.2.1 x5 txq nqp nqx).2.2.1 hcp
                  refine r_astore_n hC 0 [(0, .ref ro71), (1, .ref x2), (5, .ref x7), (4, .ref x2), (3, .ref x5), (2, .ref x2)] dJ26_balanceInsertion_104 rfl (Nat.le_of_ble_eq_true rfl) rfl 105 rfl ?_
                  refine r_aload_n hC 1 dJ26_balanceInsertion_105 rfl 106 rfl ?_
                  refine r_getI (v := .ref x) hC kJ26 6 rfl q2315 (Or.inl rfl) (fun _ h => stW_get h (hTL x2 txp) (ndX_t (hTk x2 txp))) (congrArg (fun o9 => some (va_rf o9)) (hA1)) dJ26_balanceInsertion_106 109 rfl ?_
                  refine r_dup hC dJ26_balanceInsertion_109 rfl 110 rfl ?_
                  refine r_astore_n hC 2 [(2, .ref x), (0, .ref ro71), (1, .ref x2), (5, .ref x7), (4, .ref x2), (3, .ref x5)] dJ26_balanceInsertion_110 rfl (Nat.le_of_ble_eq_true rfl) rfl 111 rfl ?_
                  refine r_ifnonnull hC 118 dJ26_balanceInsertion_111 (by decide) ?_
                  refine r_aload_n hC 0 dJ26_balanceInsertion_118 rfl 119 rfl ?_
                  refine r_getI (v := .ref x5) hC kJ26 6 rfl q2315 (Or.inl rfl) (fun _ h => stW_get h (hTL x hx) (ndX_t (hTk x hx))) (congrArg (fun o9 => some (va_rf o9)) (hA2)) dJ26_balanceInsertion_119 122 rfl ?_
                  refine r_astore_n hC 3 [(3, .ref x5), (2, .ref x), (0, .ref ro71), (1, .ref x2), (5, .ref x7), (4, .ref x2)] dJ26_balanceInsertion_122 rfl (Nat.le_of_ble_eq_true rfl) rfl 123 rfl ?_
                  refine r_aload_n hC 1 dJ26_balanceInsertion_123 rfl 124 rfl ?_
                  refine r_ifnull hC dJ26_balanceInsertion_124 127 rfl ?_
                  refine r_aload_n hC 1 dJ26_balanceInsertion_127 rfl 128 rfl ?_
                  refine r_iconst hC 0 dJ26_balanceInsertion_128 ic_0 129 rfl ?_
                  refine r_putI (J := xSt F V0 ([] ++ stW L (ndX kd hs ky vl nx bf af pa67 lf68 rt69 pv (va_up rd70 x 0)))) hC kJ26 10 rfl q2320 (Or.inl rfl) rfl (fun _ h => stW_get h (hTL x hx) (ndX_t (hTk x hx))) (Nat.le_of_ble_eq_true rfl) rfl rfl dJ26_balanceInsertion_129 (fun _ h => stW_set h (hTL x hx) (ndX_rd (hTk x hx))) 132 rfl ?_
                  refine r_aload_n hC 0 dJ26_balanceInsertion_132 rfl 133 rfl ?_
                  refine r_ifnull hC dJ26_balanceInsertion_133 136 rfl ?_
                  refine r_aload_n hC 0 dJ26_balanceInsertion_136 rfl 137 rfl ?_
                  refine r_iconst hC 1 dJ26_balanceInsertion_137 ic_1 138 rfl ?_
                  refine r_putI (J := xSt F V0 ([] ++ stW L (ndX kd hs ky vl nx bf af pa67 lf68 rt69 pv (va_up (va_up rd70 x 0) x5 1)))) hC kJ26 10 rfl q2320 (Or.inl rfl) rfl (fun _ h => stW_get h (hTL x5 txq) (ndX_t (hTk x5 txq))) (Nat.le_of_ble_eq_true rfl) rfl rfl dJ26_balanceInsertion_138 (fun _ h => stW_set h (hTL x5 txq) (ndX_rd (hTk x5 txq))) 141 rfl ?_
                  refine r_aload_n hC 2 dJ26_balanceInsertion_141 rfl 142 rfl ?_
                  refine r_aload_n hC 0 dJ26_balanceInsertion_142 rfl 143 rfl ?_
                  refine xCall.ct (wcx := []) (wr := []) (r_cS hC [.ref ro71, .ref x5] mSJ26_rotateRight q2280 (fun V9 h9 => (metJ26_rotateRight _ _ hG L kd hs ky vl nx bf af pa67 lf68 rt69 pv (va_up (va_up rd70 x 0) x5 1) T hTL hTk lo1 hi1 ro71 x5 x ht1 txq hA3) V9 (h9.in.cut (wcx := []) (wr := []) [] [] 0 rfl rfl rfl rfl)) ⟨rfl, rfl⟩ (by first | omega | (dsimp only; omega)) (by first | omega | (dsimp only; omega)) rfl (Nat.le_of_ble_eq_true rfl) dJ26_balanceInsertion_143) [] [] 0 rfl rfl rfl rfl k n 146 rfl rfl rfl (fun v82 w83 h84 => ?_) (fun _ _ h => h.elim)
                  obtain ⟨pa76, lf77, rt78, rd79, ro80, rfl, f81, rfl⟩ := h84
                  show rn C (xSt F V0 ([] ++ stW L (ndX kd hs ky vl nx bf af pa76 lf77 rt78 pv rd79))) k n 146 [(3, .ref x5), (2, .ref x), (0, .ref ro71), (1, .ref x2), (5, .ref x7), (4, .ref x2)] [.ref ro80]
                  have hA4 : rt69 x ≠ some x2 := fun z => by
                    have z2 : rt x = some x2 := f72.2.2.2.2.2.2.2.1.symm.trans z
                    have g1 := (ht.rtK hx z2).2.2
                    have g2 := (ht.rtK txp hcx).2.2
                    omega
                  have hA5 : pa76 x2 = some x := f81.keep txp nqp2 nxp hA4 hA1
                  have hA6 : rd79 x = 0 := f81.red (by simp [va_up, nqx2])
                  refine r_astore_n hC 0 [(0, .ref ro80), (3, .ref x5), (2, .ref x), (1, .ref x2), (5, .ref x7), (4, .ref x2)] dJ26_balanceInsertion_146 rfl (Nat.le_of_ble_eq_true rfl) rfl 147 rfl ?_
                  refine r_goto hC 5 dJ26_balanceInsertion_147 (by decide) ?_
                  refine r_aload_n hC 3 dJ26_balanceInsertion_5 rfl 6 rfl ?_
                  refine r_getI (v := .ref x) hC kJ26 6 rfl q2315 (Or.inl rfl) (fun _ h => stW_get h (hTL x2 txp) (ndX_t (hTk x2 txp))) (congrArg (fun o9 => some (va_rf o9)) (hA5)) dJ26_balanceInsertion_6 9 rfl ?_
                  refine r_dup hC dJ26_balanceInsertion_9 rfl 10 rfl ?_
                  refine r_astore_n hC 2 [(2, .ref x), (0, .ref ro80), (3, .ref x5), (1, .ref x2), (5, .ref x7), (4, .ref x2)] dJ26_balanceInsertion_10 rfl (Nat.le_of_ble_eq_true rfl) rfl 11 rfl ?_
                  refine r_ifnonnull hC 21 dJ26_balanceInsertion_11 (by decide) ?_
                  refine r_aload_n hC 0 dJ26_balanceInsertion_21 rfl 22 rfl ?_
                  refine r_getI (v := .int (rd79 x)) hC kJ26 10 rfl q2320 (Or.inl rfl) (fun _ h => stW_get h (hTL x hx) (ndX_t (hTk x hx))) rfl dJ26_balanceInsertion_22 25 rfl ?_
                  refine r_eqi (y := 0) (hA6) ?_
                  refine r_ifeq hC 37 dJ26_balanceInsertion_25 (by decide) 28 rfl (fun _ => ?_) (fun h => absurd h (by decide))
                  refine r_aload_n hC 1 dJ26_balanceInsertion_37 rfl 38 rfl ?_
                  refine rn.sub (lv' := []) [] rfl ?_
                  exact kx 38 _ _ _ _ ro80 (Or.inr rfl) (f81.treem ht1 txq hA3) ((((ho.trans f72.out).red hx).red txq).trans f81.outm)
              · skip
                refine r_aload hC 0 dJ26_balanceInsertion_68 rfl 70 rfl ?_
                refine r_iconst hC 0 dJ26_balanceInsertion_70 ic_0 71 rfl ?_
                refine r_putI (J := xSt F V0 ([] ++ stW L (ndX kd hs ky vl nx bf af pa lf rt pv (va_up rd x7 0)))) hC kJ26 10 rfl q2320 (Or.inl rfl) rfl (fun _ h => stW_get h (hTL x7 tun) (ndX_t (hTk x7 tun))) (Nat.le_of_ble_eq_true rfl) rfl rfl dJ26_balanceInsertion_71 (fun _ h => stW_set h (hTL x7 tun) (ndX_rd (hTk x7 tun))) 74 rfl ?_
                refine r_aload_n hC 3 dJ26_balanceInsertion_74 rfl 75 rfl ?_
                refine r_iconst hC 0 dJ26_balanceInsertion_75 ic_0 76 rfl ?_
                refine r_putI (J := xSt F V0 ([] ++ stW L (ndX kd hs ky vl nx bf af pa lf rt pv (va_up (va_up rd x7 0) x2 0)))) hC kJ26 10 rfl q2320 (Or.inl rfl) rfl (fun _ h => stW_get h (hTL x2 txp) (ndX_t (hTk x2 txp))) (Nat.le_of_ble_eq_true rfl) rfl rfl dJ26_balanceInsertion_76 (fun _ h => stW_set h (hTL x2 txp) (ndX_rd (hTk x2 txp))) 79 rfl ?_
                refine r_aload_n hC 2 dJ26_balanceInsertion_79 rfl 80 rfl ?_
                refine r_iconst hC 1 dJ26_balanceInsertion_80 ic_1 81 rfl ?_
                refine r_putI (J := xSt F V0 ([] ++ stW L (ndX kd hs ky vl nx bf af pa lf rt pv (va_up (va_up (va_up rd x7 0) x2 0) x5 1)))) hC kJ26 10 rfl q2320 (Or.inl rfl) rfl (fun _ h => stW_get h (hTL x5 txq) (ndX_t (hTk x5 txq))) (Nat.le_of_ble_eq_true rfl) rfl rfl dJ26_balanceInsertion_81 (fun _ h => stW_set h (hTL x5 txq) (ndX_rd (hTk x5 txq))) 84 rfl ?_
                refine r_aload_n hC 2 dJ26_balanceInsertion_84 rfl 85 rfl ?_
                refine r_astore_n hC 1 [(1, .ref x5), (5, .ref x7), (4, .ref x2), (3, .ref x5), (2, .ref x2), (0, .ref root)] dJ26_balanceInsertion_85 rfl (Nat.le_of_ble_eq_true rfl) rfl 86 rfl ?_
                refine r_goto hC 5 dJ26_balanceInsertion_86 (by decide) ?_
                refine rn.sub (lv' := [(1, .ref x5), (0, .ref root)]) [0, 5] rfl ?_
                obtain ⟨hm9, -, -⟩ := ht.meas hx hl1 txp hl4
                exact ih pa lf rt _ root x5 lo hi ht txq ((((ho.red tun).red txp)).red txq) (by omega)
          · skip
            rcases opt_c (lf x5) with hl85 | ⟨x86, hl85⟩
            · skip
              refine r_getI (v := .null) hC kJ26 7 rfl q2316 (Or.inl rfl) (fun _ h => stW_get h (hTL x5 txq) (ndX_t (hTk x5 txq))) (congrArg (fun o9 => some (va_rf o9)) (hl85)) dJ26_balanceInsertion_41 44 rfl ?_
              refine r_dup hC dJ26_balanceInsertion_44 rfl 45 rfl ?_
              refine r_astoreN hC 4 [(4, .null), (3, .ref x5), (2, .ref x2), (1, .ref x), (0, .ref root)] dJ26_balanceInsertion_45 (Nat.le_of_ble_eq_true rfl) rfl 47 rfl ?_
              refine r_acne (rx := (some x2)) (ry := none) hC 150 dJ26_balanceInsertion_47 (by decide) 50 rfl (fun _ => ?_) (fun h => absurd h (fun q9 => by cases q9))
              refine r_aloadN hC 0 dJ26_balanceInsertion_150 rfl 152 rfl ?_
              refine r_ifnullN hC 184 dJ26_balanceInsertion_152 (by decide) ?_
              refine r_aload_n hC 3 dJ26_balanceInsertion_184 rfl 185 rfl ?_
              refine r_aload_n hC 2 dJ26_balanceInsertion_185 rfl 186 rfl ?_
              rcases hsx with ⟨hcx, hcx2⟩ | ⟨hcx, hcx2⟩
              · skip
                refine r_getI (v := .ref x) hC kJ26 7 rfl q2316 (Or.inl rfl) (fun _ h => stW_get h (hTL x2 txp) (ndX_t (hTk x2 txp))) (congrArg (fun o9 => some (va_rf o9)) (hcx)) dJ26_balanceInsertion_186 189 rfl ?_
                refine r_acne (rx := (some x)) (ry := (some x)) hC 218 dJ26_balanceInsertion_189 (by decide) 192 rfl (fun h => absurd (rfl) h) (fun _ => ?_)
                refine r_aload_n hC 4 dJ26_balanceInsertion_192 rfl 193 rfl ?_
                refine r_aload_n hC 2 dJ26_balanceInsertion_193 rfl 194 rfl ?_
                refine r_dup hC dJ26_balanceInsertion_194 rfl 195 rfl ?_
                refine r_astore_n hC 1 [(1, .ref x2), (4, .null), (3, .ref x5), (2, .ref x2), (0, .ref root)] dJ26_balanceInsertion_195 rfl (Nat.le_of_ble_eq_true rfl) rfl 196 rfl ?_
                refine xCall.ct (wcx := []) (wr := []) (r_cS hC [.ref root, .ref x2] mSJ26_rotateRight q2280 (fun V9 h9 => (metJ26_rotateRight _ _ hG L kd hs ky vl nx bf af pa lf rt pv rd T hTL hTk lo hi root x2 x ht txp hcx) V9 (h9.in.cut (wcx := []) (wr := []) [] [] 0 rfl rfl rfl rfl)) ⟨rfl, rfl⟩ (by first | omega | (dsimp only; omega)) (by first | omega | (dsimp only; omega)) rfl (Nat.le_of_ble_eq_true rfl) dJ26_balanceInsertion_196) [] [] 0 rfl rfl rfl rfl k n 199 rfl rfl rfl (fun v93 w94 h95 => ?_) (fun _ _ h => h.elim)
                obtain ⟨pa87, lf88, rt89, rd90, ro91, rfl, f92, rfl⟩ := h95
                show rn C (xSt F V0 ([] ++ stW L (ndX kd hs ky vl nx bf af pa87 lf88 rt89 pv rd90))) k n 199 [(1, .ref x2), (4, .null), (3, .ref x5), (2, .ref x2), (0, .ref root)] [.ref ro91]
                obtain ⟨lo1, hi1, ht1⟩ := f92.treem ht txp hcx
                have hA1 : pa87 x2 = some x := f92.2.2.1
                have hA2 : pa87 x = some x5 := f92.2.2.2.1.trans hl4
                have hA3 : rt89 x5 = some x := (f92.2.2.2.2.2.2.2.2.1 x5 txq nqp nqx).2.2.1 hcp
                refine r_astore_n hC 0 [(0, .ref ro91), (1, .ref x2), (4, .null), (3, .ref x5), (2, .ref x2)] dJ26_balanceInsertion_199 rfl (Nat.le_of_ble_eq_true rfl) rfl 200 rfl ?_
                refine r_aload_n hC 1 dJ26_balanceInsertion_200 rfl 201 rfl ?_
                refine r_getI (v := .ref x) hC kJ26 6 rfl q2315 (Or.inl rfl) (fun _ h => stW_get h (hTL x2 txp) (ndX_t (hTk x2 txp))) (congrArg (fun o9 => some (va_rf o9)) (hA1)) dJ26_balanceInsertion_201 204 rfl ?_
                refine r_dup hC dJ26_balanceInsertion_204 rfl 205 rfl ?_
                refine r_astore_n hC 2 [(2, .ref x), (0, .ref ro91), (1, .ref x2), (4, .null), (3, .ref x5)] dJ26_balanceInsertion_205 rfl (Nat.le_of_ble_eq_true rfl) rfl 206 rfl ?_
                refine r_ifnonnull hC 213 dJ26_balanceInsertion_206 (by decide) ?_
                refine r_aload_n hC 0 dJ26_balanceInsertion_213 rfl 214 rfl ?_
                refine r_getI (v := .ref x5) hC kJ26 6 rfl q2315 (Or.inl rfl) (fun _ h => stW_get h (hTL x hx) (ndX_t (hTk x hx))) (congrArg (fun o9 => some (va_rf o9)) (hA2)) dJ26_balanceInsertion_214 217 rfl ?_
                refine r_astore_n hC 3 [(3, .ref x5), (2, .ref x), (0, .ref ro91), (1, .ref x2), (4, .null)] dJ26_balanceInsertion_217 rfl (Nat.le_of_ble_eq_true rfl) rfl 218 rfl ?_
                refine r_aload_n hC 1 dJ26_balanceInsertion_218 rfl 219 rfl ?_
                refine r_ifnull hC dJ26_balanceInsertion_219 222 rfl ?_
                refine r_aload_n hC 1 dJ26_balanceInsertion_222 rfl 223 rfl ?_
                refine r_iconst hC 0 dJ26_balanceInsertion_223 ic_0 224 rfl ?_
                refine r_putI (J := xSt F V0 ([] ++ stW L (ndX kd hs ky vl nx bf af pa87 lf88 rt89 pv (va_up rd90 x 0)))) hC kJ26 10 rfl q2320 (Or.inl rfl) rfl (fun _ h => stW_get h (hTL x hx) (ndX_t (hTk x hx))) (Nat.le_of_ble_eq_true rfl) rfl rfl dJ26_balanceInsertion_224 (fun _ h => stW_set h (hTL x hx) (ndX_rd (hTk x hx))) 227 rfl ?_
                refine r_aload_n hC 0 dJ26_balanceInsertion_227 rfl 228 rfl ?_
                refine r_ifnull hC dJ26_balanceInsertion_228 231 rfl ?_
                refine r_aload_n hC 0 dJ26_balanceInsertion_231 rfl 232 rfl ?_
                refine r_iconst hC 1 dJ26_balanceInsertion_232 ic_1 233 rfl ?_
                refine r_putI (J := xSt F V0 ([] ++ stW L (ndX kd hs ky vl nx bf af pa87 lf88 rt89 pv (va_up (va_up rd90 x 0) x5 1)))) hC kJ26 10 rfl q2320 (Or.inl rfl) rfl (fun _ h => stW_get h (hTL x5 txq) (ndX_t (hTk x5 txq))) (Nat.le_of_ble_eq_true rfl) rfl rfl dJ26_balanceInsertion_233 (fun _ h => stW_set h (hTL x5 txq) (ndX_rd (hTk x5 txq))) 236 rfl ?_
                refine r_aload_n hC 2 dJ26_balanceInsertion_236 rfl 237 rfl ?_
                refine r_aload_n hC 0 dJ26_balanceInsertion_237 rfl 238 rfl ?_
                refine xCall.ct (wcx := []) (wr := []) (r_cS hC [.ref ro91, .ref x5] mSJ26_rotateLeft q2277 (fun V9 h9 => (metJ26_rotateLeft _ _ hG L kd hs ky vl nx bf af pa87 lf88 rt89 pv (va_up (va_up rd90 x 0) x5 1) T hTL hTk lo1 hi1 ro91 x5 x ht1 txq hA3) V9 (h9.in.cut (wcx := []) (wr := []) [] [] 0 rfl rfl rfl rfl)) ⟨rfl, rfl⟩ (by first | omega | (dsimp only; omega)) (by first | omega | (dsimp only; omega)) rfl (Nat.le_of_ble_eq_true rfl) dJ26_balanceInsertion_238) [] [] 0 rfl rfl rfl rfl k n 241 rfl rfl rfl (fun v102 w103 h104 => ?_) (fun _ _ h => h.elim)
                obtain ⟨pa96, lf97, rt98, rd99, ro100, rfl, f101, rfl⟩ := h104
                show rn C (xSt F V0 ([] ++ stW L (ndX kd hs ky vl nx bf af pa96 lf97 rt98 pv rd99))) k n 241 [(3, .ref x5), (2, .ref x), (0, .ref ro91), (1, .ref x2), (4, .null)] [.ref ro100]
                have hA4 : lf88 x ≠ some x2 := fun z => by
                  have z2 : lf x = some x2 := f92.2.2.2.2.2.2.2.1.symm.trans z
                  have g1 := (ht.lfK hx z2).2.2
                  have g2 := (ht.lfK txp hcx).2.2
                  omega
                have hA5 : pa96 x2 = some x := f101.keep txp nqp2 nxp hA4 hA1
                have hA6 : rd99 x = 0 := f101.red (by simp [va_up, nqx2])
                refine r_astore_n hC 0 [(0, .ref ro100), (3, .ref x5), (2, .ref x), (1, .ref x2), (4, .null)] dJ26_balanceInsertion_241 rfl (Nat.le_of_ble_eq_true rfl) rfl 242 rfl ?_
                refine r_goto hC 5 dJ26_balanceInsertion_242 (by decide) ?_
                refine r_aload_n hC 3 dJ26_balanceInsertion_5 rfl 6 rfl ?_
                refine r_getI (v := .ref x) hC kJ26 6 rfl q2315 (Or.inl rfl) (fun _ h => stW_get h (hTL x2 txp) (ndX_t (hTk x2 txp))) (congrArg (fun o9 => some (va_rf o9)) (hA5)) dJ26_balanceInsertion_6 9 rfl ?_
                refine r_dup hC dJ26_balanceInsertion_9 rfl 10 rfl ?_
                refine r_astore_n hC 2 [(2, .ref x), (0, .ref ro100), (3, .ref x5), (1, .ref x2), (4, .null)] dJ26_balanceInsertion_10 rfl (Nat.le_of_ble_eq_true rfl) rfl 11 rfl ?_
                refine r_ifnonnull hC 21 dJ26_balanceInsertion_11 (by decide) ?_
                refine r_aload_n hC 0 dJ26_balanceInsertion_21 rfl 22 rfl ?_
                refine r_getI (v := .int (rd99 x)) hC kJ26 10 rfl q2320 (Or.inl rfl) (fun _ h => stW_get h (hTL x hx) (ndX_t (hTk x hx))) rfl dJ26_balanceInsertion_22 25 rfl ?_
                refine r_eqi (y := 0) (hA6) ?_
                refine r_ifeq hC 37 dJ26_balanceInsertion_25 (by decide) 28 rfl (fun _ => ?_) (fun h => absurd h (by decide))
                refine r_aload_n hC 1 dJ26_balanceInsertion_37 rfl 38 rfl ?_
                refine rn.sub (lv' := []) [] rfl ?_
                exact kx 38 _ _ _ _ ro100 (Or.inr rfl) (f101.tree ht1 txq hA3) ((((ho.trans f92.outm).red hx).red txq).trans f101.out)
              · skip
                rcases opt_c (lf x2) with hl105 | ⟨x106, hl105⟩
                · skip
                  refine r_getI (v := .null) hC kJ26 7 rfl q2316 (Or.inl rfl) (fun _ h => stW_get h (hTL x2 txp) (ndX_t (hTk x2 txp))) (congrArg (fun o9 => some (va_rf o9)) (hl105)) dJ26_balanceInsertion_186 189 rfl ?_
                  refine r_acne (rx := (some x)) (ry := none) hC 218 dJ26_balanceInsertion_189 (by decide) 192 rfl (fun _ => ?_) (fun h => absurd h (fun q9 => by cases q9))
                  refine r_aload_n hC 2 dJ26_balanceInsertion_218 rfl 219 rfl ?_
                  refine r_ifnull hC dJ26_balanceInsertion_219 222 rfl ?_
                  refine r_aload_n hC 2 dJ26_balanceInsertion_222 rfl 223 rfl ?_
                  refine r_iconst hC 0 dJ26_balanceInsertion_223 ic_0 224 rfl ?_
                  refine r_putI (J := xSt F V0 ([] ++ stW L (ndX kd hs ky vl nx bf af pa lf rt pv (va_up rd x2 0)))) hC kJ26 10 rfl q2320 (Or.inl rfl) rfl (fun _ h => stW_get h (hTL x2 txp) (ndX_t (hTk x2 txp))) (Nat.le_of_ble_eq_true rfl) rfl rfl dJ26_balanceInsertion_224 (fun _ h => stW_set h (hTL x2 txp) (ndX_rd (hTk x2 txp))) 227 rfl ?_
                  refine r_aload_n hC 1 dJ26_balanceInsertion_227 rfl 228 rfl ?_
                  refine r_ifnull hC dJ26_balanceInsertion_228 231 rfl ?_
                  refine r_aload_n hC 1 dJ26_balanceInsertion_231 rfl 232 rfl ?_
                  refine r_iconst hC 1 dJ26_balanceInsertion_232 ic_1 233 rfl ?_
                  refine r_putI (J := xSt F V0 ([] ++ stW L (ndX kd hs ky vl nx bf af pa lf rt pv (va_up (va_up rd x2 0) x5 1)))) hC kJ26 10 rfl q2320 (Or.inl rfl) rfl (fun _ h => stW_get h (hTL x5 txq) (ndX_t (hTk x5 txq))) (Nat.le_of_ble_eq_true rfl) rfl rfl dJ26_balanceInsertion_233 (fun _ h => stW_set h (hTL x5 txq) (ndX_rd (hTk x5 txq))) 236 rfl ?_
                  refine r_aload_n hC 4 dJ26_balanceInsertion_236 rfl 237 rfl ?_
                  refine r_aload_n hC 1 dJ26_balanceInsertion_237 rfl 238 rfl ?_
                  refine xCall.ct (wcx := []) (wr := []) (r_cS hC [.ref root, .ref x5] mSJ26_rotateLeft q2277 (fun V9 h9 => (metJ26_rotateLeft _ _ hG L kd hs ky vl nx bf af pa lf rt pv (va_up (va_up rd x2 0) x5 1) T hTL hTk lo hi root x5 x2 ht txq hcp) V9 (h9.in.cut (wcx := []) (wr := []) [] [] 0 rfl rfl rfl rfl)) ⟨rfl, rfl⟩ (by first | omega | (dsimp only; omega)) (by first | omega | (dsimp only; omega)) rfl (Nat.le_of_ble_eq_true rfl) dJ26_balanceInsertion_238) [] [] 0 rfl rfl rfl rfl k n 241 rfl rfl rfl (fun v113 w114 h115 => ?_) (fun _ _ h => h.elim)
                  obtain ⟨pa107, lf108, rt109, rd110, ro111, rfl, f112, rfl⟩ := h115
                  show rn C (xSt F V0 ([] ++ stW L (ndX kd hs ky vl nx bf af pa107 lf108 rt109 pv rd110))) k n 241 [(4, .null), (3, .ref x5), (2, .ref x2), (1, .ref x), (0, .ref root)] [.ref ro111]
                  have hA5 : pa107 x = some x2 := f112.keep hx nqx2 nxp2 hcx2 hl1
                  have hA6 : rd110 x2 = 0 := f112.red (by simp [va_up, nqp2])
                  refine r_astore_n hC 0 [(0, .ref ro111), (4, .null), (3, .ref x5), (2, .ref x2), (1, .ref x)] dJ26_balanceInsertion_241 rfl (Nat.le_of_ble_eq_true rfl) rfl 242 rfl ?_
                  refine r_goto hC 5 dJ26_balanceInsertion_242 (by decide) ?_
                  refine r_aload_n hC 4 dJ26_balanceInsertion_5 rfl 6 rfl ?_
                  refine r_getI (v := .ref x2) hC kJ26 6 rfl q2315 (Or.inl rfl) (fun _ h => stW_get h (hTL x hx) (ndX_t (hTk x hx))) (congrArg (fun o9 => some (va_rf o9)) (hA5)) dJ26_balanceInsertion_6 9 rfl ?_
                  refine r_dup hC dJ26_balanceInsertion_9 rfl 10 rfl ?_
                  refine r_astore_n hC 2 [(2, .ref x2), (0, .ref ro111), (4, .null), (3, .ref x5), (1, .ref x)] dJ26_balanceInsertion_10 rfl (Nat.le_of_ble_eq_true rfl) rfl 11 rfl ?_
                  refine r_ifnonnull hC 21 dJ26_balanceInsertion_11 (by decide) ?_
                  refine r_aload_n hC 0 dJ26_balanceInsertion_21 rfl 22 rfl ?_
                  refine r_getI (v := .int (rd110 x2)) hC kJ26 10 rfl q2320 (Or.inl rfl) (fun _ h => stW_get h (hTL x2 txp) (ndX_t (hTk x2 txp))) rfl dJ26_balanceInsertion_22 25 rfl ?_
                  refine r_eqi (y := 0) (hA6) ?_
                  refine r_ifeq hC 37 dJ26_balanceInsertion_25 (by decide) 28 rfl (fun _ => ?_) (fun h => absurd h (by decide))
                  refine r_aload_n hC 1 dJ26_balanceInsertion_37 rfl 38 rfl ?_
                  refine rn.sub (lv' := []) [] rfl ?_
                  exact kx 38 _ _ _ _ ro111 (Or.inr rfl) (f112.tree ht txq hcp) (((ho.red txp).red txq).trans f112.out)
                · skip
                  have nz9 : x106 ≠ x := fun e => hcx2 (by rw [← e]; exact hl105)
                  refine r_getI (v := .ref x106) hC kJ26 7 rfl q2316 (Or.inl rfl) (fun _ h => stW_get h (hTL x2 txp) (ndX_t (hTk x2 txp))) (congrArg (fun o9 => some (va_rf o9)) (hl105)) dJ26_balanceInsertion_186 189 rfl ?_
                  refine r_acne (rx := (some x)) (ry := (some x106)) hC 218 dJ26_balanceInsertion_189 (by decide) 192 rfl (fun _ => ?_) (fun h => absurd h (fun q9 => (Ne.symm nz9) (Option.some.inj q9)))
                  refine r_aload_n hC 2 dJ26_balanceInsertion_218 rfl 219 rfl ?_
                  refine r_ifnull hC dJ26_balanceInsertion_219 222 rfl ?_
                  refine r_aload_n hC 2 dJ26_balanceInsertion_222 rfl 223 rfl ?_
                  refine r_iconst hC 0 dJ26_balanceInsertion_223 ic_0 224 rfl ?_
                  refine r_putI (J := xSt F V0 ([] ++ stW L (ndX kd hs ky vl nx bf af pa lf rt pv (va_up rd x2 0)))) hC kJ26 10 rfl q2320 (Or.inl rfl) rfl (fun _ h => stW_get h (hTL x2 txp) (ndX_t (hTk x2 txp))) (Nat.le_of_ble_eq_true rfl) rfl rfl dJ26_balanceInsertion_224 (fun _ h => stW_set h (hTL x2 txp) (ndX_rd (hTk x2 txp))) 227 rfl ?_
                  refine r_aload_n hC 1 dJ26_balanceInsertion_227 rfl 228 rfl ?_
                  refine r_ifnull hC dJ26_balanceInsertion_228 231 rfl ?_
                  refine r_aload_n hC 1 dJ26_balanceInsertion_231 rfl 232 rfl ?_
                  refine r_iconst hC 1 dJ26_balanceInsertion_232 ic_1 233 rfl ?_
                  refine r_putI (J := xSt F V0 ([] ++ stW L (ndX kd hs ky vl nx bf af pa lf rt pv (va_up (va_up rd x2 0) x5 1)))) hC kJ26 10 rfl q2320 (Or.inl rfl) rfl (fun _ h => stW_get h (hTL x5 txq) (ndX_t (hTk x5 txq))) (Nat.le_of_ble_eq_true rfl) rfl rfl dJ26_balanceInsertion_233 (fun _ h => stW_set h (hTL x5 txq) (ndX_rd (hTk x5 txq))) 236 rfl ?_
                  refine r_aload_n hC 4 dJ26_balanceInsertion_236 rfl 237 rfl ?_
                  refine r_aload_n hC 1 dJ26_balanceInsertion_237 rfl 238 rfl ?_
                  refine xCall.ct (wcx := []) (wr := []) (r_cS hC [.ref root, .ref x5] mSJ26_rotateLeft q2277 (fun V9 h9 => (metJ26_rotateLeft _ _ hG L kd hs ky vl nx bf af pa lf rt pv (va_up (va_up rd x2 0) x5 1) T hTL hTk lo hi root x5 x2 ht txq hcp) V9 (h9.in.cut (wcx := []) (wr := []) [] [] 0 rfl rfl rfl rfl)) ⟨rfl, rfl⟩ (by first | omega | (dsimp only; omega)) (by first | omega | (dsimp only; omega)) rfl (Nat.le_of_ble_eq_true rfl) dJ26_balanceInsertion_238) [] [] 0 rfl rfl rfl rfl k n 241 rfl rfl rfl (fun v122 w123 h124 => ?_) (fun _ _ h => h.elim)
                  obtain ⟨pa116, lf117, rt118, rd119, ro120, rfl, f121, rfl⟩ := h124
                  show rn C (xSt F V0 ([] ++ stW L (ndX kd hs ky vl nx bf af pa116 lf117 rt118 pv rd119))) k n 241 [(4, .null), (3, .ref x5), (2, .ref x2), (1, .ref x), (0, .ref root)] [.ref ro120]
                  have hA5 : pa116 x = some x2 := f121.keep hx nqx2 nxp2 hcx2 hl1
                  have hA6 : rd119 x2 = 0 := f121.red (by simp [va_up, nqp2])
                  refine r_astore_n hC 0 [(0, .ref ro120), (4, .null), (3, .ref x5), (2, .ref x2), (1, .ref x)] dJ26_balanceInsertion_241 rfl (Nat.le_of_ble_eq_true rfl) rfl 242 rfl ?_
                  refine r_goto hC 5 dJ26_balanceInsertion_242 (by decide) ?_
                  refine r_aload_n hC 4 dJ26_balanceInsertion_5 rfl 6 rfl ?_
                  refine r_getI (v := .ref x2) hC kJ26 6 rfl q2315 (Or.inl rfl) (fun _ h => stW_get h (hTL x hx) (ndX_t (hTk x hx))) (congrArg (fun o9 => some (va_rf o9)) (hA5)) dJ26_balanceInsertion_6 9 rfl ?_
                  refine r_dup hC dJ26_balanceInsertion_9 rfl 10 rfl ?_
                  refine r_astore_n hC 2 [(2, .ref x2), (0, .ref ro120), (4, .null), (3, .ref x5), (1, .ref x)] dJ26_balanceInsertion_10 rfl (Nat.le_of_ble_eq_true rfl) rfl 11 rfl ?_
                  refine r_ifnonnull hC 21 dJ26_balanceInsertion_11 (by decide) ?_
                  refine r_aload_n hC 0 dJ26_balanceInsertion_21 rfl 22 rfl ?_
                  refine r_getI (v := .int (rd119 x2)) hC kJ26 10 rfl q2320 (Or.inl rfl) (fun _ h => stW_get h (hTL x2 txp) (ndX_t (hTk x2 txp))) rfl dJ26_balanceInsertion_22 25 rfl ?_
                  refine r_eqi (y := 0) (hA6) ?_
                  refine r_ifeq hC 37 dJ26_balanceInsertion_25 (by decide) 28 rfl (fun _ => ?_) (fun h => absurd h (by decide))
                  refine r_aload_n hC 1 dJ26_balanceInsertion_37 rfl 38 rfl ?_
                  refine rn.sub (lv' := []) [] rfl ?_
                  exact kx 38 _ _ _ _ ro120 (Or.inr rfl) (f121.tree ht txq hcp) (((ho.red txp).red txq).trans f121.out)
            · skip
              have nc9 : x86 ≠ x2 := fun e => hcp2 (by rw [← e]; exact hl85)
              obtain ⟨tun, -, -⟩ := ht.lfK txq hl85
              refine r_getI (v := .ref x86) hC kJ26 7 rfl q2316 (Or.inl rfl) (fun _ h => stW_get h (hTL x5 txq) (ndX_t (hTk x5 txq))) (congrArg (fun o9 => some (va_rf o9)) (hl85)) dJ26_balanceInsertion_41 44 rfl ?_
              refine r_dup hC dJ26_balanceInsertion_44 rfl 45 rfl ?_
              refine r_astore hC 4 [(4, .ref x86), (3, .ref x5), (2, .ref x2), (1, .ref x), (0, .ref root)] dJ26_balanceInsertion_45 (Nat.le_of_ble_eq_true rfl) rfl 47 rfl ?_
              refine r_acne (rx := (some x2)) (ry := (some x86)) hC 150 dJ26_balanceInsertion_47 (by decide) 50 rfl (fun _ => ?_) (fun h => absurd h (fun q9 => (Ne.symm nc9) (Option.some.inj q9)))
              refine r_aload hC 0 dJ26_balanceInsertion_150 rfl 152 rfl ?_
              refine r_ifnull hC dJ26_balanceInsertion_152 155 rfl ?_
              refine r_aload hC 0 dJ26_balanceInsertion_155 rfl 157 rfl ?_
              refine r_getI (v := .int (rd x86)) hC kJ26 10 rfl q2320 (Or.inl rfl) (fun _ h => stW_get h (hTL x86 tun) (ndX_t (hTk x86 tun))) rfl dJ26_balanceInsertion_157 160 rfl ?_
              refine r_ifeq hC 184 dJ26_balanceInsertion_160 (by decide) 163 rfl (fun c125 => ?_) (fun c125 => ?_)
              · skip
                refine r_aload_n hC 3 dJ26_balanceInsertion_184 rfl 185 rfl ?_
                refine r_aload_n hC 2 dJ26_balanceInsertion_185 rfl 186 rfl ?_
                rcases hsx with ⟨hcx, hcx2⟩ | ⟨hcx, hcx2⟩
                · skip
                  refine r_getI (v := .ref x) hC kJ26 7 rfl q2316 (Or.inl rfl) (fun _ h => stW_get h (hTL x2 txp) (ndX_t (hTk x2 txp))) (congrArg (fun o9 => some (va_rf o9)) (hcx)) dJ26_balanceInsertion_186 189 rfl ?_
                  refine r_acne (rx := (some x)) (ry := (some x)) hC 218 dJ26_balanceInsertion_189 (by decide) 192 rfl (fun h => absurd (rfl) h) (fun _ => ?_)
                  refine r_aload_n hC 4 dJ26_balanceInsertion_192 rfl 193 rfl ?_
                  refine r_aload_n hC 2 dJ26_balanceInsertion_193 rfl 194 rfl ?_
                  refine r_dup hC dJ26_balanceInsertion_194 rfl 195 rfl ?_
                  refine r_astore_n hC 1 [(1, .ref x2), (4, .ref x86), (3, .ref x5), (2, .ref x2), (0, .ref root)] dJ26_balanceInsertion_195 rfl (Nat.le_of_ble_eq_true rfl) rfl 196 rfl ?_
                  refine xCall.ct (wcx := []) (wr := []) (r_cS hC [.ref root, .ref x2] mSJ26_rotateRight q2280 (fun V9 h9 => (metJ26_rotateRight _ _ hG L kd hs ky vl nx bf af pa lf rt pv rd T hTL hTk lo hi root x2 x ht txp hcx) V9 (h9.in.cut (wcx := []) (wr := []) [] [] 0 rfl rfl rfl rfl)) ⟨rfl, rfl⟩ (by first | omega | (dsimp only; omega)) (by first | omega | (dsimp only; omega)) rfl (Nat.le_of_ble_eq_true rfl) dJ26_balanceInsertion_196) [] [] 0 rfl rfl rfl rfl k n 199 rfl rfl rfl (fun v132 w133 h134 => ?_) (fun _ _ h => h.elim)
                  obtain ⟨pa126, lf127, rt128, rd129, ro130, rfl, f131, rfl⟩ := h134
                  show rn C (xSt F V0 ([] ++ stW L (ndX kd hs ky vl nx bf af pa126 lf127 rt128 pv rd129))) k n 199 [(1, .ref x2), (4, .ref x86), (3, .ref x5), (2, .ref x2), (0, .ref root)] [.ref ro130]
                  obtain ⟨lo1, hi1, ht1⟩ := f131.treem ht txp hcx
                  have hA1 : pa126 x2 = some x := f131.2.2.1
                  have hA2 : pa126 x = some x5 := f131.2.2.2.1.trans hl4
                  have hA3 : rt128 x5 = some x := (f131.2.2.2.2.2.2.2.2.1 x5 txq nqp nqx).2.2.1 hcp
                  refine r_astore_n hC 0 [(0, .ref ro130), (1, .ref x2), (4, .ref x86), (3, .ref x5), (2, .ref x2)] dJ26_balanceInsertion_199 rfl (Nat.le_of_ble_eq_true rfl) rfl 200 rfl ?_
                  refine r_aload_n hC 1 dJ26_balanceInsertion_200 rfl 201 rfl ?_
                  refine r_getI (v := .ref x) hC kJ26 6 rfl q2315 (Or.inl rfl) (fun _ h => stW_get h (hTL x2 txp) (ndX_t (hTk x2 txp))) (congrArg (fun o9 => some (va_rf o9)) (hA1)) dJ26_balanceInsertion_201 204 rfl ?_
                  refine r_dup hC dJ26_balanceInsertion_204 rfl 205 rfl ?_
                  refine r_astore_n hC 2 [(2, .ref x), (0, .ref ro130), (1, .ref x2), (4, .ref x86), (3, .ref x5)] dJ26_balanceInsertion_205 rfl (Nat.le_of_ble_eq_true rfl) rfl 206 rfl ?_
                  refine r_ifnonnull hC 213 dJ26_balanceInsertion_206 (by decide) ?_
                  refine r_aload_n hC 0 dJ26_balanceInsertion_213 rfl 214 rfl ?_
                  refine r_getI (v := .ref x5) hC kJ26 6 rfl q2315 (Or.inl rfl) (fun _ h => stW_get h (hTL x hx) (ndX_t (hTk x hx))) (congrArg (fun o9 => some (va_rf o9)) (hA2)) dJ26_balanceInsertion_214 217 rfl ?_
                  refine r_astore_n hC 3 [(3, .ref x5), (2, .ref x), (0, .ref ro130), (1, .ref x2), (4, .ref x86)] dJ26_balanceInsertion_217 rfl (Nat.le_of_ble_eq_true rfl) rfl 218 rfl ?_
                  refine r_aload_n hC 1 dJ26_balanceInsertion_218 rfl 219 rfl ?_
                  refine r_ifnull hC dJ26_balanceInsertion_219 222 rfl ?_
                  refine r_aload_n hC 1 dJ26_balanceInsertion_222 rfl 223 rfl ?_
                  refine r_iconst hC 0 dJ26_balanceInsertion_223 ic_0 224 rfl ?_
                  refine r_putI (J := xSt F V0 ([] ++ stW L (ndX kd hs ky vl nx bf af pa126 lf127 rt128 pv (va_up rd129 x 0)))) hC kJ26 10 rfl q2320 (Or.inl rfl) rfl (fun _ h => stW_get h (hTL x hx) (ndX_t (hTk x hx))) (Nat.le_of_ble_eq_true rfl) rfl rfl dJ26_balanceInsertion_224 (fun _ h => stW_set h (hTL x hx) (ndX_rd (hTk x hx))) 227 rfl ?_
                  refine r_aload_n hC 0 dJ26_balanceInsertion_227 rfl 228 rfl ?_
                  refine r_ifnull hC dJ26_balanceInsertion_228 231 rfl ?_
                  refine r_aload_n hC 0 dJ26_balanceInsertion_231 rfl 232 rfl ?_
                  refine r_iconst hC 1 dJ26_balanceInsertion_232 ic_1 233 rfl ?_
                  refine r_putI (J := xSt F V0 ([] ++ stW L (ndX kd hs ky vl nx bf af pa126 lf127 rt128 pv (va_up (va_up rd129 x 0) x5 1)))) hC kJ26 10 rfl q2320 (Or.inl rfl) rfl (fun _ h => stW_get h (hTL x5 txq) (ndX_t (hTk x5 txq))) (Nat.le_of_ble_eq_true rfl) rfl rfl dJ26_balanceInsertion_233 (fun _ h => stW_set h (hTL x5 txq) (ndX_rd (hTk x5 txq))) 236 rfl ?_
                  refine r_aload_n hC 2 dJ26_balanceInsertion_236 rfl 237 rfl ?_
                  refine r_aload_n hC 0 dJ26_balanceInsertion_237 rfl 238 rfl ?_
                  refine xCall.ct (wcx := []) (wr := []) (r_cS hC [.ref ro130, .ref x5] mSJ26_rotateLeft q2277 (fun V9 h9 => (metJ26_rotateLeft _ _ hG L kd hs ky vl nx bf af pa126 lf127 rt128 pv (va_up (va_up rd129 x 0) x5 1) T hTL hTk lo1 hi1 ro130 x5 x ht1 txq hA3) V9 (h9.in.cut (wcx := []) (wr := []) [] [] 0 rfl rfl rfl rfl)) ⟨rfl, rfl⟩ (by first | omega | (dsimp only; omega)) (by first | omega | (dsimp only; omega)) rfl (Nat.le_of_ble_eq_true rfl) dJ26_balanceInsertion_238) [] [] 0 rfl rfl rfl rfl k n 241 rfl rfl rfl (fun v141 w142 h143 => ?_) (fun _ _ h => h.elim)
                  obtain ⟨pa135, lf136, rt137, rd138, ro139, rfl, f140, rfl⟩ := h143
                  show rn C (xSt F V0 ([] ++ stW L (ndX kd hs ky vl nx bf af pa135 lf136 rt137 pv rd138))) k n 241 [(3, .ref x5), (2, .ref x), (0, .ref ro130), (1, .ref x2), (4, .ref x86)] [.ref ro139]
                  have hA4 : lf127 x ≠ some x2 := fun z => by
                    have z2 : lf x = some x2 := f131.2.2.2.2.2.2.2.1.symm.trans z
                    have g1 := (ht.lfK hx z2).2.2
                    have g2 := (ht.lfK txp hcx).2.2
                    omega
                  have hA5 : pa135 x2 = some x := f140.keep txp nqp2 nxp hA4 hA1
                  have hA6 : rd138 x = 0 := f140.red (by simp [va_up, nqx2])
                  refine r_astore_n hC 0 [(0, .ref ro139), (3, .ref x5), (2, .ref x), (1, .ref x2), (4, .ref x86)] dJ26_balanceInsertion_241 rfl (Nat.le_of_ble_eq_true rfl) rfl 242 rfl ?_
                  refine r_goto hC 5 dJ26_balanceInsertion_242 (by decide) ?_
                  refine r_aload_n hC 3 dJ26_balanceInsertion_5 rfl 6 rfl ?_
                  refine r_getI (v := .ref x) hC kJ26 6 rfl q2315 (Or.inl rfl) (fun _ h => stW_get h (hTL x2 txp) (ndX_t (hTk x2 txp))) (congrArg (fun o9 => some (va_rf o9)) (hA5)) dJ26_balanceInsertion_6 9 rfl ?_
                  refine r_dup hC dJ26_balanceInsertion_9 rfl 10 rfl ?_
                  refine r_astore_n hC 2 [(2, .ref x), (0, .ref ro139), (3, .ref x5), (1, .ref x2), (4, .ref x86)] dJ26_balanceInsertion_10 rfl (Nat.le_of_ble_eq_true rfl) rfl 11 rfl ?_
                  refine r_ifnonnull hC 21 dJ26_balanceInsertion_11 (by decide) ?_
                  refine r_aload_n hC 0 dJ26_balanceInsertion_21 rfl 22 rfl ?_
                  refine r_getI (v := .int (rd138 x)) hC kJ26 10 rfl q2320 (Or.inl rfl) (fun _ h => stW_get h (hTL x hx) (ndX_t (hTk x hx))) rfl dJ26_balanceInsertion_22 25 rfl ?_
                  refine r_eqi (y := 0) (hA6) ?_
                  refine r_ifeq hC 37 dJ26_balanceInsertion_25 (by decide) 28 rfl (fun _ => ?_) (fun h => absurd h (by decide))
                  refine r_aload_n hC 1 dJ26_balanceInsertion_37 rfl 38 rfl ?_
                  refine rn.sub (lv' := []) [] rfl ?_
                  exact kx 38 _ _ _ _ ro139 (Or.inr rfl) (f140.tree ht1 txq hA3) ((((ho.trans f131.outm).red hx).red txq).trans f140.out)
                · skip
                  rcases opt_c (lf x2) with hl144 | ⟨x145, hl144⟩
                  · skip
                    refine r_getI (v := .null) hC kJ26 7 rfl q2316 (Or.inl rfl) (fun _ h => stW_get h (hTL x2 txp) (ndX_t (hTk x2 txp))) (congrArg (fun o9 => some (va_rf o9)) (hl144)) dJ26_balanceInsertion_186 189 rfl ?_
                    refine r_acne (rx := (some x)) (ry := none) hC 218 dJ26_balanceInsertion_189 (by decide) 192 rfl (fun _ => ?_) (fun h => absurd h (fun q9 => by cases q9))
                    refine r_aload_n hC 2 dJ26_balanceInsertion_218 rfl 219 rfl ?_
                    refine r_ifnull hC dJ26_balanceInsertion_219 222 rfl ?_
                    refine r_aload_n hC 2 dJ26_balanceInsertion_222 rfl 223 rfl ?_
                    refine r_iconst hC 0 dJ26_balanceInsertion_223 ic_0 224 rfl ?_
                    refine r_putI (J := xSt F V0 ([] ++ stW L (ndX kd hs ky vl nx bf af pa lf rt pv (va_up rd x2 0)))) hC kJ26 10 rfl q2320 (Or.inl rfl) rfl (fun _ h => stW_get h (hTL x2 txp) (ndX_t (hTk x2 txp))) (Nat.le_of_ble_eq_true rfl) rfl rfl dJ26_balanceInsertion_224 (fun _ h => stW_set h (hTL x2 txp) (ndX_rd (hTk x2 txp))) 227 rfl ?_
                    refine r_aload_n hC 1 dJ26_balanceInsertion_227 rfl 228 rfl ?_
                    refine r_ifnull hC dJ26_balanceInsertion_228 231 rfl ?_
                    refine r_aload_n hC 1 dJ26_balanceInsertion_231 rfl 232 rfl ?_
                    refine r_iconst hC 1 dJ26_balanceInsertion_232 ic_1 233 rfl ?_
                    refine r_putI (J := xSt F V0 ([] ++ stW L (ndX kd hs ky vl nx bf af pa lf rt pv (va_up (va_up rd x2 0) x5 1)))) hC kJ26 10 rfl q2320 (Or.inl rfl) rfl (fun _ h => stW_get h (hTL x5 txq) (ndX_t (hTk x5 txq))) (Nat.le_of_ble_eq_true rfl) rfl rfl dJ26_balanceInsertion_233 (fun _ h => stW_set h (hTL x5 txq) (ndX_rd (hTk x5 txq))) 236 rfl ?_
                    refine r_aload_n hC 4 dJ26_balanceInsertion_236 rfl 237 rfl ?_
                    refine r_aload_n hC 1 dJ26_balanceInsertion_237 rfl 238 rfl ?_
                    refine xCall.ct (wcx := []) (wr := []) (r_cS hC [.ref root, .ref x5] mSJ26_rotateLeft q2277 (fun V9 h9 => (metJ26_rotateLeft _ _ hG L kd hs ky vl nx bf af pa lf rt pv (va_up (va_up rd x2 0) x5 1) T hTL hTk lo hi root x5 x2 ht txq hcp) V9 (h9.in.cut (wcx := []) (wr := []) [] [] 0 rfl rfl rfl rfl)) ⟨rfl, rfl⟩ (by first | omega | (dsimp only; omega)) (by first | omega | (dsimp only; omega)) rfl (Nat.le_of_ble_eq_true rfl) dJ26_balanceInsertion_238) [] [] 0 rfl rfl rfl rfl k n 241 rfl rfl rfl (fun v152 w153 h154 => ?_) (fun _ _ h => h.elim)
                    obtain ⟨pa146, lf147, rt148, rd149, ro150, rfl, f151, rfl⟩ := h154
                    show rn C (xSt F V0 ([] ++ stW L (ndX kd hs ky vl nx bf af pa146 lf147 rt148 pv rd149))) k n 241 [(4, .ref x86), (3, .ref x5), (2, .ref x2), (1, .ref x), (0, .ref root)] [.ref ro150]
                    have hA5 : pa146 x = some x2 := f151.keep hx nqx2 nxp2 hcx2 hl1
                    have hA6 : rd149 x2 = 0 := f151.red (by simp [va_up, nqp2])
                    refine r_astore_n hC 0 [(0, .ref ro150), (4, .ref x86), (3, .ref x5), (2, .ref x2), (1, .ref x)] dJ26_balanceInsertion_241 rfl (Nat.le_of_ble_eq_true rfl) rfl 242 rfl ?_
                    refine r_goto hC 5 dJ26_balanceInsertion_242 (by decide) ?_
                    refine r_aload_n hC 4 dJ26_balanceInsertion_5 rfl 6 rfl ?_
                    refine r_getI (v := .ref x2) hC kJ26 6 rfl q2315 (Or.inl rfl) (fun _ h => stW_get h (hTL x hx) (ndX_t (hTk x hx))) (congrArg (fun o9 => some (va_rf o9)) (hA5)) dJ26_balanceInsertion_6 9 rfl ?_
                    refine r_dup hC dJ26_balanceInsertion_9 rfl 10 rfl ?_
                    refine r_astore_n hC 2 [(2, .ref x2), (0, .ref ro150), (4, .ref x86), (3, .ref x5), (1, .ref x)] dJ26_balanceInsertion_10 rfl (Nat.le_of_ble_eq_true rfl) rfl 11 rfl ?_
                    refine r_ifnonnull hC 21 dJ26_balanceInsertion_11 (by decide) ?_
                    refine r_aload_n hC 0 dJ26_balanceInsertion_21 rfl 22 rfl ?_
                    refine r_getI (v := .int (rd149 x2)) hC kJ26 10 rfl q2320 (Or.inl rfl) (fun _ h => stW_get h (hTL x2 txp) (ndX_t (hTk x2 txp))) rfl dJ26_balanceInsertion_22 25 rfl ?_
                    refine r_eqi (y := 0) (hA6) ?_
                    refine r_ifeq hC 37 dJ26_balanceInsertion_25 (by decide) 28 rfl (fun _ => ?_) (fun h => absurd h (by decide))
                    refine r_aload_n hC 1 dJ26_balanceInsertion_37 rfl 38 rfl ?_
                    refine rn.sub (lv' := []) [] rfl ?_
                    exact kx 38 _ _ _ _ ro150 (Or.inr rfl) (f151.tree ht txq hcp) (((ho.red txp).red txq).trans f151.out)
                  · skip
                    have nz9 : x145 ≠ x := fun e => hcx2 (by rw [← e]; exact hl144)
                    refine r_getI (v := .ref x145) hC kJ26 7 rfl q2316 (Or.inl rfl) (fun _ h => stW_get h (hTL x2 txp) (ndX_t (hTk x2 txp))) (congrArg (fun o9 => some (va_rf o9)) (hl144)) dJ26_balanceInsertion_186 189 rfl ?_
                    refine r_acne (rx := (some x)) (ry := (some x145)) hC 218 dJ26_balanceInsertion_189 (by decide) 192 rfl (fun _ => ?_) (fun h => absurd h (fun q9 => (Ne.symm nz9) (Option.some.inj q9)))
                    refine r_aload_n hC 2 dJ26_balanceInsertion_218 rfl 219 rfl ?_
                    refine r_ifnull hC dJ26_balanceInsertion_219 222 rfl ?_
                    refine r_aload_n hC 2 dJ26_balanceInsertion_222 rfl 223 rfl ?_
                    refine r_iconst hC 0 dJ26_balanceInsertion_223 ic_0 224 rfl ?_
                    refine r_putI (J := xSt F V0 ([] ++ stW L (ndX kd hs ky vl nx bf af pa lf rt pv (va_up rd x2 0)))) hC kJ26 10 rfl q2320 (Or.inl rfl) rfl (fun _ h => stW_get h (hTL x2 txp) (ndX_t (hTk x2 txp))) (Nat.le_of_ble_eq_true rfl) rfl rfl dJ26_balanceInsertion_224 (fun _ h => stW_set h (hTL x2 txp) (ndX_rd (hTk x2 txp))) 227 rfl ?_
                    refine r_aload_n hC 1 dJ26_balanceInsertion_227 rfl 228 rfl ?_
                    refine r_ifnull hC dJ26_balanceInsertion_228 231 rfl ?_
                    refine r_aload_n hC 1 dJ26_balanceInsertion_231 rfl 232 rfl ?_
                    refine r_iconst hC 1 dJ26_balanceInsertion_232 ic_1 233 rfl ?_
                    refine r_putI (J := xSt F V0 ([] ++ stW L (ndX kd hs ky vl nx bf af pa lf rt pv (va_up (va_up rd x2 0) x5 1)))) hC kJ26 10 rfl q2320 (Or.inl rfl) rfl (fun _ h => stW_get h (hTL x5 txq) (ndX_t (hTk x5 txq))) (Nat.le_of_ble_eq_true rfl) rfl rfl dJ26_balanceInsertion_233 (fun _ h => stW_set h (hTL x5 txq) (ndX_rd (hTk x5 txq))) 236 rfl ?_
                    refine r_aload_n hC 4 dJ26_balanceInsertion_236 rfl 237 rfl ?_
                    refine r_aload_n hC 1 dJ26_balanceInsertion_237 rfl 238 rfl ?_
                    refine xCall.ct (wcx := []) (wr := []) (r_cS hC [.ref root, .ref x5] mSJ26_rotateLeft q2277 (fun V9 h9 => (metJ26_rotateLeft _ _ hG L kd hs ky vl nx bf af pa lf rt pv (va_up (va_up rd x2 0) x5 1) T hTL hTk lo hi root x5 x2 ht txq hcp) V9 (h9.in.cut (wcx := []) (wr := []) [] [] 0 rfl rfl rfl rfl)) ⟨rfl, rfl⟩ (by first | omega | (dsimp only; omega)) (by first | omega | (dsimp only; omega)) rfl (Nat.le_of_ble_eq_true rfl) dJ26_balanceInsertion_238) [] [] 0 rfl rfl rfl rfl k n 241 rfl rfl rfl (fun v161 w162 h163 => ?_) (fun _ _ h => h.elim)
                    obtain ⟨pa155, lf156, rt157, rd158, ro159, rfl, f160, rfl⟩ := h163
                    show rn C (xSt F V0 ([] ++ stW L (ndX kd hs ky vl nx bf af pa155 lf156 rt157 pv rd158))) k n 241 [(4, .ref x86), (3, .ref x5), (2, .ref x2), (1, .ref x), (0, .ref root)] [.ref ro159]
                    have hA5 : pa155 x = some x2 := f160.keep hx nqx2 nxp2 hcx2 hl1
                    have hA6 : rd158 x2 = 0 := f160.red (by simp [va_up, nqp2])
                    refine r_astore_n hC 0 [(0, .ref ro159), (4, .ref x86), (3, .ref x5), (2, .ref x2), (1, .ref x)] dJ26_balanceInsertion_241 rfl (Nat.le_of_ble_eq_true rfl) rfl 242 rfl ?_
                    refine r_goto hC 5 dJ26_balanceInsertion_242 (by decide) ?_
                    refine r_aload_n hC 4 dJ26_balanceInsertion_5 rfl 6 rfl ?_
                    refine r_getI (v := .ref x2) hC kJ26 6 rfl q2315 (Or.inl rfl) (fun _ h => stW_get h (hTL x hx) (ndX_t (hTk x hx))) (congrArg (fun o9 => some (va_rf o9)) (hA5)) dJ26_balanceInsertion_6 9 rfl ?_
                    refine r_dup hC dJ26_balanceInsertion_9 rfl 10 rfl ?_
                    refine r_astore_n hC 2 [(2, .ref x2), (0, .ref ro159), (4, .ref x86), (3, .ref x5), (1, .ref x)] dJ26_balanceInsertion_10 rfl (Nat.le_of_ble_eq_true rfl) rfl 11 rfl ?_
                    refine r_ifnonnull hC 21 dJ26_balanceInsertion_11 (by decide) ?_
                    refine r_aload_n hC 0 dJ26_balanceInsertion_21 rfl 22 rfl ?_
                    refine r_getI (v := .int (rd158 x2)) hC kJ26 10 rfl q2320 (Or.inl rfl) (fun _ h => stW_get h (hTL x2 txp) (ndX_t (hTk x2 txp))) rfl dJ26_balanceInsertion_22 25 rfl ?_
                    refine r_eqi (y := 0) (hA6) ?_
                    refine r_ifeq hC 37 dJ26_balanceInsertion_25 (by decide) 28 rfl (fun _ => ?_) (fun h => absurd h (by decide))
                    refine r_aload_n hC 1 dJ26_balanceInsertion_37 rfl 38 rfl ?_
                    refine rn.sub (lv' := []) [] rfl ?_
                    exact kx 38 _ _ _ _ ro159 (Or.inr rfl) (f160.tree ht txq hcp) (((ho.red txp).red txq).trans f160.out)
              · skip
                refine r_aload hC 0 dJ26_balanceInsertion_163 rfl 165 rfl ?_
                refine r_iconst hC 0 dJ26_balanceInsertion_165 ic_0 166 rfl ?_
                refine r_putI (J := xSt F V0 ([] ++ stW L (ndX kd hs ky vl nx bf af pa lf rt pv (va_up rd x86 0)))) hC kJ26 10 rfl q2320 (Or.inl rfl) rfl (fun _ h => stW_get h (hTL x86 tun) (ndX_t (hTk x86 tun))) (Nat.le_of_ble_eq_true rfl) rfl rfl dJ26_balanceInsertion_166 (fun _ h => stW_set h (hTL x86 tun) (ndX_rd (hTk x86 tun))) 169 rfl ?_
                refine r_aload_n hC 2 dJ26_balanceInsertion_169 rfl 170 rfl ?_
                refine r_iconst hC 0 dJ26_balanceInsertion_170 ic_0 171 rfl ?_
                refine r_putI (J := xSt F V0 ([] ++ stW L (ndX kd hs ky vl nx bf af pa lf rt pv (va_up (va_up rd x86 0) x2 0)))) hC kJ26 10 rfl q2320 (Or.inl rfl) rfl (fun _ h => stW_get h (hTL x2 txp) (ndX_t (hTk x2 txp))) (Nat.le_of_ble_eq_true rfl) rfl rfl dJ26_balanceInsertion_171 (fun _ h => stW_set h (hTL x2 txp) (ndX_rd (hTk x2 txp))) 174 rfl ?_
                refine r_aload_n hC 1 dJ26_balanceInsertion_174 rfl 175 rfl ?_
                refine r_iconst hC 1 dJ26_balanceInsertion_175 ic_1 176 rfl ?_
                refine r_putI (J := xSt F V0 ([] ++ stW L (ndX kd hs ky vl nx bf af pa lf rt pv (va_up (va_up (va_up rd x86 0) x2 0) x5 1)))) hC kJ26 10 rfl q2320 (Or.inl rfl) rfl (fun _ h => stW_get h (hTL x5 txq) (ndX_t (hTk x5 txq))) (Nat.le_of_ble_eq_true rfl) rfl rfl dJ26_balanceInsertion_176 (fun _ h => stW_set h (hTL x5 txq) (ndX_rd (hTk x5 txq))) 179 rfl ?_
                refine r_aload_n hC 1 dJ26_balanceInsertion_179 rfl 180 rfl ?_
                refine r_astore_n hC 1 [(1, .ref x5), (4, .ref x86), (3, .ref x5), (2, .ref x2), (0, .ref root)] dJ26_balanceInsertion_180 rfl (Nat.le_of_ble_eq_true rfl) rfl 181 rfl ?_
                refine r_goto hC 5 dJ26_balanceInsertion_181 (by decide) ?_
                refine rn.sub (lv' := [(1, .ref x5), (0, .ref root)]) [0, 4] rfl ?_
                obtain ⟨hm9, -, -⟩ := ht.meas hx hl1 txp hl4
                exact ih pa lf rt _ root x5 lo hi ht txq ((((ho.red tun).red txp)).red txq) (by omega)
set_option maxHeartbeats 4000000 in
set_option maxRecDepth 100000 in
theorem metJ26_balanceInsertion (l : Launch) (G : xG) (hG : xGood G) (L : List Nat) (kd : Nat → Bool) (hs : Nat → Int32) (ky vl : Nat → Nat) (nx bf af pa lf rt pv : Nat → Option Nat) (rd : Nat → Int32) (T : Nat → Prop) (hTL : ∀ a, T a → a ∈ L) (hTk : ∀ a, T a → kd a = true) (lo hi : Nat → Int) (root x : Nat) (ht : tIv (fun a => (hs a).toInt) T pa lf rt root lo hi) (hx : T x) : xWm l G yJ26_balanceInsertion (Cond.code yJ26_balanceInsertion cJ26_balanceInsertion 6 (some (.object "java/util/HashMap$TreeNode"))) { frames := 1, locals := 24, cells := 0, slots := 0 } [.ref root, .ref x] (stW L (ndX kd hs ky vl nx bf af pa lf rt pv rd)) (fun v w' => ∃ (pa' lf' rt' : Nat → Option Nat) (rd' : Nat → Int32) (root' : Nat), v = some (.ref root') ∧ tI (fun a => (hs a).toInt) T pa' lf' rt' root' ∧ oF T pa lf rt rd pa' lf' rt' rd' ∧ w' = stW L (ndX kd hs ky vl nx bf af pa' lf' rt' pv rd')) (fun _ _ => False) := by
  intro V hV
  refine xMet_ofT RJ26 hG rfl (by decide) (Nat.le_of_ble_eq_true rfl) fun C hC hQ hX hl hg _ hTab => ?_
  subst hl hg
  obtain ⟨V0, hV0⟩ : ∃ V0, V0 = V := ⟨_, rfl⟩
  obtain ⟨F, hF⟩ : ∃ F, F = xF (stW L (ndX kd hs ky vl nx bf af pa lf rt pv rd)) := ⟨_, rfl⟩
  refine rn.mono (J := xSt F V0 ([] ++ stW L (ndX kd hs ky vl nx bf af pa lf rt pv rd))) (fun V9 h => by rw [h, hV0, hF]; exact hV.st) ?_
  show rn C (xSt F V0 ([] ++ stW L (ndX kd hs ky vl nx bf af pa lf rt pv rd))) 0 0 0 [(0, .ref root), (1, .ref x)] []
  refine r_aload_n hC 1 dJ26_balanceInsertion_0 rfl 1 rfl ?_
  refine r_iconst hC 1 dJ26_balanceInsertion_1 ic_1 2 rfl ?_
  refine r_putI (J := xSt F V0 ([] ++ stW L (ndX kd hs ky vl nx bf af pa lf rt pv (va_up rd x 1)))) hC kJ26 10 rfl q2320 (Or.inl rfl) rfl (fun _ h => stW_get h (hTL x hx) (ndX_t (hTk x hx))) (Nat.le_of_ble_eq_true rfl) rfl rfl dJ26_balanceInsertion_2 (fun _ h => stW_set h (hTL x hx) (ndX_rd (hTk x hx))) 5 rfl ?_
  refine rn.sub (lv' := [(1, .ref x), (0, .ref root)]) [1, 0] rfl ?_
  refine lpJ26_bal hG hC 0 0 (by decide) (by decide) L kd hs ky vl nx bf af pv T hTL hTk pa lf rt rd (fun pc' pa' lf' rt' rd' root' hpc' ht' ho' => ?_) _ pa lf rt _ root x lo hi ht hx (oF.refl.red hx) (Nat.lt_succ_self _)
  have hdd : decode cJ26_balanceInsertion pc' = .ok (.areturn, 1) := by
    rcases hpc' with rfl | rfl
    · exact dJ26_balanceInsertion_20
    · exact dJ26_balanceInsertion_38
  exact r_aret hC (v := some root') (Or.inl ⟨_, rfl⟩) (Nat.le_of_ble_eq_true rfl) (Nat.le_of_ble_eq_true rfl) (fun V9 h => hQ _ _ ⟨_, ⟨pa', lf', rt', rd', root', rfl, ht', ho', rfl⟩, by rw [← hV0, ← hF]; exact h⟩) hdd
