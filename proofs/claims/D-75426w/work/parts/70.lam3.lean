section LAM4
variable {C : xC} {I : xV → Prop} {k n pc len : Nat} {lv lv' : List (Nat × Value)} {st stk : List Value} {own : String} {cc : ByteArray} {nL0 : Nat} {ret : Option FieldType} {rm : Room}
variable {ix : Nat} {rm2 : Room} {Q2 : xV → Option Value → xV → Prop} {X2 : xV → Nat → xV → Prop}
theorem r_l0 (hC : xCtx C own cc nL0 ret rm) (hG : xGood (xGG C)) (hlink : Cond.methodLink own ix ⟨"ThreeBodies$Part", "make", "(LThreeBodies$Bodies;I)V"⟩ ∈ lw_all) (b b1 : Nat) {z : Int32} (hrecv : b = (xGG C).2.2.2 0) (hM : ∀ V, I V → xMet (xL C) (xGG C) yX1_lambda_schemes_0 [Cond.code yX1_lambda_schemes_0 cX1_lambda_schemes_0 2 none] rm2 [.ref b1, .int z] V (Q2 V) (X2 V)) (hv : ∀ V v V', Q2 V v V' → v = none)
    (hR : (rm2.frames + 2).ble rm.frames = true ∧ (8 + (3 + 11) + (8 + (2 + 11) + rm2.locals)).ble rm.locals = true) (hk : k + rm2.cells ≤ rm.cells) (hn : n + rm2.slots ≤ rm.slots) (hst : .int z :: .ref b1 :: .ref b :: st = stk) (h8 : (st.map fun v => v.category).sum ≤ 8) {count : Nat} (hd : decode cc pc = .ok (.invokeinterface ix count, 5)) : xCall C I k n pc 5 lv stk st rm2 Q2 X2 :=
  r_clV hC hG 0 rfl rfl lam0 rfl lam0_d rfl (by decide +kernel) rfl rfl (by decide +kernel) q720 q719 (by decide +kernel) mSX1_lambda_schemes_0 hlink b b1 hrecv hM hv hR hk hn hst h8 hd
theorem r_l1 (hC : xCtx C own cc nL0 ret rm) (hG : xGood (xGG C)) (hlink : Cond.methodLink own ix ⟨"ThreeBodies$Part", "make", "(LThreeBodies$Bodies;I)V"⟩ ∈ lw_all) (b b1 : Nat) {z : Int32} (hrecv : b = (xGG C).2.2.2 1) (hM : ∀ V, I V → xMet (xL C) (xGG C) yX1_lambda_schemes_1 [Cond.code yX1_lambda_schemes_1 cX1_lambda_schemes_1 2 none] rm2 [.ref b1, .int z] V (Q2 V) (X2 V)) (hv : ∀ V v V', Q2 V v V' → v = none)
    (hR : (rm2.frames + 2).ble rm.frames = true ∧ (8 + (3 + 11) + (8 + (2 + 11) + rm2.locals)).ble rm.locals = true) (hk : k + rm2.cells ≤ rm.cells) (hn : n + rm2.slots ≤ rm.slots) (hst : .int z :: .ref b1 :: .ref b :: st = stk) (h8 : (st.map fun v => v.category).sum ≤ 8) {count : Nat} (hd : decode cc pc = .ok (.invokeinterface ix count, 5)) : xCall C I k n pc 5 lv stk st rm2 Q2 X2 :=
  r_clV hC hG 1 rfl rfl lam1 rfl lam1_d rfl (by decide +kernel) rfl rfl (by decide +kernel) q720 q719 (by decide +kernel) mSX1_lambda_schemes_1 hlink b b1 hrecv hM hv hR hk hn hst h8 hd
theorem r_l2 (hC : xCtx C own cc nL0 ret rm) (hG : xGood (xGG C)) (hlink : Cond.methodLink own ix ⟨"ThreeBodies$Part", "make", "(LThreeBodies$Bodies;I)V"⟩ ∈ lw_all) (b b1 : Nat) {z : Int32} (hrecv : b = (xGG C).2.2.2 2) (hM : ∀ V, I V → xMet (xL C) (xGG C) yX1_lambda_schemes_2 [Cond.code yX1_lambda_schemes_2 cX1_lambda_schemes_2 2 none] rm2 [.ref b1, .int z] V (Q2 V) (X2 V)) (hv : ∀ V v V', Q2 V v V' → v = none)
    (hR : (rm2.frames + 2).ble rm.frames = true ∧ (8 + (3 + 11) + (8 + (2 + 11) + rm2.locals)).ble rm.locals = true) (hk : k + rm2.cells ≤ rm.cells) (hn : n + rm2.slots ≤ rm.slots) (hst : .int z :: .ref b1 :: .ref b :: st = stk) (h8 : (st.map fun v => v.category).sum ≤ 8) {count : Nat} (hd : decode cc pc = .ok (.invokeinterface ix count, 5)) : xCall C I k n pc 5 lv stk st rm2 Q2 X2 :=
  r_clV hC hG 2 rfl rfl lam2 rfl lam2_d rfl (by decide +kernel) rfl rfl (by decide +kernel) q720 q719 (by decide +kernel) mSX1_lambda_schemes_2 hlink b b1 hrecv hM hv hR hk hn hst h8 hd
theorem r_l3 (hC : xCtx C own cc nL0 ret rm) (hG : xGood (xGG C)) (hlink : Cond.methodLink own ix ⟨"ThreeBodies$Part", "make", "(LThreeBodies$Bodies;I)V"⟩ ∈ lw_all) (b b1 : Nat) {z : Int32} (hrecv : b = (xGG C).2.2.2 3) (hM : ∀ V, I V → xMet (xL C) (xGG C) yX1_lambda_schemes_3 [Cond.code yX1_lambda_schemes_3 cX1_lambda_schemes_3 2 none] rm2 [.ref b1, .int z] V (Q2 V) (X2 V)) (hv : ∀ V v V', Q2 V v V' → v = none)
    (hR : (rm2.frames + 2).ble rm.frames = true ∧ (8 + (3 + 11) + (8 + (2 + 11) + rm2.locals)).ble rm.locals = true) (hk : k + rm2.cells ≤ rm.cells) (hn : n + rm2.slots ≤ rm.slots) (hst : .int z :: .ref b1 :: .ref b :: st = stk) (h8 : (st.map fun v => v.category).sum ≤ 8) {count : Nat} (hd : decode cc pc = .ok (.invokeinterface ix count, 5)) : xCall C I k n pc 5 lv stk st rm2 Q2 X2 :=
  r_clV hC hG 3 rfl rfl lam3 rfl lam3_d rfl (by decide +kernel) rfl rfl (by decide +kernel) q720 q719 (by decide +kernel) mSX1_lambda_schemes_3 hlink b b1 hrecv hM hv hR hk hn hst h8 hd
theorem r_l4 (hC : xCtx C own cc nL0 ret rm) (hG : xGood (xGG C)) (hlink : Cond.methodLink own ix ⟨"ThreeBodies$Measure", "error", "(LThreeBodies$Path;I)I"⟩ ∈ lw_all) (b b1 : Nat) {z : Int32} (hrecv : b = (xGG C).2.2.2 4) (hM : ∀ V, I V → xMet (xL C) (xGG C) yX1_lambda_measures_4 [Cond.code yX1_lambda_measures_4 cX1_lambda_measures_4 2 (some .int)] rm2 [.ref b1, .int z] V (Q2 V) (X2 V)) (hv : ∀ V v V', Q2 V v V' → ∃ r : Int32, v = some (.int r))
    (hR : (rm2.frames + 2).ble rm.frames = true ∧ (8 + (3 + 11) + (8 + (2 + 11) + rm2.locals)).ble rm.locals = true) (hk : k + rm2.cells ≤ rm.cells) (hn : n + rm2.slots ≤ rm.slots) (hst : .int z :: .ref b1 :: .ref b :: st = stk) (h8 : (st.map fun v => v.category).sum ≤ 8) {count : Nat} (hd : decode cc pc = .ok (.invokeinterface ix count, 5)) : xCall C I k n pc 5 lv stk st rm2 Q2 X2 :=
  r_clI hC hG 4 rfl rfl lam4 rfl lam4_d rfl (by decide +kernel) rfl rfl (by decide +kernel) q1693 q1692 (by decide +kernel) mSX1_lambda_measures_4 hlink b b1 hrecv hM hv hR hk hn hst h8 hd
theorem r_l5 (hC : xCtx C own cc nL0 ret rm) (hG : xGood (xGG C)) (hlink : Cond.methodLink own ix ⟨"ThreeBodies$Measure", "error", "(LThreeBodies$Path;I)I"⟩ ∈ lw_all) (b b1 : Nat) {z : Int32} (hrecv : b = (xGG C).2.2.2 5) (hM : ∀ V, I V → xMet (xL C) (xGG C) yX1_lambda_measures_5 [Cond.code yX1_lambda_measures_5 cX1_lambda_measures_5 2 (some .int)] rm2 [.ref b1, .int z] V (Q2 V) (X2 V)) (hv : ∀ V v V', Q2 V v V' → ∃ r : Int32, v = some (.int r))
    (hR : (rm2.frames + 2).ble rm.frames = true ∧ (8 + (3 + 11) + (8 + (2 + 11) + rm2.locals)).ble rm.locals = true) (hk : k + rm2.cells ≤ rm.cells) (hn : n + rm2.slots ≤ rm.slots) (hst : .int z :: .ref b1 :: .ref b :: st = stk) (h8 : (st.map fun v => v.category).sum ≤ 8) {count : Nat} (hd : decode cc pc = .ok (.invokeinterface ix count, 5)) : xCall C I k n pc 5 lv stk st rm2 Q2 X2 :=
  r_clI hC hG 5 rfl rfl lam5 rfl lam5_d rfl (by decide +kernel) rfl rfl (by decide +kernel) q1693 q1692 (by decide +kernel) mSX1_lambda_measures_5 hlink b b1 hrecv hM hv hR hk hn hst h8 hd
theorem r_l6 (hC : xCtx C own cc nL0 ret rm) (hG : xGood (xGG C)) (hlink : Cond.methodLink own ix ⟨"ThreeBodies$Measure", "error", "(LThreeBodies$Path;I)I"⟩ ∈ lw_all) (b b1 : Nat) {z : Int32} (hrecv : b = (xGG C).2.2.2 6) (hM : ∀ V, I V → xMet (xL C) (xGG C) yX1_lambda_measures_6 [Cond.code yX1_lambda_measures_6 cX1_lambda_measures_6 2 (some .int)] rm2 [.ref b1, .int z] V (Q2 V) (X2 V)) (hv : ∀ V v V', Q2 V v V' → ∃ r : Int32, v = some (.int r))
    (hR : (rm2.frames + 2).ble rm.frames = true ∧ (8 + (3 + 11) + (8 + (2 + 11) + rm2.locals)).ble rm.locals = true) (hk : k + rm2.cells ≤ rm.cells) (hn : n + rm2.slots ≤ rm.slots) (hst : .int z :: .ref b1 :: .ref b :: st = stk) (h8 : (st.map fun v => v.category).sum ≤ 8) {count : Nat} (hd : decode cc pc = .ok (.invokeinterface ix count, 5)) : xCall C I k n pc 5 lv stk st rm2 Q2 X2 :=
  r_clI hC hG 6 rfl rfl lam6 rfl lam6_d rfl (by decide +kernel) rfl rfl (by decide +kernel) q1693 q1692 (by decide +kernel) mSX1_lambda_measures_6 hlink b b1 hrecv hM hv hR hk hn hst h8 hd
theorem r_l7 (hC : xCtx C own cc nL0 ret rm) (hG : xGood (xGG C)) (hlink : Cond.methodLink own ix ⟨"ThreeBodies$Measure", "error", "(LThreeBodies$Path;I)I"⟩ ∈ lw_all) (b b1 : Nat) {z : Int32} (hrecv : b = (xGG C).2.2.2 7) (hM : ∀ V, I V → xMet (xL C) (xGG C) yX1_lambda_measures_7 [Cond.code yX1_lambda_measures_7 cX1_lambda_measures_7 2 (some .int)] rm2 [.ref b1, .int z] V (Q2 V) (X2 V)) (hv : ∀ V v V', Q2 V v V' → ∃ r : Int32, v = some (.int r))
    (hR : (rm2.frames + 2).ble rm.frames = true ∧ (8 + (3 + 11) + (8 + (2 + 11) + rm2.locals)).ble rm.locals = true) (hk : k + rm2.cells ≤ rm.cells) (hn : n + rm2.slots ≤ rm.slots) (hst : .int z :: .ref b1 :: .ref b :: st = stk) (h8 : (st.map fun v => v.category).sum ≤ 8) {count : Nat} (hd : decode cc pc = .ok (.invokeinterface ix count, 5)) : xCall C I k n pc 5 lv stk st rm2 Q2 X2 :=
  r_clI hC hG 7 rfl rfl lam7 rfl lam7_d rfl (by decide +kernel) rfl rfl (by decide +kernel) q1693 q1692 (by decide +kernel) mSX1_lambda_measures_7 hlink b b1 hrecv hM hv hR hk hn hst h8 hd
theorem r_l8 (hC : xCtx C own cc nL0 ret rm) (hG : xGood (xGG C)) (hlink : Cond.methodLink own ix ⟨"ThreeBodies$Test", "holds", "(LThreeBodies$Approach;I)Z"⟩ ∈ lw_all) (b b1 : Nat) {z : Int32} {v0 : Nat} (hrecv : ∀ V, I V → V.2 b = some (.inr (108, [.ref v0]))) (hM : ∀ V, I V → xMet (xL C) (xGG C) yX18_lambda_factor_0 [Cond.code yX18_lambda_factor_0 cX18_lambda_factor_0 3 (some .boolean)] rm2 [.ref v0, .ref b1, .int z] V (Q2 V) (X2 V)) (hv : ∀ V v V', Q2 V v V' → ∃ r : Int32, v = some (.int r) ∧ narrow .boolean (.int r) = .int r)
    (hR : (rm2.frames + 2).ble rm.frames = true ∧ (8 + (3 + 11) + (8 + (3 + 11) + rm2.locals)).ble rm.locals = true) (hk : k + rm2.cells ≤ rm.cells) (hn : n + rm2.slots ≤ rm.slots) (hst : .int z :: .ref b1 :: .ref b :: st = stk) (h8 : (st.map fun v => v.category).sum ≤ 8) {count : Nat} (hd : decode cc pc = .ok (.invokeinterface ix count, 5)) : xCall C I k n pc 5 lv stk st rm2 Q2 X2 :=
  r_clF hC hG 8 rfl rfl lam8 lam8_f0 lam8_d rfl (by decide +kernel) rfl rfl (by decide +kernel) q2640 q2639 (by decide +kernel) mSX18_lambda_factor_0 hlink b b1 hrecv hM hv hR hk hn hst h8 hd
theorem r_l9 (hC : xCtx C own cc nL0 ret rm) (hG : xGood (xGG C)) (hlink : Cond.methodLink own ix ⟨"ThreeBodies$Value", "of", "(LThreeBodies$Approach;I)I"⟩ ∈ lw_all) (b b1 : Nat) {z : Int32} {v0 : Int32} (hrecv : ∀ V, I V → V.2 b = some (.inr (109, [.int v0]))) (hM : ∀ V, I V → xMet (xL C) (xGG C) yX18_lambda_value_2 [Cond.code yX18_lambda_value_2 cX18_lambda_value_2 3 (some .int)] rm2 [.int v0, .ref b1, .int z] V (Q2 V) (X2 V)) (hv : ∀ V v V', Q2 V v V' → ∃ r : Int32, v = some (.int r))
    (hR : (rm2.frames + 2).ble rm.frames = true ∧ (8 + (3 + 11) + (8 + (3 + 11) + rm2.locals)).ble rm.locals = true) (hk : k + rm2.cells ≤ rm.cells) (hn : n + rm2.slots ≤ rm.slots) (hst : .int z :: .ref b1 :: .ref b :: st = stk) (h8 : (st.map fun v => v.category).sum ≤ 8) {count : Nat} (hd : decode cc pc = .ok (.invokeinterface ix count, 5)) : xCall C I k n pc 5 lv stk st rm2 Q2 X2 :=
  r_clN hC hG 9 rfl rfl lam9 lam9_f0 lam9_d rfl (by decide +kernel) rfl rfl (by decide +kernel) q2685 q2684 (by decide +kernel) mSX18_lambda_value_2 hlink b b1 hrecv hM hv hR hk hn hst h8 hd
theorem r_l10 (hC : xCtx C own cc nL0 ret rm) (hG : xGood (xGG C)) (hlink : Cond.methodLink own ix ⟨"ThreeBodies$Value", "of", "(LThreeBodies$Approach;I)I"⟩ ∈ lw_all) (b b1 : Nat) {z : Int32} (hrecv : b = (xGG C).2.2.2 10) (hM : ∀ V, I V → xMet (xL C) (xGG C) yX1_lambda_property_8 [Cond.code yX1_lambda_property_8 cX1_lambda_property_8 2 (some .int)] rm2 [.ref b1, .int z] V (Q2 V) (X2 V)) (hv : ∀ V v V', Q2 V v V' → ∃ r : Int32, v = some (.int r))
    (hR : (rm2.frames + 2).ble rm.frames = true ∧ (8 + (3 + 11) + (8 + (2 + 11) + rm2.locals)).ble rm.locals = true) (hk : k + rm2.cells ≤ rm.cells) (hn : n + rm2.slots ≤ rm.slots) (hst : .int z :: .ref b1 :: .ref b :: st = stk) (h8 : (st.map fun v => v.category).sum ≤ 8) {count : Nat} (hd : decode cc pc = .ok (.invokeinterface ix count, 5)) : xCall C I k n pc 5 lv stk st rm2 Q2 X2 :=
  r_clI hC hG 10 rfl rfl lam10 rfl lam10_d rfl (by decide +kernel) rfl rfl (by decide +kernel) q2685 q2684 (by decide +kernel) mSX1_lambda_property_8 hlink b b1 hrecv hM hv hR hk hn hst h8 hd
theorem r_l11 (hC : xCtx C own cc nL0 ret rm) (hG : xGood (xGG C)) (hlink : Cond.methodLink own ix ⟨"ThreeBodies$Value", "of", "(LThreeBodies$Approach;I)I"⟩ ∈ lw_all) (b b1 : Nat) {z : Int32} (hrecv : b = (xGG C).2.2.2 11) (hM : ∀ V, I V → xMet (xL C) (xGG C) yX1_lambda_property_9 [Cond.code yX1_lambda_property_9 cX1_lambda_property_9 2 (some .int)] rm2 [.ref b1, .int z] V (Q2 V) (X2 V)) (hv : ∀ V v V', Q2 V v V' → ∃ r : Int32, v = some (.int r))
    (hR : (rm2.frames + 2).ble rm.frames = true ∧ (8 + (3 + 11) + (8 + (2 + 11) + rm2.locals)).ble rm.locals = true) (hk : k + rm2.cells ≤ rm.cells) (hn : n + rm2.slots ≤ rm.slots) (hst : .int z :: .ref b1 :: .ref b :: st = stk) (h8 : (st.map fun v => v.category).sum ≤ 8) {count : Nat} (hd : decode cc pc = .ok (.invokeinterface ix count, 5)) : xCall C I k n pc 5 lv stk st rm2 Q2 X2 :=
  r_clI hC hG 11 rfl rfl lam11 rfl lam11_d rfl (by decide +kernel) rfl rfl (by decide +kernel) q2685 q2684 (by decide +kernel) mSX1_lambda_property_9 hlink b b1 hrecv hM hv hR hk hn hst h8 hd
theorem r_l12 (hC : xCtx C own cc nL0 ret rm) (hG : xGood (xGG C)) (hlink : Cond.methodLink own ix ⟨"ThreeBodies$Value", "of", "(LThreeBodies$Approach;I)I"⟩ ∈ lw_all) (b b1 : Nat) {z : Int32} (hrecv : b = (xGG C).2.2.2 12) (hM : ∀ V, I V → xMet (xL C) (xGG C) yX1_lambda_property_10 [Cond.code yX1_lambda_property_10 cX1_lambda_property_10 2 (some .int)] rm2 [.ref b1, .int z] V (Q2 V) (X2 V)) (hv : ∀ V v V', Q2 V v V' → ∃ r : Int32, v = some (.int r))
    (hR : (rm2.frames + 2).ble rm.frames = true ∧ (8 + (3 + 11) + (8 + (2 + 11) + rm2.locals)).ble rm.locals = true) (hk : k + rm2.cells ≤ rm.cells) (hn : n + rm2.slots ≤ rm.slots) (hst : .int z :: .ref b1 :: .ref b :: st = stk) (h8 : (st.map fun v => v.category).sum ≤ 8) {count : Nat} (hd : decode cc pc = .ok (.invokeinterface ix count, 5)) : xCall C I k n pc 5 lv stk st rm2 Q2 X2 :=
  r_clI hC hG 12 rfl rfl lam12 rfl lam12_d rfl (by decide +kernel) rfl rfl (by decide +kernel) q2685 q2684 (by decide +kernel) mSX1_lambda_property_10 hlink b b1 hrecv hM hv hR hk hn hst h8 hd
theorem r_l13 (hC : xCtx C own cc nL0 ret rm) (hG : xGood (xGG C)) (hlink : Cond.methodLink own ix ⟨"ThreeBodies$Value", "of", "(LThreeBodies$Approach;I)I"⟩ ∈ lw_all) (b b1 : Nat) {z : Int32} (hrecv : b = (xGG C).2.2.2 13) (hM : ∀ V, I V → xMet (xL C) (xGG C) yX1_lambda_property_11 [Cond.code yX1_lambda_property_11 cX1_lambda_property_11 2 (some .int)] rm2 [.ref b1, .int z] V (Q2 V) (X2 V)) (hv : ∀ V v V', Q2 V v V' → ∃ r : Int32, v = some (.int r))
    (hR : (rm2.frames + 2).ble rm.frames = true ∧ (8 + (3 + 11) + (8 + (2 + 11) + rm2.locals)).ble rm.locals = true) (hk : k + rm2.cells ≤ rm.cells) (hn : n + rm2.slots ≤ rm.slots) (hst : .int z :: .ref b1 :: .ref b :: st = stk) (h8 : (st.map fun v => v.category).sum ≤ 8) {count : Nat} (hd : decode cc pc = .ok (.invokeinterface ix count, 5)) : xCall C I k n pc 5 lv stk st rm2 Q2 X2 :=
  r_clI hC hG 13 rfl rfl lam13 rfl lam13_d rfl (by decide +kernel) rfl rfl (by decide +kernel) q2685 q2684 (by decide +kernel) mSX1_lambda_property_11 hlink b b1 hrecv hM hv hR hk hn hst h8 hd
theorem r_l14 (hC : xCtx C own cc nL0 ret rm) (hG : xGood (xGG C)) (hlink : Cond.methodLink own ix ⟨"ThreeBodies$Test", "holds", "(LThreeBodies$Approach;I)Z"⟩ ∈ lw_all) (b b1 : Nat) {z : Int32} {v0 : Nat} {v1 : Nat} {v2 : Int32} {v3 : Int32} (hrecv : ∀ V, I V → V.2 b = some (.inr (114, [.ref v0, .ref v1, .int v2, .int v3]))) (hM : ∀ V, I V → xMet (xL C) (xGG C) yX18_lambda_comparison_1 [Cond.code yX18_lambda_comparison_1 cX18_lambda_comparison_1 7 (some .boolean)] rm2 [.ref v0, .ref v1, .int v2, .int v3, .ref b1, .int z] V (Q2 V) (X2 V)) (hv : ∀ V v V', Q2 V v V' → ∃ r : Int32, v = some (.int r) ∧ narrow .boolean (.int r) = .int r)
    (hR : (rm2.frames + 2).ble rm.frames = true ∧ (8 + (3 + 11) + (8 + (7 + 11) + rm2.locals)).ble rm.locals = true) (hk : k + rm2.cells ≤ rm.cells) (hn : n + rm2.slots ≤ rm.slots) (hst : .int z :: .ref b1 :: .ref b :: st = stk) (h8 : (st.map fun v => v.category).sum ≤ 8) {count : Nat} (hd : decode cc pc = .ok (.invokeinterface ix count, 5)) : xCall C I k n pc 5 lv stk st rm2 Q2 X2 :=
  r_clC hC hG 14 rfl rfl lam14 lam14_f0 lam14_f1 lam14_f2 lam14_f3 lam14_d rfl (by decide +kernel) rfl rfl (by decide +kernel) q2640 q2639 (by decide +kernel) mSX18_lambda_comparison_1 hlink b b1 hrecv hM hv hR hk hn hst h8 hd
theorem arr3 {α : Type} {x : Array Nat} {f : Nat → Nat → Nat → Option α} {r : α} (h : Lambda.shapeOf?.match_15 (fun _ => Option α) x f (fun _ => none) = some r) : ∃ a0 a1 a2, f a0 a1 a2 = some r := by
  obtain ⟨L⟩ := x
  rcases L with _ | ⟨a0, _ | ⟨a1, _ | ⟨a2, _ | ⟨a3, L⟩⟩⟩⟩
  · cases h
  · cases h
  · cases h
  · exact ⟨a0, a1, a2, h⟩
  · cases h
theorem mt19 {α : Type} {x : Option CpInfo} {f : Nat → Nat → Option α} {r : α} (h : Lambda.shapeOf?.match_19 (fun _ => Option α) x f (fun _ => none) = some r) : ∃ b nt, x = some (.invokeDynamic b nt) ∧ f b nt = some r := by
  split at h
  · exact ⟨_, _, rfl, h⟩
  · cases h
theorem mt17 {α : Type} {x : Option CpInfo} {f : Nat → Option α} {r : α} (h : Lambda.shapeOf?.match_17 (fun _ => Option α) x f (fun _ => none) = some r) : ∃ b, f b = some r := by
  split at h
  · exact ⟨_, h⟩
  · cases h
theorem mt9 {α : Type} {x : Option CpInfo} {f : Nat → Option α} {r : α} (h : Lambda.shapeOf?.match_9 (fun _ => Option α) x f (fun _ => none) = some r) : ∃ b, f b = some r := by
  split at h
  · exact ⟨_, h⟩
  · cases h
theorem mt12 {α : Type} {x : Option CpInfo} {f : Nat → Nat → Option α} {r : α} (h : Lambda.shapeOf?.match_12 (fun _ => Option α) x f (fun _ => none) = some r) : ∃ b nt, f b nt = some r := by
  split at h
  · exact ⟨_, _, h⟩
  · cases h
theorem mt6 {α : Type} {x : Option FieldType} {f : String → Option α} {r : α} (h : Lambda.shapeOf?.match_6 (fun _ => Option α) x f (fun _ => none) = some r) : ∃ b, f b = some r := by
  split at h
  · exact ⟨_, h⟩
  · cases h
theorem shp {cf : ClassFile} {index : Nat} {σ : Lambda.Shape} (h : Lambda.shapeOf? cf index = some σ) : ∃ (b nt : Nat) (desc : String) (site : MethodDescriptor), cf.constantPool[index]? = some (.invokeDynamic b nt) ∧ cf.constantPool.nameAndType? nt = some (σ.name, desc) ∧ parseMethodDescriptor desc = some site ∧ site.parameters = σ.captured := by
  unfold Lambda.shapeOf? at h
  obtain ⟨b, nt, hc, h⟩ := mt19 h
  obtain ⟨_, -, h⟩ := Option.bind_eq_some_iff.mp h
  obtain ⟨_, -, h⟩ := Option.bind_eq_some_iff.mp h
  obtain ⟨_, h⟩ := mt17 h
  obtain ⟨_, -, h⟩ := Option.bind_eq_some_iff.mp h
  obtain ⟨_, _, _, h⟩ := arr3 h
  obtain ⟨_, h⟩ := mt9 h
  obtain ⟨_, _, h⟩ := mt12 h
  obtain ⟨_, h⟩ := mt9 h
  obtain ⟨⟨name, desc⟩, hnt, h⟩ := Option.bind_eq_some_iff.mp h
  obtain ⟨site, hsite, h⟩ := Option.bind_eq_some_iff.mp h
  obtain ⟨_, h⟩ := mt6 h
  obtain ⟨⟨_, _, _, _⟩, -, h⟩ := Option.bind_eq_some_iff.mp h
  obtain ⟨_, -, h⟩ := Option.bind_eq_some_iff.mp h
  obtain ⟨_, -, h⟩ := Option.bind_eq_some_iff.mp h
  obtain ⟨_, -, h⟩ := Option.bind_eq_some_iff.mp h
  obtain ⟨_, -, h⟩ := Option.bind_eq_some_iff.mp h
  obtain ⟨_, -, h⟩ := Option.bind_eq_some_iff.mp h
  cases h
  exact ⟨b, nt, desc, site, hc, hnt, hsite, rfl⟩
theorem made_ty {s : State} {args : Array Value} {d c : ClassId} {σ : Lambda.Shape} {dk : Class} {T : Array FieldType} (h : Lambda.isMade { classPath := fun _ => none } s.vm d σ c = true) (hd : s.vm.classes[d]? = some dk) (hO : (Cond.instantiable "java/lang/Object" 0).before args s = true) (hlay : ((σ.file dk.name).bind (layoutFields · 0)).map (·.2.1) = some T) : ∃ k, s.vm.classes[c]? = some k ∧ k.instanceTypes = T ∧ k.kind = .ordinary := by
  obtain ⟨dk', k, ok, tk, file, cf, object, iface, t, lay, methods, target, found, h1, h2, h3, h4, h5, h6, h7, h8, h9, h10, h11, h12, h13, ⟨-, hkind, -⟩, -, -, -, -, -, -, -, ⟨hty, -⟩, -⟩ := Lambda.isMade_spec h
  cases hd.symm.trans h1
  obtain ⟨cO, kO, hfO, hkO, -, -, -, hsz⟩ := Cond.instantiable_spec hO
  cases hfO.symm.trans h5
  cases hkO.symm.trans h7
  have hemp : ok.instanceTypes = #[] := Array.eq_empty_of_size_eq_zero hsz
  rw [hsz] at h8
  rw [h4] at hlay
  simp only [Option.bind_some, h8, Option.map_some, Option.some.injEq] at hlay
  exact ⟨k, h2, by rw [hty, hemp, hlay]; simp, hkind⟩
def xNm (C : xC) (x : MethodName) : Prop := C.2.2.2.2.1.methodNamed? x = some C.2.2.2.2.2.1
theorem r_indyC (hC : xCtx C own cc nL0 ret rm) (hG : xGood (xGG C)) (i : Nat) {w : Cond} {q9 : MethodName × Nat × Nat × Lambda.Shape} (hw : xSites[i]? = some w) (hq9 : xSite w = some q9) (hcap : q9.2.2.2.captured = []) (hnm : xNm C q9.1) (hpc : q9.2.1 = pc) {ix : Nat} (hR : (8 + 3072).ble rm.locals = true) (h8 : (st.map fun v => v.category).sum ≤ 8) (hd : decode cc pc = .ok (.invokedynamic ix, 5)) (kk : rn C I k n (pc + 5) lv (.ref ((xGG C).2.2.2 i) :: st)) : rn C I k n pc lv st := by
  obtain ⟨p, l, e, R, s, m, args, below, meth, c, G, nL, Q, X⟩ := C
  obtain ⟨hx, hb, hml, hnL, hown, hts, hK, hr, hlocks, hW0, hRm, -⟩ := hC
  subst hRm
  have hnm : s.methodNamed? q9.1 = some m := hnm
  obtain ⟨-, b9, ht9, -, hlam⟩ := id hG
  have hat := hlam i w q9 hw hq9
  obtain ⟨m9, kS, cfS, i0, p0, lk, hm9, hkS, hcfS, hshape, -, hfind, hmade, hcan, hlk⟩ := State.lambdaAt?_spec hat
  have hm9' : s.methodNamed? q9.1 = some m9 := by
    have := State.methodNamed?_setVm (s := G.1) hW0.alike q9.1
    rw [hm9] at this
    exact this
  cases hnm.symm.trans hm9'
  obtain ⟨kD, hkD, heD⟩ := hW0.alike.2.2 _ _ hkS
  rw [if_pos hcap] at hlk
  obtain ⟨a9, rfl, ha9⟩ : ∃ a9, lk = .constant a9 ∧ G.2.2.2 i = a9 := by
    rcases hlk with ⟨a9, cell, h1, h2, -⟩ | ⟨-, h2, -⟩
    · exact ⟨a9, h1, Option.some.inj h2⟩
    · cases h2
  subst hpc
  have hfind' : (kD.callSites.find? fun y => y.1 == m.idx && y.2.1 == q9.2.1) = some (i0, p0, .constant a9) := by rw [heD]; exact hfind
  intro V H locs ls hV hRep hL hl T hT X0
  obtain ⟨t, a1, b1⟩ := kk V H locs ls hV hRep hL hl T hT X0
  have h8' : 2 * (F0 m q9.2.1 ls st).monitorRoom + (st.map fun v => v.category).sum ≤ 8 := lv_room h8
  have hR2 := Nat.le_of_ble_eq_true hR
  refine ⟨t, X0.lambdaConstant hx (g := F0 m q9.2.1 ls st) rfl (hl.1.trans hml.symm) (by rw [hb]; exact hd) hkD hfind' (by rw [X0.admits.platform]; show 2 * (F0 m q9.2.1 ls st).monitorRoom + (st.map fun v => v.category).sum + 3072 ≤ _; omega) ?_, b1⟩
  rw [← ha9]
  exact a1
theorem r_indyM (hC : xCtx C own cc nL0 ret rm) (hG : xGood (xGG C)) {J : Nat → xV → Prop} (i : Nat) {w : Cond} {q9 : MethodName × Nat × Nat × Lambda.Shape} (hw : xSites[i]? = some w) (hq9 : xSite w = some q9) (hcap : ¬ q9.2.2.2.captured = []) (hnm : xNm C q9.1) (hpc : q9.2.1 = pc) {ix : Nat} (hix : q9.2.2.1 = ix) (tys : List FieldType) (hlay : ((q9.2.2.2.file q9.1.cls).bind (layoutFields · 0)).map (·.2.1) = some tys.toArray) (vs : List Value) (hlen : vs.length = q9.2.2.2.captured.length) (hnar : (tys.zip vs).map (fun q => narrow q.1 q.2) = vs) (hfit : ∀ (j : Nat) (v : Value), vs[j]? = some v → ∃ ty, tys[j]? = some ty ∧ fits ty v = true) (hR : (16 + 3072).ble rm.locals = true) (h8 : (stk.map fun v => v.category).sum ≤ 16) (hst : vs.reverse ++ st = stk) (hk1 : k + 1 ≤ rm.cells) (hn1 : n + vs.length ≤ rm.slots) (hd : decode cc pc = .ok (.invokedynamic ix, 5)) (hJ : ∀ V, I V → J V.1 (xpush V (.inr (100 + i, vs)))) (kk : ∀ q, rn C (J q) (k + 1) (n + vs.length) (pc + 5) lv (.ref q :: st)) : rn C I k n pc lv stk := by
  obtain ⟨p, l, e, R, s, m, args, below, meth, c, G, nL, Q, X⟩ := C
  obtain ⟨hx, hb, hml, hnL, hown, hts, hK, hr, hlocks, hW0, hRm, hsz⟩ := hC
  subst hRm
  have hnm : s.methodNamed? q9.1 = some m := hnm
  obtain ⟨-, b9, ht9, -, hlam⟩ := id hG
  have hat := hlam i w q9 hw hq9
  obtain ⟨m9, kS, cfS, i0, p0, lk, hm9, hkS, hcfS, hshape, -, hfind, hmade, hcan, hlk⟩ := State.lambdaAt?_spec hat
  have hm9' : s.methodNamed? q9.1 = some m9 := by
    have := State.methodNamed?_setVm (s := G.1) hW0.alike q9.1
    rw [hm9] at this
    exact this
  cases hnm.symm.trans hm9'
  obtain ⟨kD, hkD, heD⟩ := hW0.alike.2.2 _ _ hkS
  obtain ⟨kS', hkS', hnameS⟩ := className_of_methodNamed hm9
  cases hkS.symm.trans hkS'
  rw [if_neg hcap] at hlk
  obtain rfl : lk = .makes (G.2.2.1 (100 + i)) := by
    rcases hlk with ⟨a9, cell, -, h2, -⟩ | ⟨h1, -⟩
    · cases h2
    · exact h1
  subst hpc hix
  have hfind' : (kD.callSites.find? fun y => y.1 == m.idx && y.2.1 == q9.2.1) = some (i0, p0, .makes (G.2.2.1 (100 + i))) := by rw [heD]; exact hfind
  have hcf' : kD.cf = some cfS := by rw [heD]; exact hcfS
  obtain ⟨bsm, nt, desc, site, hcc, hnt, hsite, hpar⟩ := shp hshape
  have hmadeS := Lambda.isMade_warmer hW0 hmade
  have hnameD : kD.name = q9.1.cls := by rw [heD]; exact hnameS
  obtain ⟨kK, hkK, htyK, hkindK⟩ := made_ty (args := args) hmadeS hkD (hts _ q3439) (by rw [hnameD]; exact hlay)
  intro V H locs ls hV hRep hL hl T hT X0
  have h8' : 2 * (F0 m q9.2.1 ls stk).monitorRoom + (stk.map fun v => v.category).sum ≤ 16 := by
    have : 2 * (F0 m q9.2.1 ls stk).monitorRoom = 0 := rfl
    omega
  have hR2 := Nat.le_of_ble_eq_true hR
  have hsl : ((kK.instanceTypes.toList.zip vs).map fun (t, v) => narrow t v) = vs := by
    rw [htyK]
    exact hnar
  obtain ⟨X₁, st1⟩ := X0.lambdaMakes hx (g := F0 m q9.2.1 ls stk) rfl (hl.1.trans hml.symm) (by rw [hb]; exact hd) (vals := vs) (rest := st) hkD hfind' hcf' hcc hnt (parseLong_of_parse hsite) (by rw [hpar]; exact hlen) hst.symm hkK
    (by rw [X0.admits.platform]; show 2 * (F0 m q9.2.1 ls stk).monitorRoom + (stk.map fun v => v.category).sum + 3072 ≤ _; omega) hk1 (by rw [hsl]; exact hn1)
    (fun i v hv => by
      rw [hsl] at hv
      obtain ⟨ty, h1, h2⟩ := hfit i v (by simpa using hv)
      simp [State.fitsSlot, State.slotType?, hkK, hkindK, htyK, h1, h2])
  rw [hsl] at X₁ st1
  have hTsz : T.heap.size = V.1 := by rw [hT]; exact hRep.1
  have hheap : (T.pushCell { cls := G.2.2.1 (100 + i), slots := vs.toArray, vm := .none }).heap = H.push { cls := G.2.2.1 (100 + i), slots := vs.toArray, vm := .none } := by
    show T.heap.push _ = _
    rw [hT]
  have hRep' : xRep G (xpush V (.inr (100 + i, vs))) (H.push { cls := G.2.2.1 (100 + i), slots := vs.toArray, vm := .none }) := by
    refine hRep.push (by rw [Array.size_push, hRep.1]) (fun q hq => by rw [Array.getElem?_push, if_neg (by have := hRep.1; omega)]) ?_
    simp only [xat]
    rw [if_neg (by omega)]
    exact ⟨_, by rw [← hRep.1]; exact Array.getElem?_push_size, rfl, rfl, by simp⟩
  obtain ⟨t, a1, b1⟩ := kk V.1 _ _ locs ls (hJ V hV) hRep' hL hl _ hheap X₁
  rw [hTsz] at st1
  exact ⟨t, st1 _ a1, b1⟩
end LAM4
