/-! ===== the JDK: trees: split ===== -/
set_option maxRecDepth 100000
set_option maxHeartbeats 4000000 in
set_option maxRecDepth 100000 in
theorem lpJ26_spl {C : xC} {F : Nat → Prop} {V0 : xV} (c9 s9 : Nat) (hG : xGood (xGG C)) (hC : xCtx C RJ26 cJ26_split 14 none { frames := 5, locals := 117, cells := c9, slots := s9 }) (k n : Nat) (L : List Nat) (kd : Nat → Bool) (hs : Nat → Int32) (ky vl : Nat → Nat) (bf af pa lf rt : Nat → Option Nat) (rd : Nat → Int32) (M : Nat) (tbo es : Option Nat) (sz th : Nat) (mc : Int32) (hd tl : Option Nat) (tb cap2 : Nat) (tf : Nat → Option Nat) (cap b : Nat) (nx0 pv0 : Nat → Option Nat) (Lb : List Nat) (hmL : ∀ a, a ∈ Lb → a ∈ L ∧ kd a = true) (kx : ∀ (Lo Hi : List Nat) (nx pv : Nat → Option Nat), spI hs cap nx0 pv0 Lb Lb [] Lo Hi nx pv → rn C (xSt F V0 ([(M, .inr (25, [va_rf tbo, va_rf es, .int (nI sz), .int mc, .int (nI th), .float 1061158912, .null, .null, va_rf hd, va_rf tl, .int 0, .int 0])), (tb, .inl (8, cap2, .inr (.inr (.inr (.inr tf)))))] ++ stW L (ndX kd hs ky vl nx bf af pa lf rt pv rd))) k n 131 [(11, .int (nI Hi.length)), (10, .int (nI Lo.length)), (8, (va_rf Hi.head?)), (6, (va_rf Lo.head?)), (4, .int (nI cap)), (3, .int (nI b)), (2, .ref tb), (1, .ref M)] []) : ∀ (rest done Lo Hi : List Nat) (nx pv : Nat → Option Nat) (o : Option Nat), seg nx0 o rest none → spI hs cap nx0 pv0 Lb done rest Lo Hi nx pv → rn C (xSt F V0 ([(M, .inr (25, [va_rf tbo, va_rf es, .int (nI sz), .int mc, .int (nI th), .float 1061158912, .null, .null, va_rf hd, va_rf tl, .int 0, .int 0])), (tb, .inl (8, cap2, .inr (.inr (.inr (.inr tf)))))] ++ stW L (ndX kd hs ky vl nx bf af pa lf rt pv rd))) k n 25 [(12, (va_rf o)), (11, .int (nI Hi.length)), (10, .int (nI Lo.length)), (9, (va_rf (lstO none Hi))), (8, (va_rf Hi.head?)), (7, (va_rf (lstO none Lo))), (6, (va_rf Lo.head?)), (4, .int (nI cap)), (3, .int (nI b)), (2, .ref tb), (1, .ref M)] [] := by
  intro rest
  induction rest with
  | nil =>
    intro done Lo Hi nx pv o hseg hI
    obtain rfl : o = none := hseg
    have hI1 := hI.1
    refine r_aloadN hC 0 dJ26_split_25 rfl 27 rfl ?_
    refine r_ifnullN hC 131 dJ26_split_27 (by decide) ?_
    refine rn.sub (lv' := [(11, .int (nI Hi.length)), (10, .int (nI Lo.length)), (8, (va_rf Hi.head?)), (6, (va_rf Lo.head?)), (4, .int (nI cap)), (3, .int (nI b)), (2, .ref tb), (1, .ref M)]) [1, 2, 4, 6, 7, 8, 9, 10] rfl ?_
    rw [List.append_nil] at hI1
    subst hI1
    exact kx Lo Hi nx pv hI
  | cons e rest ih =>
    intro done Lo Hi nx pv o hseg hI
    obtain rfl : o = some e := hseg.1
    have heLb : e ∈ Lb := by rw [hI.1]; exact List.mem_append_right _ List.mem_cons_self
    have hnd := hI.2.2.2.2.2.2.2.2
    rw [hI.1] at hnd
    have hed : e ∉ done := (nd_split hnd).1
    cases hlb : lob hs cap e with
    | true =>
      have hlz0 : (hs e &&& nI cap) = 0 := of_decide_eq_true hlb
      rcases opt_c (lstO none Lo) with hlz | ⟨z, hlz⟩
      · have Lo0 : Lo = [] := lst_none hlz
        rw [hlz, show Lo.head? = none by rw [Lo0]; rfl]
        refine r_aload hC 0 dJ26_split_25 rfl 27 rfl ?_
        refine r_ifnull hC dJ26_split_27 30 rfl ?_
        refine r_aload hC 0 dJ26_split_30 rfl 32 rfl ?_
        rcases opt_c (nx e) with hl1 | ⟨x2, hl1⟩
        · skip
          refine r_getI (v := .null) hC kJ26 3 rfl q2247 (Or.inr q2248) (fun _ h => stW_get h ((hmL e heLb).1) (ndX_t ((hmL e heLb).2))) (congrArg (fun o9 => some (va_rf o9)) (hl1)) dJ26_split_32 35 rfl ?_
          refine r_castN hC dJ26_split_35 38 rfl ?_
          refine r_astoreN hC 13 [(13, .null), (12, .ref e), (11, .int (nI Hi.length)), (10, .int (nI Lo.length)), (9, (va_rf (lstO none Hi))), (8, (va_rf Hi.head?)), (7, .null), (6, .null), (4, .int (nI cap)), (3, .int (nI b)), (2, .ref tb), (1, .ref M)] dJ26_split_38 (Nat.le_of_ble_eq_true rfl) rfl 40 rfl ?_
          refine r_aload hC 1 dJ26_split_40 rfl 42 rfl ?_
          refine r_null hC dJ26_split_42 43 rfl ?_
          refine r_putI (J := xSt F V0 ([(M, .inr (25, [va_rf tbo, va_rf es, .int (nI sz), .int mc, .int (nI th), .float 1061158912, .null, .null, va_rf hd, va_rf tl, .int 0, .int 0])), (tb, .inl (8, cap2, .inr (.inr (.inr (.inr tf)))))] ++ stW L (ndX kd hs ky vl (va_up nx e none) bf af pa lf rt pv rd))) hC kJ26 3 rfl q2247 (Or.inr q2248) rfl (fun _ h => stW_get h ((hmL e heLb).1) (ndX_t ((hmL e heLb).2))) (Nat.le_of_ble_eq_true rfl) rfl rfl dJ26_split_43 (fun _ h => stW_set h ((hmL e heLb).1) (ndX_nx ((hmL e heLb).2))) 46 rfl ?_
          refine r_aload hC 1 dJ26_split_46 rfl 48 rfl ?_
          refine r_getI (v := .int (hs e)) hC kJ26 0 rfl q2230 (Or.inr q2231) (fun _ h => stW_get h ((hmL e heLb).1) (ndX_t ((hmL e heLb).2))) rfl dJ26_split_48 51 rfl ?_
          refine r_iload hC 8 dJ26_split_51 rfl 53 rfl ?_
          refine r_iand hC ((hs e) &&& (nI cap)) dJ26_split_53  (rfl) 54 rfl ?_
          refine r_ifne hC 92 dJ26_split_54 (by decide) 57 rfl (fun h => absurd (hlz0) h) (fun _ => ?_)
          refine r_aload hC 1 dJ26_split_57 rfl 59 rfl ?_
          refine r_aloadN hC 6 dJ26_split_59 rfl 61 rfl ?_
          refine r_dup_x1 hC dJ26_split_61 rfl rfl 62 rfl ?_
          refine r_putI (J := xSt F V0 ([(M, .inr (25, [va_rf tbo, va_rf es, .int (nI sz), .int mc, .int (nI th), .float 1061158912, .null, .null, va_rf hd, va_rf tl, .int 0, .int 0])), (tb, .inl (8, cap2, .inr (.inr (.inr (.inr tf)))))] ++ stW L (ndX kd hs ky vl (va_up nx e none) bf af pa lf rt (va_up pv e none) rd))) hC kJ26 9 rfl q2318 (Or.inl rfl) rfl (fun _ h => stW_get h ((hmL e heLb).1) (ndX_t ((hmL e heLb).2))) (Nat.le_of_ble_eq_true rfl) rfl rfl dJ26_split_62 (fun _ h => stW_set h ((hmL e heLb).1) (ndX_pv ((hmL e heLb).2))) 65 rfl ?_
          refine r_ifnonnullN hC dJ26_split_65 68 rfl ?_
          refine r_aload hC 1 dJ26_split_68 rfl 70 rfl ?_
          refine r_astore hC 6 [(6, .ref e), (13, .null), (12, .ref e), (11, .int (nI Hi.length)), (10, .int (nI Lo.length)), (9, (va_rf (lstO none Hi))), (8, (va_rf Hi.head?)), (7, .null), (4, .int (nI cap)), (3, .int (nI b)), (2, .ref tb), (1, .ref M)] dJ26_split_70 (Nat.le_of_ble_eq_true rfl) rfl 72 rfl ?_
          refine r_goto hC 82 dJ26_split_72 (by decide) ?_
          refine r_aload hC 2 dJ26_split_82 rfl 84 rfl ?_
          refine r_astore hC 7 [(7, .ref e), (6, .ref e), (13, .null), (12, .ref e), (11, .int (nI Hi.length)), (10, .int (nI Lo.length)), (9, (va_rf (lstO none Hi))), (8, (va_rf Hi.head?)), (4, .int (nI cap)), (3, .int (nI b)), (2, .ref tb), (1, .ref M)] dJ26_split_84 (Nat.le_of_ble_eq_true rfl) rfl 86 rfl ?_
          refine r_iinc hC (nI (Lo.length + 1)) 10 5 [(10, .int (nI (Lo.length + 1))), (7, .ref e), (6, .ref e), (13, .null), (12, .ref e), (11, .int (nI Hi.length)), (9, (va_rf (lstO none Hi))), (8, (va_rf Hi.head?)), (4, .int (nI cap)), (3, .int (nI b)), (2, .ref tb), (1, .ref M)] dJ26_split_86 rfl (nI_add Lo.length 1) (Nat.le_of_ble_eq_true rfl) (by cases (lstO none Hi) <;> rfl) 89 rfl ?_
          refine r_goto hC 124 dJ26_split_89 (by decide) ?_
          refine r_aloadN hC 3 dJ26_split_124 rfl 126 rfl ?_
          refine r_astoreN hC 12 [(12, .null), (10, .int (nI (Lo.length + 1))), (7, .ref e), (6, .ref e), (13, .null), (11, .int (nI Hi.length)), (9, (va_rf (lstO none Hi))), (8, (va_rf Hi.head?)), (4, .int (nI cap)), (3, .int (nI b)), (2, .ref tb), (1, .ref M)] dJ26_split_126 (Nat.le_of_ble_eq_true rfl) rfl 128 rfl ?_
          refine r_goto hC 25 dJ26_split_128 (by decide) ?_
          refine rn.sub (lv' := [(12, .null), (11, .int (nI Hi.length)), (10, .int (nI (Lo.length + 1))), (9, (va_rf (lstO none Hi))), (8, (va_rf Hi.head?)), (7, .ref e), (6, .ref e), (4, .int (nI cap)), (3, .int (nI b)), (2, .ref tb), (1, .ref M)]) [0, 5, 1, 6, 7, 2, 3, 8, 9, 10, 11] rfl ?_
          have hI' := hI.lo hlb (nx' := va_up nx e none) (pv' := va_up pv e none) (up_same _ _ _) (fun z9 e9 => by rw [hlz] at e9; cases e9) (fun a na _ => up_ne na) ((up_same _ _ _).trans hlz.symm) (fun a na => up_ne na)
          have hsg : seg nx0 none rest none := by have h8 := hseg.2; rw [← (hI.2.2.2.2.2.2.2.1 e hed).1, hl1] at h8; exact h8
          have key := ih (done ++ [e]) (Lo ++ [e]) Hi (va_up nx e none) (va_up pv e none) none hsg hI'
          rw [show lstO none (Lo ++ [e]) = some e from lstO_snoc, show (Lo ++ [e]).head? = some e by rw [Lo0]; rfl, show (Lo ++ [e]).length = Lo.length + 1 by rw [List.length_append]; rfl] at key
          exact key
        · skip
          have hym : x2 ∈ Lb := by
            have h8 := hseg.2
            rw [← (hI.2.2.2.2.2.2.2.1 e hed).1, hl1] at h8
            obtain ⟨t9, ht9⟩ := seg_some h8
            rw [hI.1, ht9]; exact List.mem_append_right _ (List.mem_cons_of_mem _ List.mem_cons_self)
          refine r_getI (v := .ref x2) hC kJ26 3 rfl q2247 (Or.inr q2248) (fun _ h => stW_get h ((hmL e heLb).1) (ndX_t ((hmL e heLb).2))) (congrArg (fun o9 => some (va_rf o9)) (hl1)) dJ26_split_32 35 rfl ?_
          refine r_castS hC kJ26 q2206 (fun _ h => ⟨_, stW_get h ((hmL x2 hym).1) (ndX_t ((hmL x2 hym).2))⟩) dJ26_split_35 38 rfl ?_
          refine r_astore hC 13 [(13, .ref x2), (12, .ref e), (11, .int (nI Hi.length)), (10, .int (nI Lo.length)), (9, (va_rf (lstO none Hi))), (8, (va_rf Hi.head?)), (7, .null), (6, .null), (4, .int (nI cap)), (3, .int (nI b)), (2, .ref tb), (1, .ref M)] dJ26_split_38 (Nat.le_of_ble_eq_true rfl) rfl 40 rfl ?_
          refine r_aload hC 1 dJ26_split_40 rfl 42 rfl ?_
          refine r_null hC dJ26_split_42 43 rfl ?_
          refine r_putI (J := xSt F V0 ([(M, .inr (25, [va_rf tbo, va_rf es, .int (nI sz), .int mc, .int (nI th), .float 1061158912, .null, .null, va_rf hd, va_rf tl, .int 0, .int 0])), (tb, .inl (8, cap2, .inr (.inr (.inr (.inr tf)))))] ++ stW L (ndX kd hs ky vl (va_up nx e none) bf af pa lf rt pv rd))) hC kJ26 3 rfl q2247 (Or.inr q2248) rfl (fun _ h => stW_get h ((hmL e heLb).1) (ndX_t ((hmL e heLb).2))) (Nat.le_of_ble_eq_true rfl) rfl rfl dJ26_split_43 (fun _ h => stW_set h ((hmL e heLb).1) (ndX_nx ((hmL e heLb).2))) 46 rfl ?_
          refine r_aload hC 1 dJ26_split_46 rfl 48 rfl ?_
          refine r_getI (v := .int (hs e)) hC kJ26 0 rfl q2230 (Or.inr q2231) (fun _ h => stW_get h ((hmL e heLb).1) (ndX_t ((hmL e heLb).2))) rfl dJ26_split_48 51 rfl ?_
          refine r_iload hC 8 dJ26_split_51 rfl 53 rfl ?_
          refine r_iand hC ((hs e) &&& (nI cap)) dJ26_split_53  (rfl) 54 rfl ?_
          refine r_ifne hC 92 dJ26_split_54 (by decide) 57 rfl (fun h => absurd (hlz0) h) (fun _ => ?_)
          refine r_aload hC 1 dJ26_split_57 rfl 59 rfl ?_
          refine r_aloadN hC 6 dJ26_split_59 rfl 61 rfl ?_
          refine r_dup_x1 hC dJ26_split_61 rfl rfl 62 rfl ?_
          refine r_putI (J := xSt F V0 ([(M, .inr (25, [va_rf tbo, va_rf es, .int (nI sz), .int mc, .int (nI th), .float 1061158912, .null, .null, va_rf hd, va_rf tl, .int 0, .int 0])), (tb, .inl (8, cap2, .inr (.inr (.inr (.inr tf)))))] ++ stW L (ndX kd hs ky vl (va_up nx e none) bf af pa lf rt (va_up pv e none) rd))) hC kJ26 9 rfl q2318 (Or.inl rfl) rfl (fun _ h => stW_get h ((hmL e heLb).1) (ndX_t ((hmL e heLb).2))) (Nat.le_of_ble_eq_true rfl) rfl rfl dJ26_split_62 (fun _ h => stW_set h ((hmL e heLb).1) (ndX_pv ((hmL e heLb).2))) 65 rfl ?_
          refine r_ifnonnullN hC dJ26_split_65 68 rfl ?_
          refine r_aload hC 1 dJ26_split_68 rfl 70 rfl ?_
          refine r_astore hC 6 [(6, .ref e), (13, .ref x2), (12, .ref e), (11, .int (nI Hi.length)), (10, .int (nI Lo.length)), (9, (va_rf (lstO none Hi))), (8, (va_rf Hi.head?)), (7, .null), (4, .int (nI cap)), (3, .int (nI b)), (2, .ref tb), (1, .ref M)] dJ26_split_70 (Nat.le_of_ble_eq_true rfl) rfl 72 rfl ?_
          refine r_goto hC 82 dJ26_split_72 (by decide) ?_
          refine r_aload hC 2 dJ26_split_82 rfl 84 rfl ?_
          refine r_astore hC 7 [(7, .ref e), (6, .ref e), (13, .ref x2), (12, .ref e), (11, .int (nI Hi.length)), (10, .int (nI Lo.length)), (9, (va_rf (lstO none Hi))), (8, (va_rf Hi.head?)), (4, .int (nI cap)), (3, .int (nI b)), (2, .ref tb), (1, .ref M)] dJ26_split_84 (Nat.le_of_ble_eq_true rfl) rfl 86 rfl ?_
          refine r_iinc hC (nI (Lo.length + 1)) 10 5 [(10, .int (nI (Lo.length + 1))), (7, .ref e), (6, .ref e), (13, .ref x2), (12, .ref e), (11, .int (nI Hi.length)), (9, (va_rf (lstO none Hi))), (8, (va_rf Hi.head?)), (4, .int (nI cap)), (3, .int (nI b)), (2, .ref tb), (1, .ref M)] dJ26_split_86 rfl (nI_add Lo.length 1) (Nat.le_of_ble_eq_true rfl) (by cases (lstO none Hi) <;> rfl) 89 rfl ?_
          refine r_goto hC 124 dJ26_split_89 (by decide) ?_
          refine r_aload hC 3 dJ26_split_124 rfl 126 rfl ?_
          refine r_astore hC 12 [(12, .ref x2), (10, .int (nI (Lo.length + 1))), (7, .ref e), (6, .ref e), (13, .ref x2), (11, .int (nI Hi.length)), (9, (va_rf (lstO none Hi))), (8, (va_rf Hi.head?)), (4, .int (nI cap)), (3, .int (nI b)), (2, .ref tb), (1, .ref M)] dJ26_split_126 (Nat.le_of_ble_eq_true rfl) rfl 128 rfl ?_
          refine r_goto hC 25 dJ26_split_128 (by decide) ?_
          refine rn.sub (lv' := [(12, .ref x2), (11, .int (nI Hi.length)), (10, .int (nI (Lo.length + 1))), (9, (va_rf (lstO none Hi))), (8, (va_rf Hi.head?)), (7, .ref e), (6, .ref e), (4, .int (nI cap)), (3, .int (nI b)), (2, .ref tb), (1, .ref M)]) [0, 5, 1, 6, 7, 2, 3, 8, 9, 10, 11] rfl ?_
          have hI' := hI.lo hlb (nx' := va_up nx e none) (pv' := va_up pv e none) (up_same _ _ _) (fun z9 e9 => by rw [hlz] at e9; cases e9) (fun a na _ => up_ne na) ((up_same _ _ _).trans hlz.symm) (fun a na => up_ne na)
          have hsg : seg nx0 (some x2) rest none := by have h8 := hseg.2; rw [← (hI.2.2.2.2.2.2.2.1 e hed).1, hl1] at h8; exact h8
          have key := ih (done ++ [e]) (Lo ++ [e]) Hi (va_up nx e none) (va_up pv e none) (some x2) hsg hI'
          rw [show lstO none (Lo ++ [e]) = some e from lstO_snoc, show (Lo ++ [e]).head? = some e by rw [Lo0]; rfl, show (Lo ++ [e]).length = Lo.length + 1 by rw [List.length_append]; rfl] at key
          exact key
      · have hzX : z ∈ Lo := by obtain ⟨l0, hz⟩ := lstO_some hlz; rw [hz]; exact List.mem_append_right _ List.mem_cons_self
        have hzd : z ∈ done := by rw [hI.2.1] at hzX; exact fl_mem hzX
        have hzLb : z ∈ Lb := by rw [hI.1]; exact List.mem_append_left _ hzd
        have nez : e ≠ z := fun q => hed (by rw [q]; exact hzd)
        obtain ⟨hX, hhX⟩ : ∃ hX, Lo.head? = some hX := by
          cases hN9 : Lo with
          | nil => rw [hN9] at hlz; cases hlz
          | cons c t => exact ⟨c, rfl⟩
        rw [hlz, hhX]
        refine r_aload hC 0 dJ26_split_25 rfl 27 rfl ?_
        refine r_ifnull hC dJ26_split_27 30 rfl ?_
        refine r_aload hC 0 dJ26_split_30 rfl 32 rfl ?_
        rcases opt_c (nx e) with hl1 | ⟨x2, hl1⟩
        · skip
          refine r_getI (v := .null) hC kJ26 3 rfl q2247 (Or.inr q2248) (fun _ h => stW_get h ((hmL e heLb).1) (ndX_t ((hmL e heLb).2))) (congrArg (fun o9 => some (va_rf o9)) (hl1)) dJ26_split_32 35 rfl ?_
          refine r_castN hC dJ26_split_35 38 rfl ?_
          refine r_astoreN hC 13 [(13, .null), (12, .ref e), (11, .int (nI Hi.length)), (10, .int (nI Lo.length)), (9, (va_rf (lstO none Hi))), (8, (va_rf Hi.head?)), (7, .ref z), (6, .ref hX), (4, .int (nI cap)), (3, .int (nI b)), (2, .ref tb), (1, .ref M)] dJ26_split_38 (Nat.le_of_ble_eq_true rfl) rfl 40 rfl ?_
          refine r_aload hC 1 dJ26_split_40 rfl 42 rfl ?_
          refine r_null hC dJ26_split_42 43 rfl ?_
          refine r_putI (J := xSt F V0 ([(M, .inr (25, [va_rf tbo, va_rf es, .int (nI sz), .int mc, .int (nI th), .float 1061158912, .null, .null, va_rf hd, va_rf tl, .int 0, .int 0])), (tb, .inl (8, cap2, .inr (.inr (.inr (.inr tf)))))] ++ stW L (ndX kd hs ky vl (va_up nx e none) bf af pa lf rt pv rd))) hC kJ26 3 rfl q2247 (Or.inr q2248) rfl (fun _ h => stW_get h ((hmL e heLb).1) (ndX_t ((hmL e heLb).2))) (Nat.le_of_ble_eq_true rfl) rfl rfl dJ26_split_43 (fun _ h => stW_set h ((hmL e heLb).1) (ndX_nx ((hmL e heLb).2))) 46 rfl ?_
          refine r_aload hC 1 dJ26_split_46 rfl 48 rfl ?_
          refine r_getI (v := .int (hs e)) hC kJ26 0 rfl q2230 (Or.inr q2231) (fun _ h => stW_get h ((hmL e heLb).1) (ndX_t ((hmL e heLb).2))) rfl dJ26_split_48 51 rfl ?_
          refine r_iload hC 8 dJ26_split_51 rfl 53 rfl ?_
          refine r_iand hC ((hs e) &&& (nI cap)) dJ26_split_53  (rfl) 54 rfl ?_
          refine r_ifne hC 92 dJ26_split_54 (by decide) 57 rfl (fun h => absurd (hlz0) h) (fun _ => ?_)
          refine r_aload hC 1 dJ26_split_57 rfl 59 rfl ?_
          refine r_aload hC 6 dJ26_split_59 rfl 61 rfl ?_
          refine r_dup_x1 hC dJ26_split_61 rfl rfl 62 rfl ?_
          refine r_putI (J := xSt F V0 ([(M, .inr (25, [va_rf tbo, va_rf es, .int (nI sz), .int mc, .int (nI th), .float 1061158912, .null, .null, va_rf hd, va_rf tl, .int 0, .int 0])), (tb, .inl (8, cap2, .inr (.inr (.inr (.inr tf)))))] ++ stW L (ndX kd hs ky vl (va_up nx e none) bf af pa lf rt (va_up pv e (some z)) rd))) hC kJ26 9 rfl q2318 (Or.inl rfl) rfl (fun _ h => stW_get h ((hmL e heLb).1) (ndX_t ((hmL e heLb).2))) (Nat.le_of_ble_eq_true rfl) rfl rfl dJ26_split_62 (fun _ h => stW_set h ((hmL e heLb).1) (ndX_pv ((hmL e heLb).2))) 65 rfl ?_
          refine r_ifnonnull hC 75 dJ26_split_65 (by decide) ?_
          refine r_aload hC 6 dJ26_split_75 rfl 77 rfl ?_
          refine r_aload hC 1 dJ26_split_77 rfl 79 rfl ?_
          refine r_putI (J := xSt F V0 ([(M, .inr (25, [va_rf tbo, va_rf es, .int (nI sz), .int mc, .int (nI th), .float 1061158912, .null, .null, va_rf hd, va_rf tl, .int 0, .int 0])), (tb, .inl (8, cap2, .inr (.inr (.inr (.inr tf)))))] ++ stW L (ndX kd hs ky vl (va_up (va_up nx e none) z (some e)) bf af pa lf rt (va_up pv e (some z)) rd))) hC kJ26 3 rfl q2247 (Or.inr q2248) rfl (fun _ h => stW_get h ((hmL z hzLb).1) (ndX_t ((hmL z hzLb).2))) (Nat.le_of_ble_eq_true rfl) rfl rfl dJ26_split_79 (fun _ h => stW_set h ((hmL z hzLb).1) (ndX_nx ((hmL z hzLb).2))) 82 rfl ?_
          refine r_aload hC 1 dJ26_split_82 rfl 84 rfl ?_
          refine r_astore hC 7 [(7, .ref e), (13, .null), (12, .ref e), (11, .int (nI Hi.length)), (10, .int (nI Lo.length)), (9, (va_rf (lstO none Hi))), (8, (va_rf Hi.head?)), (6, .ref hX), (4, .int (nI cap)), (3, .int (nI b)), (2, .ref tb), (1, .ref M)] dJ26_split_84 (Nat.le_of_ble_eq_true rfl) rfl 86 rfl ?_
          refine r_iinc hC (nI (Lo.length + 1)) 10 4 [(10, .int (nI (Lo.length + 1))), (7, .ref e), (13, .null), (12, .ref e), (11, .int (nI Hi.length)), (9, (va_rf (lstO none Hi))), (8, (va_rf Hi.head?)), (6, .ref hX), (4, .int (nI cap)), (3, .int (nI b)), (2, .ref tb), (1, .ref M)] dJ26_split_86 rfl (nI_add Lo.length 1) (Nat.le_of_ble_eq_true rfl) (by cases (lstO none Hi) <;> rfl) 89 rfl ?_
          refine r_goto hC 124 dJ26_split_89 (by decide) ?_
          refine r_aloadN hC 2 dJ26_split_124 rfl 126 rfl ?_
          refine r_astoreN hC 12 [(12, .null), (10, .int (nI (Lo.length + 1))), (7, .ref e), (13, .null), (11, .int (nI Hi.length)), (9, (va_rf (lstO none Hi))), (8, (va_rf Hi.head?)), (6, .ref hX), (4, .int (nI cap)), (3, .int (nI b)), (2, .ref tb), (1, .ref M)] dJ26_split_126 (Nat.le_of_ble_eq_true rfl) rfl 128 rfl ?_
          refine r_goto hC 25 dJ26_split_128 (by decide) ?_
          refine rn.sub (lv' := [(12, .null), (11, .int (nI Hi.length)), (10, .int (nI (Lo.length + 1))), (9, (va_rf (lstO none Hi))), (8, (va_rf Hi.head?)), (7, .ref e), (6, .ref hX), (4, .int (nI cap)), (3, .int (nI b)), (2, .ref tb), (1, .ref M)]) [0, 4, 1, 5, 6, 2, 7, 8, 9, 10, 11] rfl ?_
          have hI' := hI.lo hlb (nx' := va_up (va_up nx e none) z (some e)) (pv' := va_up pv e (some z)) ((up_ne nez).trans (up_same _ _ _)) (fun z9 e9 => by obtain rfl : z = z9 := Option.some.inj (hlz.symm.trans e9); exact up_same _ _ _) (fun a na n9 => (up_ne (fun e9 => n9 (by rw [e9]; exact hlz))).trans (up_ne na)) ((up_same _ _ _).trans hlz.symm) (fun a na => up_ne na)
          have hsg : seg nx0 none rest none := by have h8 := hseg.2; rw [← (hI.2.2.2.2.2.2.2.1 e hed).1, hl1] at h8; exact h8
          have key := ih (done ++ [e]) (Lo ++ [e]) Hi (va_up (va_up nx e none) z (some e)) (va_up pv e (some z)) none hsg hI'
          rw [show lstO none (Lo ++ [e]) = some e from lstO_snoc, show (Lo ++ [e]).head? = some hX by rw [head_app, hhX]; rfl, show (Lo ++ [e]).length = Lo.length + 1 by rw [List.length_append]; rfl] at key
          exact key
        · skip
          have hym : x2 ∈ Lb := by
            have h8 := hseg.2
            rw [← (hI.2.2.2.2.2.2.2.1 e hed).1, hl1] at h8
            obtain ⟨t9, ht9⟩ := seg_some h8
            rw [hI.1, ht9]; exact List.mem_append_right _ (List.mem_cons_of_mem _ List.mem_cons_self)
          refine r_getI (v := .ref x2) hC kJ26 3 rfl q2247 (Or.inr q2248) (fun _ h => stW_get h ((hmL e heLb).1) (ndX_t ((hmL e heLb).2))) (congrArg (fun o9 => some (va_rf o9)) (hl1)) dJ26_split_32 35 rfl ?_
          refine r_castS hC kJ26 q2206 (fun _ h => ⟨_, stW_get h ((hmL x2 hym).1) (ndX_t ((hmL x2 hym).2))⟩) dJ26_split_35 38 rfl ?_
          refine r_astore hC 13 [(13, .ref x2), (12, .ref e), (11, .int (nI Hi.length)), (10, .int (nI Lo.length)), (9, (va_rf (lstO none Hi))), (8, (va_rf Hi.head?)), (7, .ref z), (6, .ref hX), (4, .int (nI cap)), (3, .int (nI b)), (2, .ref tb), (1, .ref M)] dJ26_split_38 (Nat.le_of_ble_eq_true rfl) rfl 40 rfl ?_
          refine r_aload hC 1 dJ26_split_40 rfl 42 rfl ?_
          refine r_null hC dJ26_split_42 43 rfl ?_
          refine r_putI (J := xSt F V0 ([(M, .inr (25, [va_rf tbo, va_rf es, .int (nI sz), .int mc, .int (nI th), .float 1061158912, .null, .null, va_rf hd, va_rf tl, .int 0, .int 0])), (tb, .inl (8, cap2, .inr (.inr (.inr (.inr tf)))))] ++ stW L (ndX kd hs ky vl (va_up nx e none) bf af pa lf rt pv rd))) hC kJ26 3 rfl q2247 (Or.inr q2248) rfl (fun _ h => stW_get h ((hmL e heLb).1) (ndX_t ((hmL e heLb).2))) (Nat.le_of_ble_eq_true rfl) rfl rfl dJ26_split_43 (fun _ h => stW_set h ((hmL e heLb).1) (ndX_nx ((hmL e heLb).2))) 46 rfl ?_
          refine r_aload hC 1 dJ26_split_46 rfl 48 rfl ?_
          refine r_getI (v := .int (hs e)) hC kJ26 0 rfl q2230 (Or.inr q2231) (fun _ h => stW_get h ((hmL e heLb).1) (ndX_t ((hmL e heLb).2))) rfl dJ26_split_48 51 rfl ?_
          refine r_iload hC 8 dJ26_split_51 rfl 53 rfl ?_
          refine r_iand hC ((hs e) &&& (nI cap)) dJ26_split_53  (rfl) 54 rfl ?_
          refine r_ifne hC 92 dJ26_split_54 (by decide) 57 rfl (fun h => absurd (hlz0) h) (fun _ => ?_)
          refine r_aload hC 1 dJ26_split_57 rfl 59 rfl ?_
          refine r_aload hC 6 dJ26_split_59 rfl 61 rfl ?_
          refine r_dup_x1 hC dJ26_split_61 rfl rfl 62 rfl ?_
          refine r_putI (J := xSt F V0 ([(M, .inr (25, [va_rf tbo, va_rf es, .int (nI sz), .int mc, .int (nI th), .float 1061158912, .null, .null, va_rf hd, va_rf tl, .int 0, .int 0])), (tb, .inl (8, cap2, .inr (.inr (.inr (.inr tf)))))] ++ stW L (ndX kd hs ky vl (va_up nx e none) bf af pa lf rt (va_up pv e (some z)) rd))) hC kJ26 9 rfl q2318 (Or.inl rfl) rfl (fun _ h => stW_get h ((hmL e heLb).1) (ndX_t ((hmL e heLb).2))) (Nat.le_of_ble_eq_true rfl) rfl rfl dJ26_split_62 (fun _ h => stW_set h ((hmL e heLb).1) (ndX_pv ((hmL e heLb).2))) 65 rfl ?_
          refine r_ifnonnull hC 75 dJ26_split_65 (by decide) ?_
          refine r_aload hC 6 dJ26_split_75 rfl 77 rfl ?_
          refine r_aload hC 1 dJ26_split_77 rfl 79 rfl ?_
          refine r_putI (J := xSt F V0 ([(M, .inr (25, [va_rf tbo, va_rf es, .int (nI sz), .int mc, .int (nI th), .float 1061158912, .null, .null, va_rf hd, va_rf tl, .int 0, .int 0])), (tb, .inl (8, cap2, .inr (.inr (.inr (.inr tf)))))] ++ stW L (ndX kd hs ky vl (va_up (va_up nx e none) z (some e)) bf af pa lf rt (va_up pv e (some z)) rd))) hC kJ26 3 rfl q2247 (Or.inr q2248) rfl (fun _ h => stW_get h ((hmL z hzLb).1) (ndX_t ((hmL z hzLb).2))) (Nat.le_of_ble_eq_true rfl) rfl rfl dJ26_split_79 (fun _ h => stW_set h ((hmL z hzLb).1) (ndX_nx ((hmL z hzLb).2))) 82 rfl ?_
          refine r_aload hC 1 dJ26_split_82 rfl 84 rfl ?_
          refine r_astore hC 7 [(7, .ref e), (13, .ref x2), (12, .ref e), (11, .int (nI Hi.length)), (10, .int (nI Lo.length)), (9, (va_rf (lstO none Hi))), (8, (va_rf Hi.head?)), (6, .ref hX), (4, .int (nI cap)), (3, .int (nI b)), (2, .ref tb), (1, .ref M)] dJ26_split_84 (Nat.le_of_ble_eq_true rfl) rfl 86 rfl ?_
          refine r_iinc hC (nI (Lo.length + 1)) 10 4 [(10, .int (nI (Lo.length + 1))), (7, .ref e), (13, .ref x2), (12, .ref e), (11, .int (nI Hi.length)), (9, (va_rf (lstO none Hi))), (8, (va_rf Hi.head?)), (6, .ref hX), (4, .int (nI cap)), (3, .int (nI b)), (2, .ref tb), (1, .ref M)] dJ26_split_86 rfl (nI_add Lo.length 1) (Nat.le_of_ble_eq_true rfl) (by cases (lstO none Hi) <;> rfl) 89 rfl ?_
          refine r_goto hC 124 dJ26_split_89 (by decide) ?_
          refine r_aload hC 2 dJ26_split_124 rfl 126 rfl ?_
          refine r_astore hC 12 [(12, .ref x2), (10, .int (nI (Lo.length + 1))), (7, .ref e), (13, .ref x2), (11, .int (nI Hi.length)), (9, (va_rf (lstO none Hi))), (8, (va_rf Hi.head?)), (6, .ref hX), (4, .int (nI cap)), (3, .int (nI b)), (2, .ref tb), (1, .ref M)] dJ26_split_126 (Nat.le_of_ble_eq_true rfl) rfl 128 rfl ?_
          refine r_goto hC 25 dJ26_split_128 (by decide) ?_
          refine rn.sub (lv' := [(12, .ref x2), (11, .int (nI Hi.length)), (10, .int (nI (Lo.length + 1))), (9, (va_rf (lstO none Hi))), (8, (va_rf Hi.head?)), (7, .ref e), (6, .ref hX), (4, .int (nI cap)), (3, .int (nI b)), (2, .ref tb), (1, .ref M)]) [0, 4, 1, 5, 6, 2, 7, 8, 9, 10, 11] rfl ?_
          have hI' := hI.lo hlb (nx' := va_up (va_up nx e none) z (some e)) (pv' := va_up pv e (some z)) ((up_ne nez).trans (up_same _ _ _)) (fun z9 e9 => by obtain rfl : z = z9 := Option.some.inj (hlz.symm.trans e9); exact up_same _ _ _) (fun a na n9 => (up_ne (fun e9 => n9 (by rw [e9]; exact hlz))).trans (up_ne na)) ((up_same _ _ _).trans hlz.symm) (fun a na => up_ne na)
          have hsg : seg nx0 (some x2) rest none := by have h8 := hseg.2; rw [← (hI.2.2.2.2.2.2.2.1 e hed).1, hl1] at h8; exact h8
          have key := ih (done ++ [e]) (Lo ++ [e]) Hi (va_up (va_up nx e none) z (some e)) (va_up pv e (some z)) (some x2) hsg hI'
          rw [show lstO none (Lo ++ [e]) = some e from lstO_snoc, show (Lo ++ [e]).head? = some hX by rw [head_app, hhX]; rfl, show (Lo ++ [e]).length = Lo.length + 1 by rw [List.length_append]; rfl] at key
          exact key
    | false =>
      have hlz0 : ¬ (hs e &&& nI cap) = 0 := of_decide_eq_false hlb
      rcases opt_c (lstO none Hi) with hlz | ⟨z, hlz⟩
      · have Hi0 : Hi = [] := lst_none hlz
        rw [hlz, show Hi.head? = none by rw [Hi0]; rfl]
        refine r_aload hC 0 dJ26_split_25 rfl 27 rfl ?_
        refine r_ifnull hC dJ26_split_27 30 rfl ?_
        refine r_aload hC 0 dJ26_split_30 rfl 32 rfl ?_
        rcases opt_c (nx e) with hl1 | ⟨x2, hl1⟩
        · skip
          refine r_getI (v := .null) hC kJ26 3 rfl q2247 (Or.inr q2248) (fun _ h => stW_get h ((hmL e heLb).1) (ndX_t ((hmL e heLb).2))) (congrArg (fun o9 => some (va_rf o9)) (hl1)) dJ26_split_32 35 rfl ?_
          refine r_castN hC dJ26_split_35 38 rfl ?_
          refine r_astoreN hC 13 [(13, .null), (12, .ref e), (11, .int (nI Hi.length)), (10, .int (nI Lo.length)), (9, .null), (8, .null), (7, (va_rf (lstO none Lo))), (6, (va_rf Lo.head?)), (4, .int (nI cap)), (3, .int (nI b)), (2, .ref tb), (1, .ref M)] dJ26_split_38 (Nat.le_of_ble_eq_true rfl) rfl 40 rfl ?_
          refine r_aload hC 1 dJ26_split_40 rfl 42 rfl ?_
          refine r_null hC dJ26_split_42 43 rfl ?_
          refine r_putI (J := xSt F V0 ([(M, .inr (25, [va_rf tbo, va_rf es, .int (nI sz), .int mc, .int (nI th), .float 1061158912, .null, .null, va_rf hd, va_rf tl, .int 0, .int 0])), (tb, .inl (8, cap2, .inr (.inr (.inr (.inr tf)))))] ++ stW L (ndX kd hs ky vl (va_up nx e none) bf af pa lf rt pv rd))) hC kJ26 3 rfl q2247 (Or.inr q2248) rfl (fun _ h => stW_get h ((hmL e heLb).1) (ndX_t ((hmL e heLb).2))) (Nat.le_of_ble_eq_true rfl) rfl rfl dJ26_split_43 (fun _ h => stW_set h ((hmL e heLb).1) (ndX_nx ((hmL e heLb).2))) 46 rfl ?_
          refine r_aload hC 1 dJ26_split_46 rfl 48 rfl ?_
          refine r_getI (v := .int (hs e)) hC kJ26 0 rfl q2230 (Or.inr q2231) (fun _ h => stW_get h ((hmL e heLb).1) (ndX_t ((hmL e heLb).2))) rfl dJ26_split_48 51 rfl ?_
          refine r_iload hC 8 dJ26_split_51 rfl 53 rfl ?_
          refine r_iand hC ((hs e) &&& (nI cap)) dJ26_split_53  (rfl) 54 rfl ?_
          refine r_ifne hC 92 dJ26_split_54 (by decide) 57 rfl (fun _ => ?_) (fun h => absurd h (hlz0))
          refine r_aload hC 1 dJ26_split_92 rfl 94 rfl ?_
          refine r_aloadN hC 4 dJ26_split_94 rfl 96 rfl ?_
          refine r_dup_x1 hC dJ26_split_96 rfl rfl 97 rfl ?_
          refine r_putI (J := xSt F V0 ([(M, .inr (25, [va_rf tbo, va_rf es, .int (nI sz), .int mc, .int (nI th), .float 1061158912, .null, .null, va_rf hd, va_rf tl, .int 0, .int 0])), (tb, .inl (8, cap2, .inr (.inr (.inr (.inr tf)))))] ++ stW L (ndX kd hs ky vl (va_up nx e none) bf af pa lf rt (va_up pv e none) rd))) hC kJ26 9 rfl q2318 (Or.inl rfl) rfl (fun _ h => stW_get h ((hmL e heLb).1) (ndX_t ((hmL e heLb).2))) (Nat.le_of_ble_eq_true rfl) rfl rfl dJ26_split_97 (fun _ h => stW_set h ((hmL e heLb).1) (ndX_pv ((hmL e heLb).2))) 100 rfl ?_
          refine r_ifnonnullN hC dJ26_split_100 103 rfl ?_
          refine r_aload hC 1 dJ26_split_103 rfl 105 rfl ?_
          refine r_astore hC 8 [(8, .ref e), (13, .null), (12, .ref e), (11, .int (nI Hi.length)), (10, .int (nI Lo.length)), (9, .null), (7, (va_rf (lstO none Lo))), (6, (va_rf Lo.head?)), (4, .int (nI cap)), (3, .int (nI b)), (2, .ref tb), (1, .ref M)] dJ26_split_105 (Nat.le_of_ble_eq_true rfl) (by cases (lstO none Lo) <;> rfl) 107 rfl ?_
          refine r_goto hC 117 dJ26_split_107 (by decide) ?_
          refine r_aload hC 2 dJ26_split_117 rfl 119 rfl ?_
          refine r_astore hC 9 [(9, .ref e), (8, .ref e), (13, .null), (12, .ref e), (11, .int (nI Hi.length)), (10, .int (nI Lo.length)), (7, (va_rf (lstO none Lo))), (6, (va_rf Lo.head?)), (4, .int (nI cap)), (3, .int (nI b)), (2, .ref tb), (1, .ref M)] dJ26_split_119 (Nat.le_of_ble_eq_true rfl) rfl 121 rfl ?_
          refine r_iinc hC (nI (Hi.length + 1)) 11 4 [(11, .int (nI (Hi.length + 1))), (9, .ref e), (8, .ref e), (13, .null), (12, .ref e), (10, .int (nI Lo.length)), (7, (va_rf (lstO none Lo))), (6, (va_rf Lo.head?)), (4, .int (nI cap)), (3, .int (nI b)), (2, .ref tb), (1, .ref M)] dJ26_split_121 rfl (nI_add Hi.length 1) (Nat.le_of_ble_eq_true rfl) rfl 124 rfl ?_
          refine r_aloadN hC 3 dJ26_split_124 rfl 126 rfl ?_
          refine r_astoreN hC 12 [(12, .null), (11, .int (nI (Hi.length + 1))), (9, .ref e), (8, .ref e), (13, .null), (10, .int (nI Lo.length)), (7, (va_rf (lstO none Lo))), (6, (va_rf Lo.head?)), (4, .int (nI cap)), (3, .int (nI b)), (2, .ref tb), (1, .ref M)] dJ26_split_126 (Nat.le_of_ble_eq_true rfl) rfl 128 rfl ?_
          refine r_goto hC 25 dJ26_split_128 (by decide) ?_
          refine rn.sub (lv' := [(12, .null), (11, .int (nI (Hi.length + 1))), (10, .int (nI Lo.length)), (9, .ref e), (8, .ref e), (7, (va_rf (lstO none Lo))), (6, (va_rf Lo.head?)), (4, .int (nI cap)), (3, .int (nI b)), (2, .ref tb), (1, .ref M)]) [0, 1, 5, 2, 3, 6, 7, 8, 9, 10, 11] rfl ?_
          have hI' := hI.hi hlb (nx' := va_up nx e none) (pv' := va_up pv e none) (up_same _ _ _) (fun z9 e9 => by rw [hlz] at e9; cases e9) (fun a na _ => up_ne na) ((up_same _ _ _).trans hlz.symm) (fun a na => up_ne na)
          have hsg : seg nx0 none rest none := by have h8 := hseg.2; rw [← (hI.2.2.2.2.2.2.2.1 e hed).1, hl1] at h8; exact h8
          have key := ih (done ++ [e]) Lo (Hi ++ [e]) (va_up nx e none) (va_up pv e none) none hsg hI'
          rw [show lstO none (Hi ++ [e]) = some e from lstO_snoc, show (Hi ++ [e]).head? = some e by rw [Hi0]; rfl, show (Hi ++ [e]).length = Hi.length + 1 by rw [List.length_append]; rfl] at key
          exact key
        · skip
          have hym : x2 ∈ Lb := by
            have h8 := hseg.2
            rw [← (hI.2.2.2.2.2.2.2.1 e hed).1, hl1] at h8
            obtain ⟨t9, ht9⟩ := seg_some h8
            rw [hI.1, ht9]; exact List.mem_append_right _ (List.mem_cons_of_mem _ List.mem_cons_self)
          refine r_getI (v := .ref x2) hC kJ26 3 rfl q2247 (Or.inr q2248) (fun _ h => stW_get h ((hmL e heLb).1) (ndX_t ((hmL e heLb).2))) (congrArg (fun o9 => some (va_rf o9)) (hl1)) dJ26_split_32 35 rfl ?_
          refine r_castS hC kJ26 q2206 (fun _ h => ⟨_, stW_get h ((hmL x2 hym).1) (ndX_t ((hmL x2 hym).2))⟩) dJ26_split_35 38 rfl ?_
          refine r_astore hC 13 [(13, .ref x2), (12, .ref e), (11, .int (nI Hi.length)), (10, .int (nI Lo.length)), (9, .null), (8, .null), (7, (va_rf (lstO none Lo))), (6, (va_rf Lo.head?)), (4, .int (nI cap)), (3, .int (nI b)), (2, .ref tb), (1, .ref M)] dJ26_split_38 (Nat.le_of_ble_eq_true rfl) rfl 40 rfl ?_
          refine r_aload hC 1 dJ26_split_40 rfl 42 rfl ?_
          refine r_null hC dJ26_split_42 43 rfl ?_
          refine r_putI (J := xSt F V0 ([(M, .inr (25, [va_rf tbo, va_rf es, .int (nI sz), .int mc, .int (nI th), .float 1061158912, .null, .null, va_rf hd, va_rf tl, .int 0, .int 0])), (tb, .inl (8, cap2, .inr (.inr (.inr (.inr tf)))))] ++ stW L (ndX kd hs ky vl (va_up nx e none) bf af pa lf rt pv rd))) hC kJ26 3 rfl q2247 (Or.inr q2248) rfl (fun _ h => stW_get h ((hmL e heLb).1) (ndX_t ((hmL e heLb).2))) (Nat.le_of_ble_eq_true rfl) rfl rfl dJ26_split_43 (fun _ h => stW_set h ((hmL e heLb).1) (ndX_nx ((hmL e heLb).2))) 46 rfl ?_
          refine r_aload hC 1 dJ26_split_46 rfl 48 rfl ?_
          refine r_getI (v := .int (hs e)) hC kJ26 0 rfl q2230 (Or.inr q2231) (fun _ h => stW_get h ((hmL e heLb).1) (ndX_t ((hmL e heLb).2))) rfl dJ26_split_48 51 rfl ?_
          refine r_iload hC 8 dJ26_split_51 rfl 53 rfl ?_
          refine r_iand hC ((hs e) &&& (nI cap)) dJ26_split_53  (rfl) 54 rfl ?_
          refine r_ifne hC 92 dJ26_split_54 (by decide) 57 rfl (fun _ => ?_) (fun h => absurd h (hlz0))
          refine r_aload hC 1 dJ26_split_92 rfl 94 rfl ?_
          refine r_aloadN hC 4 dJ26_split_94 rfl 96 rfl ?_
          refine r_dup_x1 hC dJ26_split_96 rfl rfl 97 rfl ?_
          refine r_putI (J := xSt F V0 ([(M, .inr (25, [va_rf tbo, va_rf es, .int (nI sz), .int mc, .int (nI th), .float 1061158912, .null, .null, va_rf hd, va_rf tl, .int 0, .int 0])), (tb, .inl (8, cap2, .inr (.inr (.inr (.inr tf)))))] ++ stW L (ndX kd hs ky vl (va_up nx e none) bf af pa lf rt (va_up pv e none) rd))) hC kJ26 9 rfl q2318 (Or.inl rfl) rfl (fun _ h => stW_get h ((hmL e heLb).1) (ndX_t ((hmL e heLb).2))) (Nat.le_of_ble_eq_true rfl) rfl rfl dJ26_split_97 (fun _ h => stW_set h ((hmL e heLb).1) (ndX_pv ((hmL e heLb).2))) 100 rfl ?_
          refine r_ifnonnullN hC dJ26_split_100 103 rfl ?_
          refine r_aload hC 1 dJ26_split_103 rfl 105 rfl ?_
          refine r_astore hC 8 [(8, .ref e), (13, .ref x2), (12, .ref e), (11, .int (nI Hi.length)), (10, .int (nI Lo.length)), (9, .null), (7, (va_rf (lstO none Lo))), (6, (va_rf Lo.head?)), (4, .int (nI cap)), (3, .int (nI b)), (2, .ref tb), (1, .ref M)] dJ26_split_105 (Nat.le_of_ble_eq_true rfl) (by cases (lstO none Lo) <;> rfl) 107 rfl ?_
          refine r_goto hC 117 dJ26_split_107 (by decide) ?_
          refine r_aload hC 2 dJ26_split_117 rfl 119 rfl ?_
          refine r_astore hC 9 [(9, .ref e), (8, .ref e), (13, .ref x2), (12, .ref e), (11, .int (nI Hi.length)), (10, .int (nI Lo.length)), (7, (va_rf (lstO none Lo))), (6, (va_rf Lo.head?)), (4, .int (nI cap)), (3, .int (nI b)), (2, .ref tb), (1, .ref M)] dJ26_split_119 (Nat.le_of_ble_eq_true rfl) rfl 121 rfl ?_
          refine r_iinc hC (nI (Hi.length + 1)) 11 4 [(11, .int (nI (Hi.length + 1))), (9, .ref e), (8, .ref e), (13, .ref x2), (12, .ref e), (10, .int (nI Lo.length)), (7, (va_rf (lstO none Lo))), (6, (va_rf Lo.head?)), (4, .int (nI cap)), (3, .int (nI b)), (2, .ref tb), (1, .ref M)] dJ26_split_121 rfl (nI_add Hi.length 1) (Nat.le_of_ble_eq_true rfl) rfl 124 rfl ?_
          refine r_aload hC 3 dJ26_split_124 rfl 126 rfl ?_
          refine r_astore hC 12 [(12, .ref x2), (11, .int (nI (Hi.length + 1))), (9, .ref e), (8, .ref e), (13, .ref x2), (10, .int (nI Lo.length)), (7, (va_rf (lstO none Lo))), (6, (va_rf Lo.head?)), (4, .int (nI cap)), (3, .int (nI b)), (2, .ref tb), (1, .ref M)] dJ26_split_126 (Nat.le_of_ble_eq_true rfl) rfl 128 rfl ?_
          refine r_goto hC 25 dJ26_split_128 (by decide) ?_
          refine rn.sub (lv' := [(12, .ref x2), (11, .int (nI (Hi.length + 1))), (10, .int (nI Lo.length)), (9, .ref e), (8, .ref e), (7, (va_rf (lstO none Lo))), (6, (va_rf Lo.head?)), (4, .int (nI cap)), (3, .int (nI b)), (2, .ref tb), (1, .ref M)]) [0, 1, 5, 2, 3, 6, 7, 8, 9, 10, 11] rfl ?_
          have hI' := hI.hi hlb (nx' := va_up nx e none) (pv' := va_up pv e none) (up_same _ _ _) (fun z9 e9 => by rw [hlz] at e9; cases e9) (fun a na _ => up_ne na) ((up_same _ _ _).trans hlz.symm) (fun a na => up_ne na)
          have hsg : seg nx0 (some x2) rest none := by have h8 := hseg.2; rw [← (hI.2.2.2.2.2.2.2.1 e hed).1, hl1] at h8; exact h8
          have key := ih (done ++ [e]) Lo (Hi ++ [e]) (va_up nx e none) (va_up pv e none) (some x2) hsg hI'
          rw [show lstO none (Hi ++ [e]) = some e from lstO_snoc, show (Hi ++ [e]).head? = some e by rw [Hi0]; rfl, show (Hi ++ [e]).length = Hi.length + 1 by rw [List.length_append]; rfl] at key
          exact key
      · have hzX : z ∈ Hi := by obtain ⟨l0, hz⟩ := lstO_some hlz; rw [hz]; exact List.mem_append_right _ List.mem_cons_self
        have hzd : z ∈ done := by rw [hI.2.2.1] at hzX; exact fl_mem hzX
        have hzLb : z ∈ Lb := by rw [hI.1]; exact List.mem_append_left _ hzd
        have nez : e ≠ z := fun q => hed (by rw [q]; exact hzd)
        obtain ⟨hX, hhX⟩ : ∃ hX, Hi.head? = some hX := by
          cases hN9 : Hi with
          | nil => rw [hN9] at hlz; cases hlz
          | cons c t => exact ⟨c, rfl⟩
        rw [hlz, hhX]
        refine r_aload hC 0 dJ26_split_25 rfl 27 rfl ?_
        refine r_ifnull hC dJ26_split_27 30 rfl ?_
        refine r_aload hC 0 dJ26_split_30 rfl 32 rfl ?_
        rcases opt_c (nx e) with hl1 | ⟨x2, hl1⟩
        · skip
          refine r_getI (v := .null) hC kJ26 3 rfl q2247 (Or.inr q2248) (fun _ h => stW_get h ((hmL e heLb).1) (ndX_t ((hmL e heLb).2))) (congrArg (fun o9 => some (va_rf o9)) (hl1)) dJ26_split_32 35 rfl ?_
          refine r_castN hC dJ26_split_35 38 rfl ?_
          refine r_astoreN hC 13 [(13, .null), (12, .ref e), (11, .int (nI Hi.length)), (10, .int (nI Lo.length)), (9, .ref z), (8, .ref hX), (7, (va_rf (lstO none Lo))), (6, (va_rf Lo.head?)), (4, .int (nI cap)), (3, .int (nI b)), (2, .ref tb), (1, .ref M)] dJ26_split_38 (Nat.le_of_ble_eq_true rfl) rfl 40 rfl ?_
          refine r_aload hC 1 dJ26_split_40 rfl 42 rfl ?_
          refine r_null hC dJ26_split_42 43 rfl ?_
          refine r_putI (J := xSt F V0 ([(M, .inr (25, [va_rf tbo, va_rf es, .int (nI sz), .int mc, .int (nI th), .float 1061158912, .null, .null, va_rf hd, va_rf tl, .int 0, .int 0])), (tb, .inl (8, cap2, .inr (.inr (.inr (.inr tf)))))] ++ stW L (ndX kd hs ky vl (va_up nx e none) bf af pa lf rt pv rd))) hC kJ26 3 rfl q2247 (Or.inr q2248) rfl (fun _ h => stW_get h ((hmL e heLb).1) (ndX_t ((hmL e heLb).2))) (Nat.le_of_ble_eq_true rfl) rfl rfl dJ26_split_43 (fun _ h => stW_set h ((hmL e heLb).1) (ndX_nx ((hmL e heLb).2))) 46 rfl ?_
          refine r_aload hC 1 dJ26_split_46 rfl 48 rfl ?_
          refine r_getI (v := .int (hs e)) hC kJ26 0 rfl q2230 (Or.inr q2231) (fun _ h => stW_get h ((hmL e heLb).1) (ndX_t ((hmL e heLb).2))) rfl dJ26_split_48 51 rfl ?_
          refine r_iload hC 8 dJ26_split_51 rfl 53 rfl ?_
          refine r_iand hC ((hs e) &&& (nI cap)) dJ26_split_53  (rfl) 54 rfl ?_
          refine r_ifne hC 92 dJ26_split_54 (by decide) 57 rfl (fun _ => ?_) (fun h => absurd h (hlz0))
          refine r_aload hC 1 dJ26_split_92 rfl 94 rfl ?_
          refine r_aload hC 4 dJ26_split_94 rfl 96 rfl ?_
          refine r_dup_x1 hC dJ26_split_96 rfl rfl 97 rfl ?_
          refine r_putI (J := xSt F V0 ([(M, .inr (25, [va_rf tbo, va_rf es, .int (nI sz), .int mc, .int (nI th), .float 1061158912, .null, .null, va_rf hd, va_rf tl, .int 0, .int 0])), (tb, .inl (8, cap2, .inr (.inr (.inr (.inr tf)))))] ++ stW L (ndX kd hs ky vl (va_up nx e none) bf af pa lf rt (va_up pv e (some z)) rd))) hC kJ26 9 rfl q2318 (Or.inl rfl) rfl (fun _ h => stW_get h ((hmL e heLb).1) (ndX_t ((hmL e heLb).2))) (Nat.le_of_ble_eq_true rfl) rfl rfl dJ26_split_97 (fun _ h => stW_set h ((hmL e heLb).1) (ndX_pv ((hmL e heLb).2))) 100 rfl ?_
          refine r_ifnonnull hC 110 dJ26_split_100 (by decide) ?_
          refine r_aload hC 4 dJ26_split_110 rfl 112 rfl ?_
          refine r_aload hC 1 dJ26_split_112 rfl 114 rfl ?_
          refine r_putI (J := xSt F V0 ([(M, .inr (25, [va_rf tbo, va_rf es, .int (nI sz), .int mc, .int (nI th), .float 1061158912, .null, .null, va_rf hd, va_rf tl, .int 0, .int 0])), (tb, .inl (8, cap2, .inr (.inr (.inr (.inr tf)))))] ++ stW L (ndX kd hs ky vl (va_up (va_up nx e none) z (some e)) bf af pa lf rt (va_up pv e (some z)) rd))) hC kJ26 3 rfl q2247 (Or.inr q2248) rfl (fun _ h => stW_get h ((hmL z hzLb).1) (ndX_t ((hmL z hzLb).2))) (Nat.le_of_ble_eq_true rfl) rfl rfl dJ26_split_114 (fun _ h => stW_set h ((hmL z hzLb).1) (ndX_nx ((hmL z hzLb).2))) 117 rfl ?_
          refine r_aload hC 1 dJ26_split_117 rfl 119 rfl ?_
          refine r_astore hC 9 [(9, .ref e), (13, .null), (12, .ref e), (11, .int (nI Hi.length)), (10, .int (nI Lo.length)), (8, .ref hX), (7, (va_rf (lstO none Lo))), (6, (va_rf Lo.head?)), (4, .int (nI cap)), (3, .int (nI b)), (2, .ref tb), (1, .ref M)] dJ26_split_119 (Nat.le_of_ble_eq_true rfl) rfl 121 rfl ?_
          refine r_iinc hC (nI (Hi.length + 1)) 11 3 [(11, .int (nI (Hi.length + 1))), (9, .ref e), (13, .null), (12, .ref e), (10, .int (nI Lo.length)), (8, .ref hX), (7, (va_rf (lstO none Lo))), (6, (va_rf Lo.head?)), (4, .int (nI cap)), (3, .int (nI b)), (2, .ref tb), (1, .ref M)] dJ26_split_121 rfl (nI_add Hi.length 1) (Nat.le_of_ble_eq_true rfl) rfl 124 rfl ?_
          refine r_aloadN hC 2 dJ26_split_124 rfl 126 rfl ?_
          refine r_astoreN hC 12 [(12, .null), (11, .int (nI (Hi.length + 1))), (9, .ref e), (13, .null), (10, .int (nI Lo.length)), (8, .ref hX), (7, (va_rf (lstO none Lo))), (6, (va_rf Lo.head?)), (4, .int (nI cap)), (3, .int (nI b)), (2, .ref tb), (1, .ref M)] dJ26_split_126 (Nat.le_of_ble_eq_true rfl) rfl 128 rfl ?_
          refine r_goto hC 25 dJ26_split_128 (by decide) ?_
          refine rn.sub (lv' := [(12, .null), (11, .int (nI (Hi.length + 1))), (10, .int (nI Lo.length)), (9, .ref e), (8, .ref hX), (7, (va_rf (lstO none Lo))), (6, (va_rf Lo.head?)), (4, .int (nI cap)), (3, .int (nI b)), (2, .ref tb), (1, .ref M)]) [0, 1, 4, 2, 5, 6, 7, 8, 9, 10, 11] rfl ?_
          have hI' := hI.hi hlb (nx' := va_up (va_up nx e none) z (some e)) (pv' := va_up pv e (some z)) ((up_ne nez).trans (up_same _ _ _)) (fun z9 e9 => by obtain rfl : z = z9 := Option.some.inj (hlz.symm.trans e9); exact up_same _ _ _) (fun a na n9 => (up_ne (fun e9 => n9 (by rw [e9]; exact hlz))).trans (up_ne na)) ((up_same _ _ _).trans hlz.symm) (fun a na => up_ne na)
          have hsg : seg nx0 none rest none := by have h8 := hseg.2; rw [← (hI.2.2.2.2.2.2.2.1 e hed).1, hl1] at h8; exact h8
          have key := ih (done ++ [e]) Lo (Hi ++ [e]) (va_up (va_up nx e none) z (some e)) (va_up pv e (some z)) none hsg hI'
          rw [show lstO none (Hi ++ [e]) = some e from lstO_snoc, show (Hi ++ [e]).head? = some hX by rw [head_app, hhX]; rfl, show (Hi ++ [e]).length = Hi.length + 1 by rw [List.length_append]; rfl] at key
          exact key
        · skip
          have hym : x2 ∈ Lb := by
            have h8 := hseg.2
            rw [← (hI.2.2.2.2.2.2.2.1 e hed).1, hl1] at h8
            obtain ⟨t9, ht9⟩ := seg_some h8
            rw [hI.1, ht9]; exact List.mem_append_right _ (List.mem_cons_of_mem _ List.mem_cons_self)
          refine r_getI (v := .ref x2) hC kJ26 3 rfl q2247 (Or.inr q2248) (fun _ h => stW_get h ((hmL e heLb).1) (ndX_t ((hmL e heLb).2))) (congrArg (fun o9 => some (va_rf o9)) (hl1)) dJ26_split_32 35 rfl ?_
          refine r_castS hC kJ26 q2206 (fun _ h => ⟨_, stW_get h ((hmL x2 hym).1) (ndX_t ((hmL x2 hym).2))⟩) dJ26_split_35 38 rfl ?_
          refine r_astore hC 13 [(13, .ref x2), (12, .ref e), (11, .int (nI Hi.length)), (10, .int (nI Lo.length)), (9, .ref z), (8, .ref hX), (7, (va_rf (lstO none Lo))), (6, (va_rf Lo.head?)), (4, .int (nI cap)), (3, .int (nI b)), (2, .ref tb), (1, .ref M)] dJ26_split_38 (Nat.le_of_ble_eq_true rfl) rfl 40 rfl ?_
          refine r_aload hC 1 dJ26_split_40 rfl 42 rfl ?_
          refine r_null hC dJ26_split_42 43 rfl ?_
          refine r_putI (J := xSt F V0 ([(M, .inr (25, [va_rf tbo, va_rf es, .int (nI sz), .int mc, .int (nI th), .float 1061158912, .null, .null, va_rf hd, va_rf tl, .int 0, .int 0])), (tb, .inl (8, cap2, .inr (.inr (.inr (.inr tf)))))] ++ stW L (ndX kd hs ky vl (va_up nx e none) bf af pa lf rt pv rd))) hC kJ26 3 rfl q2247 (Or.inr q2248) rfl (fun _ h => stW_get h ((hmL e heLb).1) (ndX_t ((hmL e heLb).2))) (Nat.le_of_ble_eq_true rfl) rfl rfl dJ26_split_43 (fun _ h => stW_set h ((hmL e heLb).1) (ndX_nx ((hmL e heLb).2))) 46 rfl ?_
          refine r_aload hC 1 dJ26_split_46 rfl 48 rfl ?_
          refine r_getI (v := .int (hs e)) hC kJ26 0 rfl q2230 (Or.inr q2231) (fun _ h => stW_get h ((hmL e heLb).1) (ndX_t ((hmL e heLb).2))) rfl dJ26_split_48 51 rfl ?_
          refine r_iload hC 8 dJ26_split_51 rfl 53 rfl ?_
          refine r_iand hC ((hs e) &&& (nI cap)) dJ26_split_53  (rfl) 54 rfl ?_
          refine r_ifne hC 92 dJ26_split_54 (by decide) 57 rfl (fun _ => ?_) (fun h => absurd h (hlz0))
          refine r_aload hC 1 dJ26_split_92 rfl 94 rfl ?_
          refine r_aload hC 4 dJ26_split_94 rfl 96 rfl ?_
          refine r_dup_x1 hC dJ26_split_96 rfl rfl 97 rfl ?_
          refine r_putI (J := xSt F V0 ([(M, .inr (25, [va_rf tbo, va_rf es, .int (nI sz), .int mc, .int (nI th), .float 1061158912, .null, .null, va_rf hd, va_rf tl, .int 0, .int 0])), (tb, .inl (8, cap2, .inr (.inr (.inr (.inr tf)))))] ++ stW L (ndX kd hs ky vl (va_up nx e none) bf af pa lf rt (va_up pv e (some z)) rd))) hC kJ26 9 rfl q2318 (Or.inl rfl) rfl (fun _ h => stW_get h ((hmL e heLb).1) (ndX_t ((hmL e heLb).2))) (Nat.le_of_ble_eq_true rfl) rfl rfl dJ26_split_97 (fun _ h => stW_set h ((hmL e heLb).1) (ndX_pv ((hmL e heLb).2))) 100 rfl ?_
          refine r_ifnonnull hC 110 dJ26_split_100 (by decide) ?_
          refine r_aload hC 4 dJ26_split_110 rfl 112 rfl ?_
          refine r_aload hC 1 dJ26_split_112 rfl 114 rfl ?_
          refine r_putI (J := xSt F V0 ([(M, .inr (25, [va_rf tbo, va_rf es, .int (nI sz), .int mc, .int (nI th), .float 1061158912, .null, .null, va_rf hd, va_rf tl, .int 0, .int 0])), (tb, .inl (8, cap2, .inr (.inr (.inr (.inr tf)))))] ++ stW L (ndX kd hs ky vl (va_up (va_up nx e none) z (some e)) bf af pa lf rt (va_up pv e (some z)) rd))) hC kJ26 3 rfl q2247 (Or.inr q2248) rfl (fun _ h => stW_get h ((hmL z hzLb).1) (ndX_t ((hmL z hzLb).2))) (Nat.le_of_ble_eq_true rfl) rfl rfl dJ26_split_114 (fun _ h => stW_set h ((hmL z hzLb).1) (ndX_nx ((hmL z hzLb).2))) 117 rfl ?_
          refine r_aload hC 1 dJ26_split_117 rfl 119 rfl ?_
          refine r_astore hC 9 [(9, .ref e), (13, .ref x2), (12, .ref e), (11, .int (nI Hi.length)), (10, .int (nI Lo.length)), (8, .ref hX), (7, (va_rf (lstO none Lo))), (6, (va_rf Lo.head?)), (4, .int (nI cap)), (3, .int (nI b)), (2, .ref tb), (1, .ref M)] dJ26_split_119 (Nat.le_of_ble_eq_true rfl) rfl 121 rfl ?_
          refine r_iinc hC (nI (Hi.length + 1)) 11 3 [(11, .int (nI (Hi.length + 1))), (9, .ref e), (13, .ref x2), (12, .ref e), (10, .int (nI Lo.length)), (8, .ref hX), (7, (va_rf (lstO none Lo))), (6, (va_rf Lo.head?)), (4, .int (nI cap)), (3, .int (nI b)), (2, .ref tb), (1, .ref M)] dJ26_split_121 rfl (nI_add Hi.length 1) (Nat.le_of_ble_eq_true rfl) rfl 124 rfl ?_
          refine r_aload hC 2 dJ26_split_124 rfl 126 rfl ?_
          refine r_astore hC 12 [(12, .ref x2), (11, .int (nI (Hi.length + 1))), (9, .ref e), (13, .ref x2), (10, .int (nI Lo.length)), (8, .ref hX), (7, (va_rf (lstO none Lo))), (6, (va_rf Lo.head?)), (4, .int (nI cap)), (3, .int (nI b)), (2, .ref tb), (1, .ref M)] dJ26_split_126 (Nat.le_of_ble_eq_true rfl) rfl 128 rfl ?_
          refine r_goto hC 25 dJ26_split_128 (by decide) ?_
          refine rn.sub (lv' := [(12, .ref x2), (11, .int (nI (Hi.length + 1))), (10, .int (nI Lo.length)), (9, .ref e), (8, .ref hX), (7, (va_rf (lstO none Lo))), (6, (va_rf Lo.head?)), (4, .int (nI cap)), (3, .int (nI b)), (2, .ref tb), (1, .ref M)]) [0, 1, 4, 2, 5, 6, 7, 8, 9, 10, 11] rfl ?_
          have hI' := hI.hi hlb (nx' := va_up (va_up nx e none) z (some e)) (pv' := va_up pv e (some z)) ((up_ne nez).trans (up_same _ _ _)) (fun z9 e9 => by obtain rfl : z = z9 := Option.some.inj (hlz.symm.trans e9); exact up_same _ _ _) (fun a na n9 => (up_ne (fun e9 => n9 (by rw [e9]; exact hlz))).trans (up_ne na)) ((up_same _ _ _).trans hlz.symm) (fun a na => up_ne na)
          have hsg : seg nx0 (some x2) rest none := by have h8 := hseg.2; rw [← (hI.2.2.2.2.2.2.2.1 e hed).1, hl1] at h8; exact h8
          have key := ih (done ++ [e]) Lo (Hi ++ [e]) (va_up (va_up nx e none) z (some e)) (va_up pv e (some z)) (some x2) hsg hI'
          rw [show lstO none (Hi ++ [e]) = some e from lstO_snoc, show (Hi ++ [e]).head? = some hX by rw [head_app, hhX]; rfl, show (Hi ++ [e]).length = Hi.length + 1 by rw [List.length_append]; rfl] at key
          exact key
theorem nI_lt6 {n : Nat} (h : 6 < n) (h2 : n < 2147483648) : 6 < nI n := by
  rw [Int32.lt_iff_toInt_lt, nI_toInt (by omega)]
  have h0 : (6 : Int32).toInt = 6 := rfl
  omega
theorem nI_le6 {n : Nat} (h : n ≤ 6) : ¬ 6 < nI n := by
  rw [Int32.lt_iff_toInt_lt, nI_toInt (by omega)]
  have h0 : (6 : Int32).toInt = 6 := rfl
  omega
set_option maxHeartbeats 4000000 in
set_option maxRecDepth 100000 in
theorem lpJ26_sploE {C : xC} {F : Nat → Prop} {V0 : xV} (c9 s9 : Nat) (hG : xGood (xGG C)) (hC : xCtx C RJ26 cJ26_split 14 none { frames := 5, locals := 117, cells := c9, slots := s9 }) (L : List Nat) (kd : Nat → Bool) (hs : Nat → Int32) (ky vl : Nat → Nat) (nx bf af pa lf rt pv : Nat → Option Nat) (rd : Nat → Int32) (M : Nat) (tbo es : Option Nat) (sz th : Nat) (mc : Int32) (hd tl : Option Nat) (tb cap2 : Nat) (tf : Nat → Option Nat) (cap b : Nat) (ord Lo Hi : List Nat) (hl : lnk bf af hd tl ord) (hoL : ∀ a, a ∈ ord → a ∈ L) (k n : Nat) (hk9 : k + Lo.length ≤ c9) (hn9 : n + 6 * Lo.length ≤ s9) (hc2 : cap2 ≤ 1024) (hbx : b < cap2) (vo : Value) (hX : Lo = []) (hf0 : tf b = none) (k9 n9 : Nat) (hkk : k = k9) (hnn : n = n9) (kx : ∀ (L1 ord1 Ns : List Nat) (kd1 : Nat → Bool) (hs1 : Nat → Int32) (ky1 vl1 : Nat → Nat) (nx1 bf1 af1 pa1 lf1 rt1 pv1 : Nat → Option Nat) (rd1 : Nat → Int32) (hd1 tl1 : Option Nat) (k n : Nat), brI L ord kd hs ky vl nx pa lf rt pv Lo L1 ord1 kd1 hs1 ky1 vl1 nx1 bf1 af1 pa1 lf1 rt1 pv1 hd1 tl1 Ns → binI kd1 hs1 nx1 pa1 lf1 rt1 pv1 Ns.head? Ns → k ≤ k9 + Lo.length → n ≤ n9 + 6 * Lo.length → rn C (xSt F V0 ([(M, .inr (25, [va_rf tbo, va_rf es, .int (nI sz), .int mc, .int (nI th), .float 1061158912, .null, .null, va_rf hd1, va_rf tl1, .int 0, .int 0])), (tb, .inl (8, cap2, .inr (.inr (.inr (.inr (va_up tf b Ns.head?))))))] ++ stW L1 (ndX kd1 hs1 ky1 vl1 nx1 bf1 af1 pa1 lf1 rt1 pv1 rd1))) k n 171 [(11, .int (nI Hi.length)), (8, vo), (6, .null), (4, .int (nI cap)), (3, .int (nI b)), (2, .ref tb), (1, .ref M)] []) : rn C (xSt F V0 ([(M, .inr (25, [va_rf tbo, va_rf es, .int (nI sz), .int mc, .int (nI th), .float 1061158912, .null, .null, va_rf hd, va_rf tl, .int 0, .int 0])), (tb, .inl (8, cap2, .inr (.inr (.inr (.inr tf)))))] ++ stW L (ndX kd hs ky vl nx bf af pa lf rt pv rd))) k n 131 [(11, .int (nI Hi.length)), (10, .int (nI Lo.length)), (8, vo), (6, .null), (4, .int (nI cap)), (3, .int (nI b)), (2, .ref tb), (1, .ref M)] [] := by
  refine r_aloadN hC 3 dJ26_split_131 rfl 133 rfl ?_
  refine r_ifnullN hC 171 dJ26_split_133 (by decide) ?_
  refine rn.sub (lv' := [(11, .int (nI Hi.length)), (8, vo), (6, .null), (4, .int (nI cap)), (3, .int (nI b)), (2, .ref tb), (1, .ref M)]) [0, 2, 3, 4, 5, 6, 7] rfl ?_
  have e9 : va_up tf b ([] : List Nat).head? = tf := up_idv hf0
  have key := kx L ord [] kd hs ky vl nx bf af pa lf rt pv rd hd tl k n (by rw [hX]; exact brI.same hl hoL (fun a ha => absurd ha List.not_mem_nil)) ⟨rfl, List.nodup_nil, Or.inl fun a ha => absurd ha List.not_mem_nil⟩ (by omega) (by omega)
  rw [e9] at key
  exact key
set_option maxHeartbeats 4000000 in
set_option maxRecDepth 100000 in
theorem lpJ26_sploS {C : xC} {F : Nat → Prop} {V0 : xV} (c9 s9 : Nat) (hG : xGood (xGG C)) (hC : xCtx C RJ26 cJ26_split 14 none { frames := 5, locals := 117, cells := c9, slots := s9 }) (L : List Nat) (kd : Nat → Bool) (hs : Nat → Int32) (ky vl : Nat → Nat) (nx bf af pa lf rt pv : Nat → Option Nat) (rd : Nat → Int32) (M : Nat) (tbo es : Option Nat) (sz th : Nat) (mc : Int32) (hd tl : Option Nat) (tb cap2 : Nat) (tf : Nat → Option Nat) (cap b : Nat) (ord Lo Hi : List Nat) (hl : lnk bf af hd tl ord) (hoL : ∀ a, a ∈ ord → a ∈ L) (k n : Nat) (hk9 : k + Lo.length ≤ c9) (hn9 : n + 6 * Lo.length ≤ s9) (hc2 : cap2 ≤ 1024) (hbx : b < cap2) (vo : Value) (x0 : Nat) (t0 : List Nat) (hX : Lo = x0 :: t0) (hXs : seg nx (some x0) (x0 :: t0) none) (hXk : ∀ a, a ∈ x0 :: t0 → kd a = true) (hXo : ∀ a, a ∈ Lo → a ∈ ord) (hXn : (x0 :: t0).Nodup) (hlen : Lo.length ≤ 6) (k9 n9 : Nat) (hkk : k = k9) (hnn : n = n9) (kx : ∀ (L1 ord1 Ns : List Nat) (kd1 : Nat → Bool) (hs1 : Nat → Int32) (ky1 vl1 : Nat → Nat) (nx1 bf1 af1 pa1 lf1 rt1 pv1 : Nat → Option Nat) (rd1 : Nat → Int32) (hd1 tl1 : Option Nat) (k n : Nat), brI L ord kd hs ky vl nx pa lf rt pv Lo L1 ord1 kd1 hs1 ky1 vl1 nx1 bf1 af1 pa1 lf1 rt1 pv1 hd1 tl1 Ns → binI kd1 hs1 nx1 pa1 lf1 rt1 pv1 Ns.head? Ns → k ≤ k9 + Lo.length → n ≤ n9 + 6 * Lo.length → rn C (xSt F V0 ([(M, .inr (25, [va_rf tbo, va_rf es, .int (nI sz), .int mc, .int (nI th), .float 1061158912, .null, .null, va_rf hd1, va_rf tl1, .int 0, .int 0])), (tb, .inl (8, cap2, .inr (.inr (.inr (.inr (va_up tf b Ns.head?))))))] ++ stW L1 (ndX kd1 hs1 ky1 vl1 nx1 bf1 af1 pa1 lf1 rt1 pv1 rd1))) k n 171 [(11, .int (nI Hi.length)), (8, vo), (6, .ref x0), (4, .int (nI cap)), (3, .int (nI b)), (2, .ref tb), (1, .ref M)] []) : rn C (xSt F V0 ([(M, .inr (25, [va_rf tbo, va_rf es, .int (nI sz), .int mc, .int (nI th), .float 1061158912, .null, .null, va_rf hd, va_rf tl, .int 0, .int 0])), (tb, .inl (8, cap2, .inr (.inr (.inr (.inr tf)))))] ++ stW L (ndX kd hs ky vl nx bf af pa lf rt pv rd))) k n 131 [(11, .int (nI Hi.length)), (10, .int (nI Lo.length)), (8, vo), (6, .ref x0), (4, .int (nI cap)), (3, .int (nI b)), (2, .ref tb), (1, .ref M)] [] := by
  have hx0X : x0 ∈ Lo := by rw [hX]; exact List.mem_cons_self
  have hx0L : x0 ∈ L := hoL x0 (hXo x0 hx0X)
  have hx0k : kd x0 = true := hXk x0 List.mem_cons_self
  have hXk9 : ∀ a, a ∈ Lo → kd a = true := fun a ha => hXk a (by rw [← hX]; exact ha)
  have hXL : Lo.length = (x0 :: t0).length := by rw [hX]
  refine r_aload hC 3 dJ26_split_131 rfl 133 rfl ?_
  refine r_ifnull hC dJ26_split_133 136 rfl ?_
  refine r_iload hC 1 dJ26_split_136 rfl 138 rfl ?_
  refine r_bipush hC 6 dJ26_split_138 bp_6 140 rfl ?_
  refine r_icgt hC 155 dJ26_split_140 (by decide) 143 rfl (fun h => absurd h (nI_le6 hlen)) (fun _ => ?_)
  refine r_aload_n hC 6 dJ26_split_143 rfl 144 rfl ?_
  refine r_iload_n hC 5 dJ26_split_144 rfl 145 rfl ?_
  refine r_aload hC 3 dJ26_split_145 rfl 147 rfl ?_
  refine r_aload_n hC 7 dJ26_split_147 rfl 148 rfl ?_
  refine xCall.ct (wcx := [(M, .inr (25, [va_rf tbo, va_rf es, .int (nI sz), .int mc, .int (nI th), .float 1061158912, .null, .null, va_rf hd, va_rf tl, .int 0, .int 0]))]) (wr := [(tb, .inl (8, cap2, .inr (.inr (.inr (.inr tf)))))]) (r_cV hC kJ26 x0 [.ref M] mVJ26_untreeify q2207 (fun _ h => ⟨_, stW_get h hx0L (ndX_t hx0k)⟩) (fun V9 h9 => (metJ26_untreeify _ _ hG L kd hs ky vl nx bf af pa lf rt pv rd M tbo es sz th mc hd tl ord (x0 :: t0) x0 hXs hXk hl hoL (by rw [← hX]; exact hXo) hXn) V9 (h9.in.cut (wcx := [(M, .inr (25, [va_rf tbo, va_rf es, .int (nI sz), .int mc, .int (nI th), .float 1061158912, .null, .null, va_rf hd, va_rf tl, .int 0, .int 0]))]) (wr := [(tb, .inl (8, cap2, .inr (.inr (.inr (.inr tf)))))]) [0] [1] 2 rfl rfl rfl rfl)) ⟨rfl, rfl⟩ (by first | omega | (dsimp only; omega)) (by first | omega | (dsimp only; omega)) rfl (Nat.le_of_ble_eq_true rfl) dJ26_split_148) [0] [1] 2 rfl rfl rfl rfl (k + (x0 :: t0).length) (n + (6 * (x0 :: t0).length)) 151 rfl rfl rfl (fun v1 w2 h3 => ?_) (fun _ _ h => h.elim)
  obtain ⟨L', ord', Ns, kd', hs', ky', vl', nx', bf', af', pa', lf', rt', pv', rd', hd', tl', rfl, hR', hB', hK', rfl⟩ := h3
  refine rn.mono (J := xSt F V0 ([(tb, .inl (8, cap2, .inr (.inr (.inr (.inr tf))))), (M, .inr (25, [va_rf tbo, va_rf es, .int (nI sz), .int mc, .int (nI th), .float 1061158912, .null, .null, va_rf hd', va_rf tl', .int 0, .int 0]))] ++ stW L' (ndX kd' hs' ky' vl' nx' bf' af' pa' lf' rt' pv' rd'))) (fun _ h => by rw [← List.append_assoc] at h; exact h) ?_
  show rn C (xSt F V0 ([(tb, .inl (8, cap2, .inr (.inr (.inr (.inr tf))))), (M, .inr (25, [va_rf tbo, va_rf es, .int (nI sz), .int mc, .int (nI th), .float 1061158912, .null, .null, va_rf hd', va_rf tl', .int 0, .int 0]))] ++ stW L' (ndX kd' hs' ky' vl' nx' bf' af' pa' lf' rt' pv' rd'))) (k + (x0 :: t0).length) (n + (6 * (x0 :: t0).length)) 151 [(11, .int (nI Hi.length)), (10, .int (nI Lo.length)), (8, vo), (6, .ref x0), (4, .int (nI cap)), (3, .int (nI b)), (2, .ref tb), (1, .ref M)] [(va_rf Ns.head?), .int (nI b), .ref tb]
  obtain ⟨n0, hn0⟩ : ∃ n0, Ns.head? = some n0 := by
    cases hN9 : Ns with
    | nil => have h9 := hR'.2.2.2.2.2.2.2.2; rw [hN9] at h9; cases h9
    | cons c t => exact ⟨c, rfl⟩
  have hn0m : n0 ∈ Ns := by cases hN9 : Ns with
    | nil => rw [hN9] at hn0; cases hn0
    | cons c t => rw [hN9] at hn0; rw [← Option.some.inj hn0]; exact List.mem_cons_self
  have hn0L : n0 ∈ L' := hR'.2.2.2.2.1 n0 ((hR'.2.2.1 n0).mpr (Or.inr hn0m))
  refine r_eqo (y := .ref n0) (by rw [hn0]; rfl) ?_
  refine r_aastO (J := xSt F V0 ([(tb, .inl (8, cap2, .inr (.inr (.inr (.inr (va_up tf b (some n0))))))), (M, .inr (25, [va_rf tbo, va_rf es, .int (nI sz), .int mc, .int (nI th), .float 1061158912, .null, .null, va_rf hd', va_rf tl', .int 0, .int 0]))] ++ stW L' (ndX kd' hs' ky' vl' nx' bf' af' pa' lf' rt' pv' rd'))) hC hG kJ25 q3422 b (xix_n b hbx (by omega)) rfl (fun _ h => ⟨_, stW_get h hn0L (ndX_p (hK' n0 hn0m))⟩) (fun _ h => h.get 0 rfl) dJ26_split_151 (fun _ h => h.set 0 _ rfl) 152 rfl ?_
  refine r_goto hC 171 dJ26_split_152 (by decide) ?_
  refine rn.sub (lv' := [(11, .int (nI Hi.length)), (8, vo), (6, .ref x0), (4, .int (nI cap)), (3, .int (nI b)), (2, .ref tb), (1, .ref M)]) [0, 2, 3, 4, 5, 6, 7] rfl ?_
  refine rn.mono (J := xSt F V0 ([(M, .inr (25, [va_rf tbo, va_rf es, .int (nI sz), .int mc, .int (nI th), .float 1061158912, .null, .null, va_rf hd', va_rf tl', .int 0, .int 0])), (tb, .inl (8, cap2, .inr (.inr (.inr (.inr (va_up tf b (some n0)))))))] ++ stW L' (ndX kd' hs' ky' vl' nx' bf' af' pa' lf' rt' pv' rd'))) (fun _ h => h.ordT [1, 0] 2 rfl rfl rfl) ?_
  have key := kx L' ord' Ns kd' hs' ky' vl' nx' bf' af' pa' lf' rt' pv' rd' hd' tl' (k + (x0 :: t0).length) (n + (6 * (x0 :: t0).length)) (by rw [hX]; exact hR') hB' (by omega) (by omega)
  rw [hn0] at key
  exact key
set_option maxHeartbeats 4000000 in
set_option maxRecDepth 100000 in
theorem lpJ26_sploB {C : xC} {F : Nat → Prop} {V0 : xV} (c9 s9 : Nat) (hG : xGood (xGG C)) (hC : xCtx C RJ26 cJ26_split 14 none { frames := 5, locals := 117, cells := c9, slots := s9 }) (L : List Nat) (kd : Nat → Bool) (hs : Nat → Int32) (ky vl : Nat → Nat) (nx bf af pa lf rt pv : Nat → Option Nat) (rd : Nat → Int32) (M : Nat) (tbo es : Option Nat) (sz th : Nat) (mc : Int32) (hd tl : Option Nat) (tb cap2 : Nat) (tf : Nat → Option Nat) (cap b : Nat) (ord Lo Hi : List Nat) (hl : lnk bf af hd tl ord) (hoL : ∀ a, a ∈ ord → a ∈ L) (k n : Nat) (hk9 : k + Lo.length ≤ c9) (hn9 : n + 6 * Lo.length ≤ s9) (hc2 : cap2 ≤ 1024) (hbx : b < cap2) (x0 : Nat) (t0 : List Nat) (hX : Lo = x0 :: t0) (hXs : seg nx (some x0) (x0 :: t0) none) (hXk : ∀ a, a ∈ x0 :: t0 → kd a = true) (hXo : ∀ a, a ∈ Lo → a ∈ ord) (hXn : (x0 :: t0).Nodup) (hlen : 6 < (x0 :: t0).length) (hX31 : Lo.length < 2147483648) (hXb : bck pv none (x0 :: t0)) (hXT : tI (fun a => (hs a).toInt) (fun a => a ∈ Lo) pa lf rt x0) (k9 n9 : Nat) (hkk : k = k9) (hnn : n = n9) (kx : ∀ (L1 ord1 Ns : List Nat) (kd1 : Nat → Bool) (hs1 : Nat → Int32) (ky1 vl1 : Nat → Nat) (nx1 bf1 af1 pa1 lf1 rt1 pv1 : Nat → Option Nat) (rd1 : Nat → Int32) (hd1 tl1 : Option Nat) (k n : Nat), brI L ord kd hs ky vl nx pa lf rt pv Lo L1 ord1 kd1 hs1 ky1 vl1 nx1 bf1 af1 pa1 lf1 rt1 pv1 hd1 tl1 Ns → binI kd1 hs1 nx1 pa1 lf1 rt1 pv1 Ns.head? Ns → k ≤ k9 + Lo.length → n ≤ n9 + 6 * Lo.length → rn C (xSt F V0 ([(M, .inr (25, [va_rf tbo, va_rf es, .int (nI sz), .int mc, .int (nI th), .float 1061158912, .null, .null, va_rf hd1, va_rf tl1, .int 0, .int 0])), (tb, .inl (8, cap2, .inr (.inr (.inr (.inr (va_up tf b Ns.head?))))))] ++ stW L1 (ndX kd1 hs1 ky1 vl1 nx1 bf1 af1 pa1 lf1 rt1 pv1 rd1))) k n 171 [(11, .int (nI Hi.length)), (8, .null), (6, .ref x0), (4, .int (nI cap)), (3, .int (nI b)), (2, .ref tb), (1, .ref M)] []) : rn C (xSt F V0 ([(M, .inr (25, [va_rf tbo, va_rf es, .int (nI sz), .int mc, .int (nI th), .float 1061158912, .null, .null, va_rf hd, va_rf tl, .int 0, .int 0])), (tb, .inl (8, cap2, .inr (.inr (.inr (.inr tf)))))] ++ stW L (ndX kd hs ky vl nx bf af pa lf rt pv rd))) k n 131 [(11, .int (nI Hi.length)), (10, .int (nI Lo.length)), (8, .null), (6, .ref x0), (4, .int (nI cap)), (3, .int (nI b)), (2, .ref tb), (1, .ref M)] [] := by
  have hx0X : x0 ∈ Lo := by rw [hX]; exact List.mem_cons_self
  have hx0L : x0 ∈ L := hoL x0 (hXo x0 hx0X)
  have hx0k : kd x0 = true := hXk x0 List.mem_cons_self
  have hXk9 : ∀ a, a ∈ Lo → kd a = true := fun a ha => hXk a (by rw [← hX]; exact ha)
  have hXL : Lo.length = (x0 :: t0).length := by rw [hX]
  refine r_aload hC 3 dJ26_split_131 rfl 133 rfl ?_
  refine r_ifnull hC dJ26_split_133 136 rfl ?_
  refine r_iload hC 1 dJ26_split_136 rfl 138 rfl ?_
  refine r_bipush hC 6 dJ26_split_138 bp_6 140 rfl ?_
  refine r_icgt hC 155 dJ26_split_140 (by decide) 143 rfl (fun _ => ?_) (fun h => absurd (nI_lt6 (by omega) (by omega)) h)
  refine r_aload_n hC 6 dJ26_split_155 rfl 156 rfl ?_
  refine r_iload_n hC 5 dJ26_split_156 rfl 157 rfl ?_
  refine r_aload hC 3 dJ26_split_157 rfl 159 rfl ?_
  refine r_aastO (J := xSt F V0 ([(M, .inr (25, [va_rf tbo, va_rf es, .int (nI sz), .int mc, .int (nI th), .float 1061158912, .null, .null, va_rf hd, va_rf tl, .int 0, .int 0])), (tb, .inl (8, cap2, .inr (.inr (.inr (.inr (va_up tf b (some x0)))))))] ++ stW L (ndX kd hs ky vl nx bf af pa lf rt pv rd))) hC hG kJ26 q3423 b (xix_n b hbx (by omega)) rfl (fun _ h => ⟨_, stW_get h hx0L (ndX_t hx0k)⟩) (fun _ h => h.get 1 rfl) dJ26_split_159 (fun _ h => h.set 1 _ rfl) 160 rfl ?_
  refine r_aloadN hC 2 dJ26_split_160 rfl 162 rfl ?_
  refine r_ifnullN hC 171 dJ26_split_162 (by decide) ?_
  refine rn.sub (lv' := [(11, .int (nI Hi.length)), (8, .null), (6, .ref x0), (4, .int (nI cap)), (3, .int (nI b)), (2, .ref tb), (1, .ref M)]) [0, 2, 3, 4, 5, 6, 7] rfl ?_
  have key := kx L ord Lo kd hs ky vl nx bf af pa lf rt pv rd hd tl k n (brI.same hl hoL hXo) ⟨by rw [hX]; exact hXs, by rw [hX]; exact hXn, Or.inr ⟨fun a ha => (hXk a (by rw [← hX]; exact ha)), by rw [hX]; exact hlen, by rw [hX]; exact hXb, x0, t0, hX, hXT⟩⟩ (by omega) (by omega)
  rw [show (Lo : List Nat).head? = some x0 by rw [hX]; rfl] at key
  exact key
set_option maxHeartbeats 4000000 in
set_option maxRecDepth 100000 in
theorem lpJ26_sploT {C : xC} {F : Nat → Prop} {V0 : xV} (c9 s9 : Nat) (hG : xGood (xGG C)) (hC : xCtx C RJ26 cJ26_split 14 none { frames := 5, locals := 117, cells := c9, slots := s9 }) (L : List Nat) (kd : Nat → Bool) (hs : Nat → Int32) (ky vl : Nat → Nat) (nx bf af pa lf rt pv : Nat → Option Nat) (rd : Nat → Int32) (M : Nat) (tbo es : Option Nat) (sz th : Nat) (mc : Int32) (hd tl : Option Nat) (tb cap2 : Nat) (tf : Nat → Option Nat) (cap b : Nat) (ord Lo Hi : List Nat) (hl : lnk bf af hd tl ord) (hoL : ∀ a, a ∈ ord → a ∈ L) (k n : Nat) (hk9 : k + Lo.length ≤ c9) (hn9 : n + 6 * Lo.length ≤ s9) (hc2 : cap2 ≤ 1024) (hbx : b < cap2) (x0 : Nat) (t0 : List Nat) (hX : Lo = x0 :: t0) (hXs : seg nx (some x0) (x0 :: t0) none) (hXk : ∀ a, a ∈ x0 :: t0 → kd a = true) (hXo : ∀ a, a ∈ Lo → a ∈ ord) (hXn : (x0 :: t0).Nodup) (hlen : 6 < (x0 :: t0).length) (hX31 : Lo.length < 2147483648) (y0 : Nat) (hXb : bck pv none (x0 :: t0)) (hXi : ∀ a a9, a ∈ x0 :: t0 → a9 ∈ x0 :: t0 → hs a = hs a9 → a = a9) (hXx : ∀ a, a ∈ x0 :: t0 → (nI (cap2 - 1) &&& hs a) = nI b) (k9 n9 : Nat) (hkk : k = k9) (hnn : n = n9) (kx : ∀ (L1 ord1 Ns : List Nat) (kd1 : Nat → Bool) (hs1 : Nat → Int32) (ky1 vl1 : Nat → Nat) (nx1 bf1 af1 pa1 lf1 rt1 pv1 : Nat → Option Nat) (rd1 : Nat → Int32) (hd1 tl1 : Option Nat) (k n : Nat), brI L ord kd hs ky vl nx pa lf rt pv Lo L1 ord1 kd1 hs1 ky1 vl1 nx1 bf1 af1 pa1 lf1 rt1 pv1 hd1 tl1 Ns → binI kd1 hs1 nx1 pa1 lf1 rt1 pv1 Ns.head? Ns → k ≤ k9 + Lo.length → n ≤ n9 + 6 * Lo.length → rn C (xSt F V0 ([(M, .inr (25, [va_rf tbo, va_rf es, .int (nI sz), .int mc, .int (nI th), .float 1061158912, .null, .null, va_rf hd1, va_rf tl1, .int 0, .int 0])), (tb, .inl (8, cap2, .inr (.inr (.inr (.inr (va_up tf b Ns.head?))))))] ++ stW L1 (ndX kd1 hs1 ky1 vl1 nx1 bf1 af1 pa1 lf1 rt1 pv1 rd1))) k n 171 [(11, .int (nI Hi.length)), (8, .ref y0), (6, .ref x0), (4, .int (nI cap)), (3, .int (nI b)), (2, .ref tb), (1, .ref M)] []) : rn C (xSt F V0 ([(M, .inr (25, [va_rf tbo, va_rf es, .int (nI sz), .int mc, .int (nI th), .float 1061158912, .null, .null, va_rf hd, va_rf tl, .int 0, .int 0])), (tb, .inl (8, cap2, .inr (.inr (.inr (.inr tf)))))] ++ stW L (ndX kd hs ky vl nx bf af pa lf rt pv rd))) k n 131 [(11, .int (nI Hi.length)), (10, .int (nI Lo.length)), (8, .ref y0), (6, .ref x0), (4, .int (nI cap)), (3, .int (nI b)), (2, .ref tb), (1, .ref M)] [] := by
  have hx0X : x0 ∈ Lo := by rw [hX]; exact List.mem_cons_self
  have hx0L : x0 ∈ L := hoL x0 (hXo x0 hx0X)
  have hx0k : kd x0 = true := hXk x0 List.mem_cons_self
  have hXk9 : ∀ a, a ∈ Lo → kd a = true := fun a ha => hXk a (by rw [← hX]; exact ha)
  have hXL : Lo.length = (x0 :: t0).length := by rw [hX]
  have hc64 : 1 ≤ cap2 := by omega
  refine r_aload hC 3 dJ26_split_131 rfl 133 rfl ?_
  refine r_ifnull hC dJ26_split_133 136 rfl ?_
  refine r_iload hC 1 dJ26_split_136 rfl 138 rfl ?_
  refine r_bipush hC 6 dJ26_split_138 bp_6 140 rfl ?_
  refine r_icgt hC 155 dJ26_split_140 (by decide) 143 rfl (fun _ => ?_) (fun h => absurd (nI_lt6 (by omega) (by omega)) h)
  refine r_aload_n hC 6 dJ26_split_155 rfl 156 rfl ?_
  refine r_iload_n hC 5 dJ26_split_156 rfl 157 rfl ?_
  refine r_aload hC 3 dJ26_split_157 rfl 159 rfl ?_
  refine r_aastO (J := xSt F V0 ([(M, .inr (25, [va_rf tbo, va_rf es, .int (nI sz), .int mc, .int (nI th), .float 1061158912, .null, .null, va_rf hd, va_rf tl, .int 0, .int 0])), (tb, .inl (8, cap2, .inr (.inr (.inr (.inr (va_up tf b (some x0)))))))] ++ stW L (ndX kd hs ky vl nx bf af pa lf rt pv rd))) hC hG kJ26 q3423 b (xix_n b hbx (by omega)) rfl (fun _ h => ⟨_, stW_get h hx0L (ndX_t hx0k)⟩) (fun _ h => h.get 1 rfl) dJ26_split_159 (fun _ h => h.set 1 _ rfl) 160 rfl ?_
  refine r_aload hC 2 dJ26_split_160 rfl 162 rfl ?_
  refine r_ifnull hC dJ26_split_162 165 rfl ?_
  refine r_aload hC 3 dJ26_split_165 rfl 167 rfl ?_
  refine r_aload_n hC 6 dJ26_split_167 rfl 168 rfl ?_
  refine xCall.ct (wcx := [(tb, .inl (8, cap2, .inr (.inr (.inr (.inr (va_up tf b (some x0)))))))]) (wr := [(M, .inr (25, [va_rf tbo, va_rf es, .int (nI sz), .int mc, .int (nI th), .float 1061158912, .null, .null, va_rf hd, va_rf tl, .int 0, .int 0]))]) (r_cV hC kJ26 x0 [.ref tb] mVJ26_treeify q2270 (fun _ h => ⟨_, stW_get h hx0L (ndX_t hx0k)⟩) (fun V9 h9 => (metJ26_treeify _ _ hG L kd hs ky vl nx bf af pa lf rt pv rd tb cap2 b (va_up tf b (some x0)) (by omega) (by omega) hbx x0 (x0 :: t0) (fun a ha => ⟨hoL a (hXo a (by rw [hX]; exact ha)), hXk a ha⟩) hXn hXi (List.cons_ne_nil _ _) (up_same _ _ _) hXs hXb hXx) V9 (h9.in.cut (wcx := [(tb, .inl (8, cap2, .inr (.inr (.inr (.inr (va_up tf b (some x0)))))))]) (wr := [(M, .inr (25, [va_rf tbo, va_rf es, .int (nI sz), .int mc, .int (nI th), .float 1061158912, .null, .null, va_rf hd, va_rf tl, .int 0, .int 0]))]) [1] [0] 2 rfl rfl rfl rfl)) ⟨rfl, rfl⟩ (by first | omega | (dsimp only; omega)) (by first | omega | (dsimp only; omega)) rfl (Nat.le_of_ble_eq_true rfl) dJ26_split_168) [1] [0] 2 rfl rfl rfl rfl k n 171 rfl rfl rfl (fun v16 w17 h18 => ?_) (fun _ _ h => h.elim)
  obtain ⟨nx1, pv2, pa3, lf4, rt5, rd6, ro7, la8, lb9, rfl, hN10, hT11, hS12, hB13, hu14, ho15, rfl⟩ := h18
  refine rn.mono (J := xSt F V0 ([(M, .inr (25, [va_rf tbo, va_rf es, .int (nI sz), .int mc, .int (nI th), .float 1061158912, .null, .null, va_rf hd, va_rf tl, .int 0, .int 0])), (tb, .inl (8, cap2, .inr (.inr (.inr (.inr (va_up (va_up tf b (some x0)) b (some ro7)))))))] ++ stW L (ndX kd hs ky vl nx1 bf af pa3 lf4 rt5 pv2 rd6))) (fun _ h => by rw [← List.append_assoc] at h; exact h) ?_
  show rn C (xSt F V0 ([(M, .inr (25, [va_rf tbo, va_rf es, .int (nI sz), .int mc, .int (nI th), .float 1061158912, .null, .null, va_rf hd, va_rf tl, .int 0, .int 0])), (tb, .inl (8, cap2, .inr (.inr (.inr (.inr (va_up (va_up tf b (some x0)) b (some ro7)))))))] ++ stW L (ndX kd hs ky vl nx1 bf af pa3 lf4 rt5 pv2 rd6))) k n 171 [(11, .int (nI Hi.length)), (10, .int (nI Lo.length)), (8, .ref y0), (6, .ref x0), (4, .int (nI cap)), (3, .int (nI b)), (2, .ref tb), (1, .ref M)] []
  refine rn.sub (lv' := [(11, .int (nI Hi.length)), (8, .ref y0), (6, .ref x0), (4, .int (nI cap)), (3, .int (nI b)), (2, .ref tb), (1, .ref M)]) [0, 2, 3, 4, 5, 6, 7] rfl ?_
  have hbt := br_tfy (ky := ky) (vl := vl) hl hoL hXo hXk9 (by rw [hX]; exact hlen) (by rw [hX]; exact hXn) (by rw [hX]; exact hN10) (by rw [hX]; exact hT11) hS12 hB13 (by rw [hX]; exact hu14) (by rw [hX]; exact ho15)
  have key := kx L ord (ro7 :: (la8 ++ lb9)) kd hs ky vl nx1 bf af pa3 lf4 rt5 pv2 rd6 hd tl k n hbt.1 hbt.2 (by omega) (by omega)
  rw [show va_up tf b (ro7 :: (la8 ++ lb9)).head? = va_up (va_up tf b (some x0)) b (some ro7) from up_up.symm] at key
  exact key
set_option maxHeartbeats 4000000 in
set_option maxRecDepth 100000 in
theorem lpJ26_sphiE {C : xC} {F : Nat → Prop} {V0 : xV} (c9 s9 : Nat) (hG : xGood (xGG C)) (hC : xCtx C RJ26 cJ26_split 14 none { frames := 5, locals := 117, cells := c9, slots := s9 }) (L : List Nat) (kd : Nat → Bool) (hs : Nat → Int32) (ky vl : Nat → Nat) (nx bf af pa lf rt pv : Nat → Option Nat) (rd : Nat → Int32) (M : Nat) (tbo es : Option Nat) (sz th : Nat) (mc : Int32) (hd tl : Option Nat) (tb cap2 : Nat) (tf : Nat → Option Nat) (cap b : Nat) (ord Lo Hi : List Nat) (hl : lnk bf af hd tl ord) (hoL : ∀ a, a ∈ ord → a ∈ L) (k n : Nat) (hk9 : k + Hi.length ≤ c9) (hn9 : n + 6 * Hi.length ≤ s9) (hc2 : cap2 ≤ 1024) (hbx : (b + cap) < cap2) (vo : Value) (hX : Hi = []) (hf0 : tf (b + cap) = none) (k9 n9 : Nat) (hkk : k = k9) (hnn : n = n9) (kx : ∀ (L1 ord1 Ns : List Nat) (kd1 : Nat → Bool) (hs1 : Nat → Int32) (ky1 vl1 : Nat → Nat) (nx1 bf1 af1 pa1 lf1 rt1 pv1 : Nat → Option Nat) (rd1 : Nat → Int32) (hd1 tl1 : Option Nat) (k n : Nat), brI L ord kd hs ky vl nx pa lf rt pv Hi L1 ord1 kd1 hs1 ky1 vl1 nx1 bf1 af1 pa1 lf1 rt1 pv1 hd1 tl1 Ns → binI kd1 hs1 nx1 pa1 lf1 rt1 pv1 Ns.head? Ns → k ≤ k9 + Hi.length → n ≤ n9 + 6 * Hi.length → rn C (xSt F V0 ([(M, .inr (25, [va_rf tbo, va_rf es, .int (nI sz), .int mc, .int (nI th), .float 1061158912, .null, .null, va_rf hd1, va_rf tl1, .int 0, .int 0])), (tb, .inl (8, cap2, .inr (.inr (.inr (.inr (va_up tf (b + cap) Ns.head?))))))] ++ stW L1 (ndX kd1 hs1 ky1 vl1 nx1 bf1 af1 pa1 lf1 rt1 pv1 rd1))) k n 217 [] []) : rn C (xSt F V0 ([(M, .inr (25, [va_rf tbo, va_rf es, .int (nI sz), .int mc, .int (nI th), .float 1061158912, .null, .null, va_rf hd, va_rf tl, .int 0, .int 0])), (tb, .inl (8, cap2, .inr (.inr (.inr (.inr tf)))))] ++ stW L (ndX kd hs ky vl nx bf af pa lf rt pv rd))) k n 171 [(11, .int (nI Hi.length)), (8, .null), (6, vo), (4, .int (nI cap)), (3, .int (nI b)), (2, .ref tb), (1, .ref M)] [] := by
  refine r_aloadN hC 1 dJ26_split_171 rfl 173 rfl ?_
  refine r_ifnullN hC 217 dJ26_split_173 (by decide) ?_
  refine rn.sub (lv' := []) [] rfl ?_
  have e9 : va_up tf (b + cap) ([] : List Nat).head? = tf := up_idv hf0
  have key := kx L ord [] kd hs ky vl nx bf af pa lf rt pv rd hd tl k n (by rw [hX]; exact brI.same hl hoL (fun a ha => absurd ha List.not_mem_nil)) ⟨rfl, List.nodup_nil, Or.inl fun a ha => absurd ha List.not_mem_nil⟩ (by omega) (by omega)
  rw [e9] at key
  exact key
set_option maxHeartbeats 4000000 in
set_option maxRecDepth 100000 in
theorem lpJ26_sphiS {C : xC} {F : Nat → Prop} {V0 : xV} (c9 s9 : Nat) (hG : xGood (xGG C)) (hC : xCtx C RJ26 cJ26_split 14 none { frames := 5, locals := 117, cells := c9, slots := s9 }) (L : List Nat) (kd : Nat → Bool) (hs : Nat → Int32) (ky vl : Nat → Nat) (nx bf af pa lf rt pv : Nat → Option Nat) (rd : Nat → Int32) (M : Nat) (tbo es : Option Nat) (sz th : Nat) (mc : Int32) (hd tl : Option Nat) (tb cap2 : Nat) (tf : Nat → Option Nat) (cap b : Nat) (ord Lo Hi : List Nat) (hl : lnk bf af hd tl ord) (hoL : ∀ a, a ∈ ord → a ∈ L) (k n : Nat) (hk9 : k + Hi.length ≤ c9) (hn9 : n + 6 * Hi.length ≤ s9) (hc2 : cap2 ≤ 1024) (hbx : (b + cap) < cap2) (vo : Value) (x0 : Nat) (t0 : List Nat) (hX : Hi = x0 :: t0) (hXs : seg nx (some x0) (x0 :: t0) none) (hXk : ∀ a, a ∈ x0 :: t0 → kd a = true) (hXo : ∀ a, a ∈ Hi → a ∈ ord) (hXn : (x0 :: t0).Nodup) (hlen : Hi.length ≤ 6) (k9 n9 : Nat) (hkk : k = k9) (hnn : n = n9) (kx : ∀ (L1 ord1 Ns : List Nat) (kd1 : Nat → Bool) (hs1 : Nat → Int32) (ky1 vl1 : Nat → Nat) (nx1 bf1 af1 pa1 lf1 rt1 pv1 : Nat → Option Nat) (rd1 : Nat → Int32) (hd1 tl1 : Option Nat) (k n : Nat), brI L ord kd hs ky vl nx pa lf rt pv Hi L1 ord1 kd1 hs1 ky1 vl1 nx1 bf1 af1 pa1 lf1 rt1 pv1 hd1 tl1 Ns → binI kd1 hs1 nx1 pa1 lf1 rt1 pv1 Ns.head? Ns → k ≤ k9 + Hi.length → n ≤ n9 + 6 * Hi.length → rn C (xSt F V0 ([(M, .inr (25, [va_rf tbo, va_rf es, .int (nI sz), .int mc, .int (nI th), .float 1061158912, .null, .null, va_rf hd1, va_rf tl1, .int 0, .int 0])), (tb, .inl (8, cap2, .inr (.inr (.inr (.inr (va_up tf (b + cap) Ns.head?))))))] ++ stW L1 (ndX kd1 hs1 ky1 vl1 nx1 bf1 af1 pa1 lf1 rt1 pv1 rd1))) k n 217 [] []) : rn C (xSt F V0 ([(M, .inr (25, [va_rf tbo, va_rf es, .int (nI sz), .int mc, .int (nI th), .float 1061158912, .null, .null, va_rf hd, va_rf tl, .int 0, .int 0])), (tb, .inl (8, cap2, .inr (.inr (.inr (.inr tf)))))] ++ stW L (ndX kd hs ky vl nx bf af pa lf rt pv rd))) k n 171 [(11, .int (nI Hi.length)), (8, .ref x0), (6, vo), (4, .int (nI cap)), (3, .int (nI b)), (2, .ref tb), (1, .ref M)] [] := by
  have hx0X : x0 ∈ Hi := by rw [hX]; exact List.mem_cons_self
  have hx0L : x0 ∈ L := hoL x0 (hXo x0 hx0X)
  have hx0k : kd x0 = true := hXk x0 List.mem_cons_self
  have hXk9 : ∀ a, a ∈ Hi → kd a = true := fun a ha => hXk a (by rw [← hX]; exact ha)
  have hXL : Hi.length = (x0 :: t0).length := by rw [hX]
  refine r_aload hC 1 dJ26_split_171 rfl 173 rfl ?_
  refine r_ifnull hC dJ26_split_173 176 rfl ?_
  refine r_iload hC 0 dJ26_split_176 rfl 178 rfl ?_
  refine r_bipush hC 6 dJ26_split_178 bp_6 180 rfl ?_
  refine r_icgt hC 198 dJ26_split_180 (by decide) 183 rfl (fun h => absurd h (nI_le6 hlen)) (fun _ => ?_)
  refine r_aload_n hC 5 dJ26_split_183 rfl 184 rfl ?_
  refine r_iload_n hC 4 dJ26_split_184 rfl 185 rfl ?_
  refine r_iload hC 3 dJ26_split_185 rfl 187 rfl ?_
  refine r_iadd hC (nI (b + cap)) dJ26_split_187  (nI_add b cap) 188 rfl ?_
  refine r_aload hC 1 dJ26_split_188 rfl 190 rfl ?_
  refine r_aload_n hC 6 dJ26_split_190 rfl 191 rfl ?_
  refine xCall.ct (wcx := [(M, .inr (25, [va_rf tbo, va_rf es, .int (nI sz), .int mc, .int (nI th), .float 1061158912, .null, .null, va_rf hd, va_rf tl, .int 0, .int 0]))]) (wr := [(tb, .inl (8, cap2, .inr (.inr (.inr (.inr tf)))))]) (r_cV hC kJ26 x0 [.ref M] mVJ26_untreeify q2207 (fun _ h => ⟨_, stW_get h hx0L (ndX_t hx0k)⟩) (fun V9 h9 => (metJ26_untreeify _ _ hG L kd hs ky vl nx bf af pa lf rt pv rd M tbo es sz th mc hd tl ord (x0 :: t0) x0 hXs hXk hl hoL (by rw [← hX]; exact hXo) hXn) V9 (h9.in.cut (wcx := [(M, .inr (25, [va_rf tbo, va_rf es, .int (nI sz), .int mc, .int (nI th), .float 1061158912, .null, .null, va_rf hd, va_rf tl, .int 0, .int 0]))]) (wr := [(tb, .inl (8, cap2, .inr (.inr (.inr (.inr tf)))))]) [0] [1] 2 rfl rfl rfl rfl)) ⟨rfl, rfl⟩ (by first | omega | (dsimp only; omega)) (by first | omega | (dsimp only; omega)) rfl (Nat.le_of_ble_eq_true rfl) dJ26_split_191) [0] [1] 2 rfl rfl rfl rfl (k + (x0 :: t0).length) (n + (6 * (x0 :: t0).length)) 194 rfl rfl rfl (fun v1 w2 h3 => ?_) (fun _ _ h => h.elim)
  obtain ⟨L', ord', Ns, kd', hs', ky', vl', nx', bf', af', pa', lf', rt', pv', rd', hd', tl', rfl, hR', hB', hK', rfl⟩ := h3
  refine rn.mono (J := xSt F V0 ([(tb, .inl (8, cap2, .inr (.inr (.inr (.inr tf))))), (M, .inr (25, [va_rf tbo, va_rf es, .int (nI sz), .int mc, .int (nI th), .float 1061158912, .null, .null, va_rf hd', va_rf tl', .int 0, .int 0]))] ++ stW L' (ndX kd' hs' ky' vl' nx' bf' af' pa' lf' rt' pv' rd'))) (fun _ h => by rw [← List.append_assoc] at h; exact h) ?_
  show rn C (xSt F V0 ([(tb, .inl (8, cap2, .inr (.inr (.inr (.inr tf))))), (M, .inr (25, [va_rf tbo, va_rf es, .int (nI sz), .int mc, .int (nI th), .float 1061158912, .null, .null, va_rf hd', va_rf tl', .int 0, .int 0]))] ++ stW L' (ndX kd' hs' ky' vl' nx' bf' af' pa' lf' rt' pv' rd'))) (k + (x0 :: t0).length) (n + (6 * (x0 :: t0).length)) 194 [(11, .int (nI Hi.length)), (8, .ref x0), (6, vo), (4, .int (nI cap)), (3, .int (nI b)), (2, .ref tb), (1, .ref M)] [(va_rf Ns.head?), .int (nI (b + cap)), .ref tb]
  obtain ⟨n0, hn0⟩ : ∃ n0, Ns.head? = some n0 := by
    cases hN9 : Ns with
    | nil => have h9 := hR'.2.2.2.2.2.2.2.2; rw [hN9] at h9; cases h9
    | cons c t => exact ⟨c, rfl⟩
  have hn0m : n0 ∈ Ns := by cases hN9 : Ns with
    | nil => rw [hN9] at hn0; cases hn0
    | cons c t => rw [hN9] at hn0; rw [← Option.some.inj hn0]; exact List.mem_cons_self
  have hn0L : n0 ∈ L' := hR'.2.2.2.2.1 n0 ((hR'.2.2.1 n0).mpr (Or.inr hn0m))
  refine r_eqo (y := .ref n0) (by rw [hn0]; rfl) ?_
  refine r_aastO (J := xSt F V0 ([(tb, .inl (8, cap2, .inr (.inr (.inr (.inr (va_up tf (b + cap) (some n0))))))), (M, .inr (25, [va_rf tbo, va_rf es, .int (nI sz), .int mc, .int (nI th), .float 1061158912, .null, .null, va_rf hd', va_rf tl', .int 0, .int 0]))] ++ stW L' (ndX kd' hs' ky' vl' nx' bf' af' pa' lf' rt' pv' rd'))) hC hG kJ25 q3422 (b + cap) (xix_n (b + cap) hbx (by omega)) rfl (fun _ h => ⟨_, stW_get h hn0L (ndX_p (hK' n0 hn0m))⟩) (fun _ h => h.get 0 rfl) dJ26_split_194 (fun _ h => h.set 0 _ rfl) 195 rfl ?_
  refine r_goto hC 217 dJ26_split_195 (by decide) ?_
  refine rn.sub (lv' := []) [] rfl ?_
  refine rn.mono (J := xSt F V0 ([(M, .inr (25, [va_rf tbo, va_rf es, .int (nI sz), .int mc, .int (nI th), .float 1061158912, .null, .null, va_rf hd', va_rf tl', .int 0, .int 0])), (tb, .inl (8, cap2, .inr (.inr (.inr (.inr (va_up tf (b + cap) (some n0)))))))] ++ stW L' (ndX kd' hs' ky' vl' nx' bf' af' pa' lf' rt' pv' rd'))) (fun _ h => h.ordT [1, 0] 2 rfl rfl rfl) ?_
  have key := kx L' ord' Ns kd' hs' ky' vl' nx' bf' af' pa' lf' rt' pv' rd' hd' tl' (k + (x0 :: t0).length) (n + (6 * (x0 :: t0).length)) (by rw [hX]; exact hR') hB' (by omega) (by omega)
  rw [hn0] at key
  exact key
set_option maxHeartbeats 4000000 in
set_option maxRecDepth 100000 in
theorem lpJ26_sphiB {C : xC} {F : Nat → Prop} {V0 : xV} (c9 s9 : Nat) (hG : xGood (xGG C)) (hC : xCtx C RJ26 cJ26_split 14 none { frames := 5, locals := 117, cells := c9, slots := s9 }) (L : List Nat) (kd : Nat → Bool) (hs : Nat → Int32) (ky vl : Nat → Nat) (nx bf af pa lf rt pv : Nat → Option Nat) (rd : Nat → Int32) (M : Nat) (tbo es : Option Nat) (sz th : Nat) (mc : Int32) (hd tl : Option Nat) (tb cap2 : Nat) (tf : Nat → Option Nat) (cap b : Nat) (ord Lo Hi : List Nat) (hl : lnk bf af hd tl ord) (hoL : ∀ a, a ∈ ord → a ∈ L) (k n : Nat) (hk9 : k + Hi.length ≤ c9) (hn9 : n + 6 * Hi.length ≤ s9) (hc2 : cap2 ≤ 1024) (hbx : (b + cap) < cap2) (x0 : Nat) (t0 : List Nat) (hX : Hi = x0 :: t0) (hXs : seg nx (some x0) (x0 :: t0) none) (hXk : ∀ a, a ∈ x0 :: t0 → kd a = true) (hXo : ∀ a, a ∈ Hi → a ∈ ord) (hXn : (x0 :: t0).Nodup) (hlen : 6 < (x0 :: t0).length) (hX31 : Hi.length < 2147483648) (hXb : bck pv none (x0 :: t0)) (hXT : tI (fun a => (hs a).toInt) (fun a => a ∈ Hi) pa lf rt x0) (k9 n9 : Nat) (hkk : k = k9) (hnn : n = n9) (kx : ∀ (L1 ord1 Ns : List Nat) (kd1 : Nat → Bool) (hs1 : Nat → Int32) (ky1 vl1 : Nat → Nat) (nx1 bf1 af1 pa1 lf1 rt1 pv1 : Nat → Option Nat) (rd1 : Nat → Int32) (hd1 tl1 : Option Nat) (k n : Nat), brI L ord kd hs ky vl nx pa lf rt pv Hi L1 ord1 kd1 hs1 ky1 vl1 nx1 bf1 af1 pa1 lf1 rt1 pv1 hd1 tl1 Ns → binI kd1 hs1 nx1 pa1 lf1 rt1 pv1 Ns.head? Ns → k ≤ k9 + Hi.length → n ≤ n9 + 6 * Hi.length → rn C (xSt F V0 ([(M, .inr (25, [va_rf tbo, va_rf es, .int (nI sz), .int mc, .int (nI th), .float 1061158912, .null, .null, va_rf hd1, va_rf tl1, .int 0, .int 0])), (tb, .inl (8, cap2, .inr (.inr (.inr (.inr (va_up tf (b + cap) Ns.head?))))))] ++ stW L1 (ndX kd1 hs1 ky1 vl1 nx1 bf1 af1 pa1 lf1 rt1 pv1 rd1))) k n 217 [] []) : rn C (xSt F V0 ([(M, .inr (25, [va_rf tbo, va_rf es, .int (nI sz), .int mc, .int (nI th), .float 1061158912, .null, .null, va_rf hd, va_rf tl, .int 0, .int 0])), (tb, .inl (8, cap2, .inr (.inr (.inr (.inr tf)))))] ++ stW L (ndX kd hs ky vl nx bf af pa lf rt pv rd))) k n 171 [(11, .int (nI Hi.length)), (8, .ref x0), (6, .null), (4, .int (nI cap)), (3, .int (nI b)), (2, .ref tb), (1, .ref M)] [] := by
  have hx0X : x0 ∈ Hi := by rw [hX]; exact List.mem_cons_self
  have hx0L : x0 ∈ L := hoL x0 (hXo x0 hx0X)
  have hx0k : kd x0 = true := hXk x0 List.mem_cons_self
  have hXk9 : ∀ a, a ∈ Hi → kd a = true := fun a ha => hXk a (by rw [← hX]; exact ha)
  have hXL : Hi.length = (x0 :: t0).length := by rw [hX]
  refine r_aload hC 1 dJ26_split_171 rfl 173 rfl ?_
  refine r_ifnull hC dJ26_split_173 176 rfl ?_
  refine r_iload hC 0 dJ26_split_176 rfl 178 rfl ?_
  refine r_bipush hC 6 dJ26_split_178 bp_6 180 rfl ?_
  refine r_icgt hC 198 dJ26_split_180 (by decide) 183 rfl (fun _ => ?_) (fun h => absurd (nI_lt6 (by omega) (by omega)) h)
  refine r_aload_n hC 5 dJ26_split_198 rfl 199 rfl ?_
  refine r_iload_n hC 4 dJ26_split_199 rfl 200 rfl ?_
  refine r_iload hC 3 dJ26_split_200 rfl 202 rfl ?_
  refine r_iadd hC (nI (b + cap)) dJ26_split_202  (nI_add b cap) 203 rfl ?_
  refine r_aload hC 1 dJ26_split_203 rfl 205 rfl ?_
  refine r_aastO (J := xSt F V0 ([(M, .inr (25, [va_rf tbo, va_rf es, .int (nI sz), .int mc, .int (nI th), .float 1061158912, .null, .null, va_rf hd, va_rf tl, .int 0, .int 0])), (tb, .inl (8, cap2, .inr (.inr (.inr (.inr (va_up tf (b + cap) (some x0)))))))] ++ stW L (ndX kd hs ky vl nx bf af pa lf rt pv rd))) hC hG kJ26 q3423 (b + cap) (xix_n (b + cap) hbx (by omega)) rfl (fun _ h => ⟨_, stW_get h hx0L (ndX_t hx0k)⟩) (fun _ h => h.get 1 rfl) dJ26_split_205 (fun _ h => h.set 1 _ rfl) 206 rfl ?_
  refine r_aloadN hC 2 dJ26_split_206 rfl 208 rfl ?_
  refine r_ifnullN hC 217 dJ26_split_208 (by decide) ?_
  refine rn.sub (lv' := []) [] rfl ?_
  have key := kx L ord Hi kd hs ky vl nx bf af pa lf rt pv rd hd tl k n (brI.same hl hoL hXo) ⟨by rw [hX]; exact hXs, by rw [hX]; exact hXn, Or.inr ⟨fun a ha => (hXk a (by rw [← hX]; exact ha)), by rw [hX]; exact hlen, by rw [hX]; exact hXb, x0, t0, hX, hXT⟩⟩ (by omega) (by omega)
  rw [show (Hi : List Nat).head? = some x0 by rw [hX]; rfl] at key
  exact key
set_option maxHeartbeats 4000000 in
set_option maxRecDepth 100000 in
theorem lpJ26_sphiT {C : xC} {F : Nat → Prop} {V0 : xV} (c9 s9 : Nat) (hG : xGood (xGG C)) (hC : xCtx C RJ26 cJ26_split 14 none { frames := 5, locals := 117, cells := c9, slots := s9 }) (L : List Nat) (kd : Nat → Bool) (hs : Nat → Int32) (ky vl : Nat → Nat) (nx bf af pa lf rt pv : Nat → Option Nat) (rd : Nat → Int32) (M : Nat) (tbo es : Option Nat) (sz th : Nat) (mc : Int32) (hd tl : Option Nat) (tb cap2 : Nat) (tf : Nat → Option Nat) (cap b : Nat) (ord Lo Hi : List Nat) (hl : lnk bf af hd tl ord) (hoL : ∀ a, a ∈ ord → a ∈ L) (k n : Nat) (hk9 : k + Hi.length ≤ c9) (hn9 : n + 6 * Hi.length ≤ s9) (hc2 : cap2 ≤ 1024) (hbx : (b + cap) < cap2) (x0 : Nat) (t0 : List Nat) (hX : Hi = x0 :: t0) (hXs : seg nx (some x0) (x0 :: t0) none) (hXk : ∀ a, a ∈ x0 :: t0 → kd a = true) (hXo : ∀ a, a ∈ Hi → a ∈ ord) (hXn : (x0 :: t0).Nodup) (hlen : 6 < (x0 :: t0).length) (hX31 : Hi.length < 2147483648) (y0 : Nat) (hXb : bck pv none (x0 :: t0)) (hXi : ∀ a a9, a ∈ x0 :: t0 → a9 ∈ x0 :: t0 → hs a = hs a9 → a = a9) (hXx : ∀ a, a ∈ x0 :: t0 → (nI (cap2 - 1) &&& hs a) = nI (b + cap)) (k9 n9 : Nat) (hkk : k = k9) (hnn : n = n9) (kx : ∀ (L1 ord1 Ns : List Nat) (kd1 : Nat → Bool) (hs1 : Nat → Int32) (ky1 vl1 : Nat → Nat) (nx1 bf1 af1 pa1 lf1 rt1 pv1 : Nat → Option Nat) (rd1 : Nat → Int32) (hd1 tl1 : Option Nat) (k n : Nat), brI L ord kd hs ky vl nx pa lf rt pv Hi L1 ord1 kd1 hs1 ky1 vl1 nx1 bf1 af1 pa1 lf1 rt1 pv1 hd1 tl1 Ns → binI kd1 hs1 nx1 pa1 lf1 rt1 pv1 Ns.head? Ns → k ≤ k9 + Hi.length → n ≤ n9 + 6 * Hi.length → rn C (xSt F V0 ([(M, .inr (25, [va_rf tbo, va_rf es, .int (nI sz), .int mc, .int (nI th), .float 1061158912, .null, .null, va_rf hd1, va_rf tl1, .int 0, .int 0])), (tb, .inl (8, cap2, .inr (.inr (.inr (.inr (va_up tf (b + cap) Ns.head?))))))] ++ stW L1 (ndX kd1 hs1 ky1 vl1 nx1 bf1 af1 pa1 lf1 rt1 pv1 rd1))) k n 217 [] []) : rn C (xSt F V0 ([(M, .inr (25, [va_rf tbo, va_rf es, .int (nI sz), .int mc, .int (nI th), .float 1061158912, .null, .null, va_rf hd, va_rf tl, .int 0, .int 0])), (tb, .inl (8, cap2, .inr (.inr (.inr (.inr tf)))))] ++ stW L (ndX kd hs ky vl nx bf af pa lf rt pv rd))) k n 171 [(11, .int (nI Hi.length)), (8, .ref x0), (6, .ref y0), (4, .int (nI cap)), (3, .int (nI b)), (2, .ref tb), (1, .ref M)] [] := by
  have hx0X : x0 ∈ Hi := by rw [hX]; exact List.mem_cons_self
  have hx0L : x0 ∈ L := hoL x0 (hXo x0 hx0X)
  have hx0k : kd x0 = true := hXk x0 List.mem_cons_self
  have hXk9 : ∀ a, a ∈ Hi → kd a = true := fun a ha => hXk a (by rw [← hX]; exact ha)
  have hXL : Hi.length = (x0 :: t0).length := by rw [hX]
  have hc64 : 1 ≤ cap2 := by omega
  refine r_aload hC 1 dJ26_split_171 rfl 173 rfl ?_
  refine r_ifnull hC dJ26_split_173 176 rfl ?_
  refine r_iload hC 0 dJ26_split_176 rfl 178 rfl ?_
  refine r_bipush hC 6 dJ26_split_178 bp_6 180 rfl ?_
  refine r_icgt hC 198 dJ26_split_180 (by decide) 183 rfl (fun _ => ?_) (fun h => absurd (nI_lt6 (by omega) (by omega)) h)
  refine r_aload_n hC 5 dJ26_split_198 rfl 199 rfl ?_
  refine r_iload_n hC 4 dJ26_split_199 rfl 200 rfl ?_
  refine r_iload hC 3 dJ26_split_200 rfl 202 rfl ?_
  refine r_iadd hC (nI (b + cap)) dJ26_split_202  (nI_add b cap) 203 rfl ?_
  refine r_aload hC 1 dJ26_split_203 rfl 205 rfl ?_
  refine r_aastO (J := xSt F V0 ([(M, .inr (25, [va_rf tbo, va_rf es, .int (nI sz), .int mc, .int (nI th), .float 1061158912, .null, .null, va_rf hd, va_rf tl, .int 0, .int 0])), (tb, .inl (8, cap2, .inr (.inr (.inr (.inr (va_up tf (b + cap) (some x0)))))))] ++ stW L (ndX kd hs ky vl nx bf af pa lf rt pv rd))) hC hG kJ26 q3423 (b + cap) (xix_n (b + cap) hbx (by omega)) rfl (fun _ h => ⟨_, stW_get h hx0L (ndX_t hx0k)⟩) (fun _ h => h.get 1 rfl) dJ26_split_205 (fun _ h => h.set 1 _ rfl) 206 rfl ?_
  refine r_aload hC 2 dJ26_split_206 rfl 208 rfl ?_
  refine r_ifnull hC dJ26_split_208 211 rfl ?_
  refine r_aload hC 1 dJ26_split_211 rfl 213 rfl ?_
  refine r_aload_n hC 5 dJ26_split_213 rfl 214 rfl ?_
  refine xCall.ct (wcx := [(tb, .inl (8, cap2, .inr (.inr (.inr (.inr (va_up tf (b + cap) (some x0)))))))]) (wr := [(M, .inr (25, [va_rf tbo, va_rf es, .int (nI sz), .int mc, .int (nI th), .float 1061158912, .null, .null, va_rf hd, va_rf tl, .int 0, .int 0]))]) (r_cV hC kJ26 x0 [.ref tb] mVJ26_treeify q2270 (fun _ h => ⟨_, stW_get h hx0L (ndX_t hx0k)⟩) (fun V9 h9 => (metJ26_treeify _ _ hG L kd hs ky vl nx bf af pa lf rt pv rd tb cap2 (b + cap) (va_up tf (b + cap) (some x0)) (by omega) (by omega) hbx x0 (x0 :: t0) (fun a ha => ⟨hoL a (hXo a (by rw [hX]; exact ha)), hXk a ha⟩) hXn hXi (List.cons_ne_nil _ _) (up_same _ _ _) hXs hXb hXx) V9 (h9.in.cut (wcx := [(tb, .inl (8, cap2, .inr (.inr (.inr (.inr (va_up tf (b + cap) (some x0)))))))]) (wr := [(M, .inr (25, [va_rf tbo, va_rf es, .int (nI sz), .int mc, .int (nI th), .float 1061158912, .null, .null, va_rf hd, va_rf tl, .int 0, .int 0]))]) [1] [0] 2 rfl rfl rfl rfl)) ⟨rfl, rfl⟩ (by first | omega | (dsimp only; omega)) (by first | omega | (dsimp only; omega)) rfl (Nat.le_of_ble_eq_true rfl) dJ26_split_214) [1] [0] 2 rfl rfl rfl rfl k n 217 rfl rfl rfl (fun v16 w17 h18 => ?_) (fun _ _ h => h.elim)
  obtain ⟨nx1, pv2, pa3, lf4, rt5, rd6, ro7, la8, lb9, rfl, hN10, hT11, hS12, hB13, hu14, ho15, rfl⟩ := h18
  refine rn.mono (J := xSt F V0 ([(M, .inr (25, [va_rf tbo, va_rf es, .int (nI sz), .int mc, .int (nI th), .float 1061158912, .null, .null, va_rf hd, va_rf tl, .int 0, .int 0])), (tb, .inl (8, cap2, .inr (.inr (.inr (.inr (va_up (va_up tf (b + cap) (some x0)) (b + cap) (some ro7)))))))] ++ stW L (ndX kd hs ky vl nx1 bf af pa3 lf4 rt5 pv2 rd6))) (fun _ h => by rw [← List.append_assoc] at h; exact h) ?_
  show rn C (xSt F V0 ([(M, .inr (25, [va_rf tbo, va_rf es, .int (nI sz), .int mc, .int (nI th), .float 1061158912, .null, .null, va_rf hd, va_rf tl, .int 0, .int 0])), (tb, .inl (8, cap2, .inr (.inr (.inr (.inr (va_up (va_up tf (b + cap) (some x0)) (b + cap) (some ro7)))))))] ++ stW L (ndX kd hs ky vl nx1 bf af pa3 lf4 rt5 pv2 rd6))) k n 217 [(11, .int (nI Hi.length)), (8, .ref x0), (6, .ref y0), (4, .int (nI cap)), (3, .int (nI b)), (2, .ref tb), (1, .ref M)] []
  refine rn.sub (lv' := []) [] rfl ?_
  have hbt := br_tfy (ky := ky) (vl := vl) hl hoL hXo hXk9 (by rw [hX]; exact hlen) (by rw [hX]; exact hXn) (by rw [hX]; exact hN10) (by rw [hX]; exact hT11) hS12 hB13 (by rw [hX]; exact hu14) (by rw [hX]; exact ho15)
  have key := kx L ord (ro7 :: (la8 ++ lb9)) kd hs ky vl nx1 bf af pa3 lf4 rt5 pv2 rd6 hd tl k n hbt.1 hbt.2 (by omega) (by omega)
  rw [show va_up tf (b + cap) (ro7 :: (la8 ++ lb9)).head? = va_up (va_up tf (b + cap) (some x0)) (b + cap) (some ro7) from up_up.symm] at key
  exact key
theorem fl_len {p : Nat → Bool} : ∀ {l : List Nat}, (l.filter p).length + (l.filter (fun a => !p a)).length = l.length := by
  intro l
  induction l with
  | nil => rfl
  | cons a l ih =>
    rw [List.filter_cons, List.filter_cons]
    cases p a <;> simp <;> omega
theorem fl_all {p : Nat → Bool} : ∀ {l : List Nat}, l.length = (l.filter p).length → l.filter p = l := by
  intro l
  induction l with
  | nil => intro _; rfl
  | cons a l ih =>
    intro h
    rw [List.filter_cons] at h ⊢
    cases hp : p a with
    | true =>
      rw [hp] at h
      simp at h
      simp [ih h]
    | false =>
      rw [hp] at h
      simp at h
      have := List.length_filter_le p l
      omega
theorem tI_hs {hs hs' : Nat → Int32} {T : Nat → Prop} {pa lf rt : Nat → Option Nat} {root : Nat} (h : tI (fun a => (hs a).toInt) T pa lf rt root) (e : ∀ a, T a → hs' a = hs a) : tI (fun a => (hs' a).toInt) T pa lf rt root := by
  obtain ⟨lo, hi, h⟩ := h
  exact ⟨lo, hi, tIv_hs h e⟩
set_option maxHeartbeats 4000000 in
set_option maxRecDepth 100000 in
theorem metJ26_split (l : Launch) (G : xG) (hG : xGood G) (L : List Nat) (kd : Nat → Bool) (hs : Nat → Int32) (ky vl : Nat → Nat) (nx bf af pa lf rt pv : Nat → Option Nat) (rd : Nat → Int32) (M : Nat) (tbo es : Option Nat) (sz th : Nat) (mc : Int32) (hd tl : Option Nat) (tb cap2 : Nat) (tf : Nat → Option Nat) (cap b : Nat) (hc2 : capI cap2) (hcap : cap2 = 2 * cap) (hb : b < cap) (ord Lb : List Nat) (x0 : Nat) (hseg : seg nx (some x0) Lb none) (hnd : Lb.Nodup) (hk : ∀ a, a ∈ Lb → kd a = true) (hlen : 6 < Lb.length) (hlen3 : Lb.length < 2147483648) (hbck : bck pv none Lb) (hT : tI (fun a => (hs a).toInt) (fun a => a ∈ Lb) pa lf rt x0) (hl : lnk bf af hd tl ord) (hoL : ∀ a, a ∈ ord → a ∈ L) (hLo : ∀ a, a ∈ Lb → a ∈ ord) (hinj : ∀ a a9, a ∈ ord → a9 ∈ ord → hs a = hs a9 → a = a9) (hf1 : tf b = none) (hf2 : tf (b + cap) = none) (hix : ∀ a, a ∈ Lb → ixN (hs a) cap2 = if lob hs cap a = true then b else b + cap) : xWm l G yJ26_split (Cond.code yJ26_split cJ26_split 14 none) { frames := 5, locals := 117, cells := Lb.length, slots := 6 * Lb.length } [.ref x0, .ref M, .ref tb, .int (nI b), .int (nI cap)] ([(M, .inr (25, [va_rf tbo, va_rf es, .int (nI sz), .int mc, .int (nI th), .float 1061158912, .null, .null, va_rf hd, va_rf tl, .int 0, .int 0])), (tb, .inl (8, cap2, .inr (.inr (.inr (.inr tf)))))] ++ stW L (ndX kd hs ky vl nx bf af pa lf rt pv rd)) (fun v w' => ∃ (L2 ord2 N2 : List Nat) (kd2 : Nat → Bool) (hs2 : Nat → Int32) (ky2 vl2 : Nat → Nat) (nx2 bf2 af2 pa2 lf2 rt2 pv2 : Nat → Option Nat) (rd2 : Nat → Int32) (hd2 tl2 : Option Nat) (N1 : List Nat), v = none ∧ brI L ord kd hs ky vl nx pa lf rt pv Lb L2 ord2 kd2 hs2 ky2 vl2 nx2 bf2 af2 pa2 lf2 rt2 pv2 hd2 tl2 (N1 ++ N2) ∧ binI kd2 hs2 nx2 pa2 lf2 rt2 pv2 N1.head? N1 ∧ binI kd2 hs2 nx2 pa2 lf2 rt2 pv2 N2.head? N2 ∧ (∀ a, a ∈ N1 → ixN (hs2 a) cap2 = b) ∧ (∀ a, a ∈ N2 → ixN (hs2 a) cap2 = b + cap) ∧ w' = ([(M, .inr (25, [va_rf tbo, va_rf es, .int (nI sz), .int mc, .int (nI th), .float 1061158912, .null, .null, va_rf hd2, va_rf tl2, .int 0, .int 0])), (tb, .inl (8, cap2, .inr (.inr (.inr (.inr (va_up (va_up tf b N1.head?) (b + cap) N2.head?))))))] ++ stW L2 (ndX kd2 hs2 ky2 vl2 nx2 bf2 af2 pa2 lf2 rt2 pv2 rd2))) (fun _ _ => False) := by
  intro V hV
  refine xMet_ofT RJ26 hG rfl (by decide) (Nat.le_of_ble_eq_true rfl) fun C hC hQ hX hl hg _ hTab => ?_
  subst hl hg
  obtain ⟨V0, hV0⟩ : ∃ V0, V0 = V := ⟨_, rfl⟩
  obtain ⟨F, hF⟩ : ∃ F, F = xF ([(M, .inr (25, [va_rf tbo, va_rf es, .int (nI sz), .int mc, .int (nI th), .float 1061158912, .null, .null, va_rf hd, va_rf tl, .int 0, .int 0])), (tb, .inl (8, cap2, .inr (.inr (.inr (.inr tf)))))] ++ stW L (ndX kd hs ky vl nx bf af pa lf rt pv rd)) := ⟨_, rfl⟩
  refine rn.mono (J := xSt F V0 ([(M, .inr (25, [va_rf tbo, va_rf es, .int (nI sz), .int mc, .int (nI th), .float 1061158912, .null, .null, va_rf hd, va_rf tl, .int 0, .int 0])), (tb, .inl (8, cap2, .inr (.inr (.inr (.inr tf)))))] ++ stW L (ndX kd hs ky vl nx bf af pa lf rt pv rd))) (fun V9 h => by rw [h, hV0, hF]; exact hV.st) ?_
  show rn C (xSt F V0 ([(M, .inr (25, [va_rf tbo, va_rf es, .int (nI sz), .int mc, .int (nI th), .float 1061158912, .null, .null, va_rf hd, va_rf tl, .int 0, .int 0])), (tb, .inl (8, cap2, .inr (.inr (.inr (.inr tf)))))] ++ stW L (ndX kd hs ky vl nx bf af pa lf rt pv rd))) 0 0 0 [(0, .ref x0), (1, .ref M), (2, .ref tb), (3, .int (nI b)), (4, .int (nI cap))] []
  refine r_aload_n hC 0 dJ26_split_0 rfl 1 rfl ?_
  refine r_astore hC 5 [(5, .ref x0), (0, .ref x0), (1, .ref M), (2, .ref tb), (3, .int (nI b)), (4, .int (nI cap))] dJ26_split_1 (Nat.le_of_ble_eq_true rfl) rfl 3 rfl ?_
  refine r_null hC dJ26_split_3 4 rfl ?_
  refine r_astoreN hC 6 [(6, .null), (5, .ref x0), (0, .ref x0), (1, .ref M), (2, .ref tb), (3, .int (nI b)), (4, .int (nI cap))] dJ26_split_4 (Nat.le_of_ble_eq_true rfl) rfl 6 rfl ?_
  refine r_null hC dJ26_split_6 7 rfl ?_
  refine r_astoreN hC 7 [(7, .null), (6, .null), (5, .ref x0), (0, .ref x0), (1, .ref M), (2, .ref tb), (3, .int (nI b)), (4, .int (nI cap))] dJ26_split_7 (Nat.le_of_ble_eq_true rfl) rfl 9 rfl ?_
  refine r_null hC dJ26_split_9 10 rfl ?_
  refine r_astoreN hC 8 [(8, .null), (7, .null), (6, .null), (5, .ref x0), (0, .ref x0), (1, .ref M), (2, .ref tb), (3, .int (nI b)), (4, .int (nI cap))] dJ26_split_10 (Nat.le_of_ble_eq_true rfl) rfl 12 rfl ?_
  refine r_null hC dJ26_split_12 13 rfl ?_
  refine r_astoreN hC 9 [(9, .null), (8, .null), (7, .null), (6, .null), (5, .ref x0), (0, .ref x0), (1, .ref M), (2, .ref tb), (3, .int (nI b)), (4, .int (nI cap))] dJ26_split_13 (Nat.le_of_ble_eq_true rfl) rfl 15 rfl ?_
  refine r_iconst hC 0 dJ26_split_15 ic_0 16 rfl ?_
  refine r_istore hC 10 [(10, .int 0), (9, .null), (8, .null), (7, .null), (6, .null), (5, .ref x0), (0, .ref x0), (1, .ref M), (2, .ref tb), (3, .int (nI b)), (4, .int (nI cap))] dJ26_split_16 (Nat.le_of_ble_eq_true rfl) rfl 18 rfl ?_
  refine r_iconst hC 0 dJ26_split_18 ic_0 19 rfl ?_
  refine r_istore hC 11 [(11, .int 0), (10, .int 0), (9, .null), (8, .null), (7, .null), (6, .null), (5, .ref x0), (0, .ref x0), (1, .ref M), (2, .ref tb), (3, .int (nI b)), (4, .int (nI cap))] dJ26_split_19 (Nat.le_of_ble_eq_true rfl) rfl 21 rfl ?_
  refine r_aload hC 6 dJ26_split_21 rfl 23 rfl ?_
  refine r_astore hC 12 [(12, .ref x0), (11, .int 0), (10, .int 0), (9, .null), (8, .null), (7, .null), (6, .null), (5, .ref x0), (0, .ref x0), (1, .ref M), (2, .ref tb), (3, .int (nI b)), (4, .int (nI cap))] dJ26_split_23 (Nat.le_of_ble_eq_true rfl) rfl 25 rfl ?_
  refine rn.sub (lv' := [(12, .ref x0), (11, .int 0), (10, .int 0), (9, .null), (8, .null), (7, .null), (6, .null), (4, .int (nI cap)), (3, .int (nI b)), (2, .ref tb), (1, .ref M)]) [0, 1, 2, 3, 4, 5, 6, 12, 11, 10, 9] rfl ?_
  refine lpJ26_spl Lb.length (6 * Lb.length) hG hC 0 0 L kd hs ky vl bf af pa lf rt rd M tbo es sz th mc hd tl tb cap2 tf cap b nx pv Lb (fun a ha => ⟨hoL a (hLo a ha), hk a ha⟩) ?_ Lb [] [] [] nx pv (some x0) hseg (spI.start hnd)
  intro Lo Hi nxs pvs hS
  obtain ⟨hS1, hS2, hS3, hS4, hS5, hS6, hS7, hS8, hS9⟩ := hS
  have hLom : ∀ a, a ∈ Lo → a ∈ Lb ∧ lob hs cap a = true := fun a ha => by rw [hS2] at ha; exact List.mem_filter.mp ha
  have hHim : ∀ a, a ∈ Hi → a ∈ Lb ∧ lob hs cap a = false := fun a ha => by
    rw [hS3] at ha
    have h9 := List.mem_filter.mp ha
    exact ⟨h9.1, by have h8 := h9.2; cases hq : lob hs cap a with
      | true => rw [hq] at h8; cases h8
      | false => rfl⟩
  have hdis : ∀ a, a ∈ Lo → a ∉ Hi := fun a ha h => by have h1 := (hLom a ha).2; rw [(hHim a h).2] at h1; cases h1
  have hall : ∀ a, a ∈ Lb → a ∈ Lo ∨ a ∈ Hi := fun a ha => by
    cases hq : lob hs cap a with
    | true => left; rw [hS2]; exact List.mem_filter.mpr ⟨ha, hq⟩
    | false => right; rw [hS3]; exact List.mem_filter.mpr ⟨ha, by rw [hq]; rfl⟩
  have hlens : Lo.length + Hi.length = Lb.length := by rw [hS2, hS3]; exact fl_len
  have hcle := hc2.le
  have hob : ∀ a, a ∉ Lb → nxs a = nx a ∧ pvs a = pv a := hS8
  have ixLo : ∀ a, a ∈ Lo → ixN (hs a) cap2 = b := fun a ha => by rw [hix a (hLom a ha).1, if_pos (hLom a ha).2]
  have ixHi : ∀ a, a ∈ Hi → ixN (hs a) cap2 = b + cap := fun a ha => by rw [hix a (hHim a ha).1, if_neg (by rw [(hHim a ha).2]; decide)]
  have anLo : ∀ a, a ∈ Lo → (nI (cap2 - 1) &&& hs a) = nI b := fun a ha => by rw [ix_and hc2, ixLo a ha]
  have anHi : ∀ a, a ∈ Hi → (nI (cap2 - 1) &&& hs a) = nI (b + cap) := fun a ha => by rw [ix_and hc2, ixHi a ha]
  have whole : ∀ {X Y : List Nat} {p : Nat → Bool}, X = Lb.filter p → Lb.length = X.length → X = Lb := fun e1 e2 => by rw [e1] at e2 ⊢; exact fl_all e2
  -- the end
  have hfin : ∀ (L1 ord1 N1 : List Nat) (kd1 : Nat → Bool) (hs1 : Nat → Int32) (ky1 vl1 : Nat → Nat) (nx1 bf1 af1 pa1 lf1 rt1 pv1 : Nat → Option Nat) (rd1 : Nat → Int32) (hd1 tl1 : Option Nat) (L2 ord2 N2 : List Nat) (kd2 : Nat → Bool) (hs2 : Nat → Int32) (ky2 vl2 : Nat → Nat) (nx2 bf2 af2 pa2 lf2 rt2 pv2 : Nat → Option Nat) (rd2 : Nat → Int32) (hd2 tl2 : Option Nat) (k n : Nat), brI L ord kd hs ky vl nxs pa lf rt pvs Lo L1 ord1 kd1 hs1 ky1 vl1 nx1 bf1 af1 pa1 lf1 rt1 pv1 hd1 tl1 N1 → binI kd1 hs1 nx1 pa1 lf1 rt1 pv1 N1.head? N1 → brI L1 ord1 kd1 hs1 ky1 vl1 nx1 pa1 lf1 rt1 pv1 Hi L2 ord2 kd2 hs2 ky2 vl2 nx2 bf2 af2 pa2 lf2 rt2 pv2 hd2 tl2 N2 → binI kd2 hs2 nx2 pa2 lf2 rt2 pv2 N2.head? N2 → k ≤ Lb.length → n ≤ 6 * Lb.length → rn C (xSt F V0 ([(M, .inr (25, [va_rf tbo, va_rf es, .int (nI sz), .int mc, .int (nI th), .float 1061158912, .null, .null, va_rf hd2, va_rf tl2, .int 0, .int 0])), (tb, .inl (8, cap2, .inr (.inr (.inr (.inr (va_up (va_up tf b N1.head?) (b + cap) N2.head?))))))] ++ stW L2 (ndX kd2 hs2 ky2 vl2 nx2 bf2 af2 pa2 lf2 rt2 pv2 rd2))) k n 217 [] [] := by
    intro L1 ord1 N1 kd1 hs1 ky1 vl1 nx1 bf1 af1 pa1 lf1 rt1 pv1 rd1 hd1 tl1 L2 ord2 N2 kd2 hs2 ky2 vl2 nx2 bf2 af2 pa2 lf2 rt2 pv2 rd2 hd2 tl2 k n hR1 hB1 hR2 hB2 hk9 hn9
    have hHiL : ∀ a, a ∈ Hi → a ∈ L := fun a ha => hoL a (hLo a (hHim a ha).1)
    have hR := (hR1.trans hR2 (fun a ha => (hLom a ha).1) (fun a ha => (hHim a ha).1) hall hdis (fun a ha => hoL a (hLo a ha)) hlens hoL).pre hob
    have hB1' := hR1.bin1 hR2 hHiL hdis hB1
    have hx1 : ∀ a, a ∈ N1 → ixN (hs2 a) cap2 = b := fun a ha => by
      obtain ⟨c, hc, e⟩ := hR1.2.2.2.2.2.2.2.1 a ha
      have hao : a ∈ ord1 := (hR1.2.2.1 a).mpr (Or.inr ha)
      have naH : a ∉ Hi := fun q => hdis a (hR1.2.2.2.1 a ha (hHiL a q)) q
      rw [(hR2.1 a (hR1.2.2.2.2.1 a hao) naH).2.1, e]
      exact ixLo c hc
    have hx2 : ∀ a, a ∈ N2 → ixN (hs2 a) cap2 = b + cap := fun a ha => by
      obtain ⟨c, hc, e⟩ := hR2.2.2.2.2.2.2.2.1 a ha
      rw [e, (hR1.1 c (hHiL c hc) (fun q => hdis c q hc)).2.1]
      exact ixHi c hc
    exact r_vret hC hk9 hn9 (fun V9 h => hQ _ _ ⟨_, ⟨L2, ord2, N2, kd2, hs2, ky2, vl2, nx2, bf2, af2, pa2, lf2, rt2, pv2, rd2, hd2, tl2, N1, rfl, hR, hB1', hB2, hx1, hx2, rfl⟩, by rw [← hV0, ← hF]; exact h⟩) dJ26_split_217
  -- the second list
  have hsec : ∀ (L1 ord1 N1 : List Nat) (kd1 : Nat → Bool) (hs1 : Nat → Int32) (ky1 vl1 : Nat → Nat) (nx1 bf1 af1 pa1 lf1 rt1 pv1 : Nat → Option Nat) (rd1 : Nat → Int32) (hd1 tl1 : Option Nat) (k n : Nat), brI L ord kd hs ky vl nxs pa lf rt pvs Lo L1 ord1 kd1 hs1 ky1 vl1 nx1 bf1 af1 pa1 lf1 rt1 pv1 hd1 tl1 N1 → binI kd1 hs1 nx1 pa1 lf1 rt1 pv1 N1.head? N1 → k ≤ 0 + Lo.length → n ≤ 0 + 6 * Lo.length → rn C (xSt F V0 ([(M, .inr (25, [va_rf tbo, va_rf es, .int (nI sz), .int mc, .int (nI th), .float 1061158912, .null, .null, va_rf hd1, va_rf tl1, .int 0, .int 0])), (tb, .inl (8, cap2, .inr (.inr (.inr (.inr (va_up tf b N1.head?))))))] ++ stW L1 (ndX kd1 hs1 ky1 vl1 nx1 bf1 af1 pa1 lf1 rt1 pv1 rd1))) k n 171 [(11, .int (nI Hi.length)), (8, (va_rf Hi.head?)), (6, (va_rf Lo.head?)), (4, .int (nI cap)), (3, .int (nI b)), (2, .ref tb), (1, .ref M)] [] := by
    intro L1 ord1 N1 kd1 hs1 ky1 vl1 nx1 bf1 af1 pa1 lf1 rt1 pv1 rd1 hd1 tl1 k n hR1 hB1 hk1 hn1
    have hHiL : ∀ a, a ∈ Hi → a ∈ L := fun a ha => hoL a (hLo a (hHim a ha).1)
    have ag : ∀ a, a ∈ Hi → kd1 a = kd a ∧ hs1 a = hs a ∧ ky1 a = ky a ∧ vl1 a = vl a ∧ nx1 a = nxs a ∧ pa1 a = pa a ∧ lf1 a = lf a ∧ rt1 a = rt a ∧ pv1 a = pvs a := fun a ha => hR1.1 a (hHiL a ha) (fun q => hdis a q ha)
    have hl1 := hR1.2.1
    have hoL1 := hR1.2.2.2.2.1
    have hHo1 : ∀ a, a ∈ Hi → a ∈ ord1 := fun a ha => (hR1.2.2.1 a).mpr (Or.inl ⟨hLo a (hHim a ha).1, fun q => hdis a q ha⟩)
    have hfb : va_up tf b N1.head? (b + cap) = none := (up_ne (by omega)).trans hf2
    have hsegH : seg nx1 Hi.head? Hi none := seg_congr (fun a ha => (ag a ha).2.2.2.2.1) hS5
    have hbckH : bck pv1 none Hi := bck_congr (fun a ha => (ag a ha).2.2.2.2.2.2.2.2) hS7
    have hndH : Hi.Nodup := by rw [hS3]; exact nd_fl hnd
    have hkH : ∀ a, a ∈ Hi → kd1 a = true := fun a ha => (ag a ha).1.trans (hk a (hHim a ha).1)
    cases hHe : Hi with
    | nil =>
      rw [← hHe]
      rw [show Hi.head? = none by rw [hHe]; rfl]
      exact lpJ26_sphiE Lb.length (6 * Lb.length) hG hC L1 kd1 hs1 ky1 vl1 nx1 bf1 af1 pa1 lf1 rt1 pv1 rd1 M tbo es sz th mc hd1 tl1 tb cap2 (va_up tf b N1.head?) cap b ord1 Lo Hi hl1 hoL1 k n (by omega) (by omega) (by omega) (by omega) _ hHe hfb k n rfl rfl (fun L2 ord2 N2 kd2 hs2 ky2 vl2 nx2 bf2 af2 pa2 lf2 rt2 pv2 rd2 hd2 tl2 k2 n2 hR2 hB2 hk2 hn2 => hfin L1 ord1 N1 kd1 hs1 ky1 vl1 nx1 bf1 af1 pa1 lf1 rt1 pv1 rd1 hd1 tl1 L2 ord2 N2 kd2 hs2 ky2 vl2 nx2 bf2 af2 pa2 lf2 rt2 pv2 rd2 hd2 tl2 k2 n2 hR1 hB1 hR2 hB2 (by omega) (by omega))
    | cons y0 u =>
      rw [hHe] at hsegH hbckH hndH hkH
      have hy0 : Hi.head? = some y0 := by rw [hHe]; rfl
      have hsegH' : seg nx1 (some y0) (y0 :: u) none := hsegH
      rw [← hHe]
      rw [hy0]
      by_cases hl6 : Hi.length ≤ 6
      · exact lpJ26_sphiS Lb.length (6 * Lb.length) hG hC L1 kd1 hs1 ky1 vl1 nx1 bf1 af1 pa1 lf1 rt1 pv1 rd1 M tbo es sz th mc hd1 tl1 tb cap2 (va_up tf b N1.head?) cap b ord1 Lo Hi hl1 hoL1 k n (by omega) (by omega) (by omega) (by omega) _ y0 u hHe hsegH' hkH hHo1 hndH hl6 k n rfl rfl (fun L2 ord2 N2 kd2 hs2 ky2 vl2 nx2 bf2 af2 pa2 lf2 rt2 pv2 rd2 hd2 tl2 k2 n2 hR2 hB2 hk2 hn2 => hfin L1 ord1 N1 kd1 hs1 ky1 vl1 nx1 bf1 af1 pa1 lf1 rt1 pv1 rd1 hd1 tl1 L2 ord2 N2 kd2 hs2 ky2 vl2 nx2 bf2 af2 pa2 lf2 rt2 pv2 rd2 hd2 tl2 k2 n2 hR1 hB1 hR2 hB2 (by omega) (by omega))
      · have hl7 : 6 < (y0 :: u).length := by rw [← hHe]; omega
        cases hLe : Lo with
        | nil =>
          rw [← hLe]
          rw [show Lo.head? = none by rw [hLe]; rfl]
          have hHL : Hi = Lb := whole (Y := []) hS3 (by rw [hLe] at hlens; simpa using hlens.symm)
          have hx09 : x0 = y0 := by rw [← hHL, hHe] at hseg; exact Option.some.inj hseg.1
          exact lpJ26_sphiB Lb.length (6 * Lb.length) hG hC L1 kd1 hs1 ky1 vl1 nx1 bf1 af1 pa1 lf1 rt1 pv1 rd1 M tbo es sz th mc hd1 tl1 tb cap2 (va_up tf b N1.head?) cap b ord1 Lo Hi hl1 hoL1 k n (by omega) (by omega) (by omega) (by omega) y0 u hHe hsegH' hkH hHo1 hndH hl7 (by omega) hbckH (by
            rw [← hx09]
            exact (tI_hs hT (fun a ha => ((ag a (by rw [hHL]; exact ha)).2.1))).congr (fun a => by rw [hHL]) (fun a ha => (ag a (by rw [hHL]; exact ha)).2.2.2.2.2.1) (fun a ha => (ag a (by rw [hHL]; exact ha)).2.2.2.2.2.2.1) (fun a ha => (ag a (by rw [hHL]; exact ha)).2.2.2.2.2.2.2.1)) k n rfl rfl (fun L2 ord2 N2 kd2 hs2 ky2 vl2 nx2 bf2 af2 pa2 lf2 rt2 pv2 rd2 hd2 tl2 k2 n2 hR2 hB2 hk2 hn2 => hfin L1 ord1 N1 kd1 hs1 ky1 vl1 nx1 bf1 af1 pa1 lf1 rt1 pv1 rd1 hd1 tl1 L2 ord2 N2 kd2 hs2 ky2 vl2 nx2 bf2 af2 pa2 lf2 rt2 pv2 rd2 hd2 tl2 k2 n2 hR1 hB1 hR2 hB2 (by omega) (by omega))
        | cons z0 t =>
          rw [← hLe]
          rw [show Lo.head? = some z0 by rw [hLe]; rfl]
          exact lpJ26_sphiT Lb.length (6 * Lb.length) hG hC L1 kd1 hs1 ky1 vl1 nx1 bf1 af1 pa1 lf1 rt1 pv1 rd1 M tbo es sz th mc hd1 tl1 tb cap2 (va_up tf b N1.head?) cap b ord1 Lo Hi hl1 hoL1 k n (by omega) (by omega) (by omega) (by omega) y0 u hHe hsegH' hkH hHo1 hndH hl7 (by omega) z0 hbckH (fun a a9 ha ha9 e => by
            have q1 : a ∈ Hi := by rw [hHe]; exact ha
            have q2 : a9 ∈ Hi := by rw [hHe]; exact ha9
            rw [(ag a q1).2.1, (ag a9 q2).2.1] at e
            exact hinj a a9 (hLo a (hHim a q1).1) (hLo a9 (hHim a9 q2).1) e) (fun a ha => by
            have q1 : a ∈ Hi := by rw [hHe]; exact ha
            rw [(ag a q1).2.1]
            exact anHi a q1) k n rfl rfl (fun L2 ord2 N2 kd2 hs2 ky2 vl2 nx2 bf2 af2 pa2 lf2 rt2 pv2 rd2 hd2 tl2 k2 n2 hR2 hB2 hk2 hn2 => hfin L1 ord1 N1 kd1 hs1 ky1 vl1 nx1 bf1 af1 pa1 lf1 rt1 pv1 rd1 hd1 tl1 L2 ord2 N2 kd2 hs2 ky2 vl2 nx2 bf2 af2 pa2 lf2 rt2 pv2 rd2 hd2 tl2 k2 n2 hR1 hB1 hR2 hB2 (by omega) (by omega))
  -- the first list
  have hndL : Lo.Nodup := by rw [hS2]; exact nd_fl hnd
  have hLoo : ∀ a, a ∈ Lo → a ∈ ord := fun a ha => hLo a (hLom a ha).1
  have hkL : ∀ a, a ∈ Lo → kd a = true := fun a ha => hk a (hLom a ha).1
  have hsegL := hS4
  have hbckL := hS6
  cases hLe : Lo with
  | nil =>
    rw [← hLe]
    rw [show Lo.head? = none by rw [hLe]; rfl]
    have hsec' := hsec
    rw [show Lo.head? = none by rw [hLe]; rfl] at hsec'
    exact lpJ26_sploE Lb.length (6 * Lb.length) hG hC L kd hs ky vl nxs bf af pa lf rt pvs rd M tbo es sz th mc hd tl tb cap2 tf cap b ord Lo Hi hl hoL 0 0 (by omega) (by omega) (by omega) (by omega) _ hLe hf1 0 0 rfl rfl hsec'
  | cons z0 t =>
    rw [hLe] at hsegL hbckL hndL hkL
    have hsegL' : seg nxs (some z0) (z0 :: t) none := hsegL
    rw [← hLe]
    rw [show Lo.head? = some z0 by rw [hLe]; rfl]
    have hsec' := hsec
    rw [show Lo.head? = some z0 by rw [hLe]; rfl] at hsec'
    by_cases hl6 : Lo.length ≤ 6
    · exact lpJ26_sploS Lb.length (6 * Lb.length) hG hC L kd hs ky vl nxs bf af pa lf rt pvs rd M tbo es sz th mc hd tl tb cap2 tf cap b ord Lo Hi hl hoL 0 0 (by omega) (by omega) (by omega) (by omega) _ z0 t hLe hsegL' hkL hLoo hndL hl6 0 0 rfl rfl hsec'
    · have hl7 : 6 < (z0 :: t).length := by rw [← hLe]; omega
      cases hHe : Hi with
      | nil =>
        rw [← hHe]
        rw [show Hi.head? = none by rw [hHe]; rfl] at hsec' ⊢
        have hHL : Lo = Lb := whole (Y := []) hS2 (by rw [hHe] at hlens; simpa using hlens.symm)
        have hx09 : x0 = z0 := by rw [← hHL, hLe] at hseg; exact Option.some.inj hseg.1
        exact lpJ26_sploB Lb.length (6 * Lb.length) hG hC L kd hs ky vl nxs bf af pa lf rt pvs rd M tbo es sz th mc hd tl tb cap2 tf cap b ord Lo Hi hl hoL 0 0 (by omega) (by omega) (by omega) (by omega) z0 t hLe hsegL' hkL hLoo hndL hl7 (by omega) hbckL (by rw [← hx09, hHL]; exact hT) 0 0 rfl rfl hsec'
      | cons y0 u =>
        rw [← hHe]
        rw [show Hi.head? = some y0 by rw [hHe]; rfl] at hsec' ⊢
        exact lpJ26_sploT Lb.length (6 * Lb.length) hG hC L kd hs ky vl nxs bf af pa lf rt pvs rd M tbo es sz th mc hd tl tb cap2 tf cap b ord Lo Hi hl hoL 0 0 (by omega) (by omega) (by omega) (by omega) z0 t hLe hsegL' hkL hLoo hndL hl7 (by omega) y0 hbckL (fun a a9 ha ha9 e => hinj a a9 (hLoo a (by rw [hLe]; exact ha)) (hLoo a9 (by rw [hLe]; exact ha9)) e) (fun a ha => anLo a (by rw [hLe]; exact ha)) 0 0 rfl rfl hsec'
