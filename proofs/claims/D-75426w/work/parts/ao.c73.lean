/-! ===== the JDK: maps: putVal's walks ===== -/
set_option maxRecDepth 100000
set_option maxHeartbeats 4000000 in
set_option maxRecDepth 100000 in
theorem lpJ20_pvE {C : xC} {F : Nat → Prop} {V0 : xV} (c9 s9 : Nat) (hG : xGood (xGG C)) (hC : xCtx C RJ20 cJ20_putVal 13 (some (.object "java/lang/Object")) { frames := 8, locals := 211, cells := c9, slots := s9 }) (k n : Nat) (L : List Nat) (kd : Nat → Bool) (hs : Nat → Int32) (ky vl : Nat → Nat) (nx bf af pa lf rt pv : Nat → Option Nat) (rd : Nat → Int32) (M : Nat) (es : Option Nat) (sz th : Nat) (mc : Int32) (hd tl : Option Nat) (tb cap : Nat) (tf : Nat → Option Nat) (hcap : capI cap) (hz : Int32) (k9 v9 : Nat) (b : Nat) (hb : ixN hz cap = b) (htlL : ∀ t, tl = some t → t ∈ L) (hkc : k + 1 ≤ c9) (hnc : n + 6 ≤ s9) (hf : tf b = none) (kx : ∀ q : Nat, q ∉ L → rn C (xSt F V0 ([(M, .inr (25, [.ref tb, va_rf es, .int (nI sz), .int mc, .int (nI th), .float 1061158912, .null, .null, va_rf (hdn hd q tl), .ref q, .int 0, .int 0])), (tb, .inl (8, cap, .inr (.inr (.inr (.inr (va_up tf b (some q)))))))] ++ stW (L ++ [q]) (ndX (va_up kd q false) (va_up hs q hz) (va_up ky q k9) (va_up vl q v9) (va_up nx q none) (va_up bf q tl) (afn af q tl) pa lf rt pv rd))) (k + 1) (n + 6) 259 [(5, .int 1), (0, .ref M)] []) : rn C (xSt F V0 ([(M, .inr (25, [.ref tb, va_rf es, .int (nI sz), .int mc, .int (nI th), .float 1061158912, .null, .null, va_rf hd, va_rf tl, .int 0, .int 0])), (tb, .inl (8, cap, .inr (.inr (.inr (.inr tf)))))] ++ stW L (ndX kd hs ky vl nx bf af pa lf rt pv rd))) k n 0 [(5, .int 1), (4, .int 0), (3, .ref v9), (2, .ref k9), (1, .int hz), (0, .ref M)] [] := by
  have hle := hcap.le
  have hbl : b < cap := by rw [← hb]; exact ixN_lt hcap
  refine r_aload_n hC 5 dJ20_putVal_0 rfl 1 rfl ?_
  refine r_get (v := .ref tb) hC kJ21 0 rfl q1770 (fun _ h => h.get 0 rfl) rfl dJ20_putVal_1 4 rfl ?_
  refine r_dup hC dJ20_putVal_4 rfl 5 rfl ?_
  refine r_astore hC 6 [(6, .ref tb), (5, .int 1), (4, .int 0), (3, .ref v9), (2, .ref k9), (1, .int hz), (0, .ref M)] dJ20_putVal_5 (Nat.le_of_ble_eq_true rfl) rfl 7 rfl ?_
  refine r_ifnull hC dJ20_putVal_7 10 rfl ?_
  refine r_aload hC 0 dJ20_putVal_10 rfl 12 rfl ?_
  refine r_alen hC (nI cap) (t := 8) rfl (fun _ h => h.get 1 rfl) rfl dJ20_putVal_12 13 rfl ?_
  refine r_dup hC dJ20_putVal_13 rfl 14 rfl ?_
  refine r_istore hC 8 [(8, .int (nI cap)), (6, .ref tb), (5, .int 1), (4, .int 0), (3, .ref v9), (2, .ref k9), (1, .int hz), (0, .ref M)] dJ20_putVal_14 (Nat.le_of_ble_eq_true rfl) rfl 16 rfl ?_
  refine r_ifne hC 29 dJ20_putVal_16 (by decide) 19 rfl (fun _ => ?_) (fun h => absurd h (nz_nI (by omega) (by omega)))
  refine r_aload hC 1 dJ20_putVal_29 rfl 31 rfl ?_
  refine r_iload hC 0 dJ20_putVal_31 rfl 33 rfl ?_
  refine r_iconst hC 1 dJ20_putVal_33 ic_1 34 rfl ?_
  refine r_isub hC (nI (cap - 1)) dJ20_putVal_34  (pk_sub (a := cap) (b := 1) (by omega)) 35 rfl ?_
  refine r_iload_n hC 6 dJ20_putVal_35 rfl 36 rfl ?_
  refine r_iand hC (nI b) dJ20_putVal_36  ((ix_and hcap).trans (by rw [hb])) 37 rfl ?_
  refine r_dup hC dJ20_putVal_37 rfl 38 rfl ?_
  refine r_istore hC 9 [(9, .int (nI b)), (8, .int (nI cap)), (6, .ref tb), (5, .int 1), (4, .int 0), (3, .ref v9), (2, .ref k9), (1, .int hz), (0, .ref M)] dJ20_putVal_38 (Nat.le_of_ble_eq_true rfl) rfl 40 rfl ?_
  refine r_aald hC b (xix_n b hbl (by omega)) (t := 8) rfl rfl (fun _ h => h.get 1 rfl) none (hf) dJ20_putVal_40 41 rfl ?_
  show rn C (xSt F V0 ([(M, .inr (25, [.ref tb, va_rf es, .int (nI sz), .int mc, .int (nI th), .float 1061158912, .null, .null, va_rf hd, va_rf tl, .int 0, .int 0])), (tb, .inl (8, cap, .inr (.inr (.inr (.inr tf)))))] ++ stW L (ndX kd hs ky vl nx bf af pa lf rt pv rd))) k n 41 [(9, .int (nI b)), (8, .int (nI cap)), (6, .ref tb), (5, .int 1), (4, .int 0), (3, .ref v9), (2, .ref k9), (1, .int hz), (0, .ref M)] [.null]
  refine r_dup hC dJ20_putVal_41 rfl 42 rfl ?_
  refine r_astoreN hC 7 [(7, .null), (9, .int (nI b)), (8, .int (nI cap)), (6, .ref tb), (5, .int 1), (4, .int 0), (3, .ref v9), (2, .ref k9), (1, .int hz), (0, .ref M)] dJ20_putVal_42 (Nat.le_of_ble_eq_true rfl) rfl 44 rfl ?_
  refine r_ifnonnullN hC dJ20_putVal_44 47 rfl ?_
  refine r_aload hC 3 dJ20_putVal_47 rfl 49 rfl ?_
  refine r_iload hC 1 dJ20_putVal_49 rfl 51 rfl ?_
  refine r_aload_n hC 9 dJ20_putVal_51 rfl 52 rfl ?_
  refine r_iload_n hC 8 dJ20_putVal_52 rfl 53 rfl ?_
  refine r_aload_n hC 7 dJ20_putVal_53 rfl 54 rfl ?_
  refine r_aload_n hC 6 dJ20_putVal_54 rfl 55 rfl ?_
  refine r_null hC dJ20_putVal_55 56 rfl ?_
  refine xCall.ct (wcx := [(M, .inr (25, [.ref tb, va_rf es, .int (nI sz), .int mc, .int (nI th), .float 1061158912, .null, .null, va_rf hd, va_rf tl, .int 0, .int 0]))]) (wr := [(tb, .inl (8, cap, .inr (.inr (.inr (.inr tf)))))]) (r_cVD hC hG kJ21 M [.int hz, .ref k9, .ref v9, .null] mDJ21_newNode_J21 q2288 (fun _ h => ⟨_, h.get 0 rfl⟩) (fun V9 h9 => (metJ21_newNodeN _ _ hG L kd hs ky vl nx bf af pa lf rt pv rd M (some tb) es sz th mc hd tl hz k9 v9 htlL) V9 (h9.in.cut (wcx := [(M, .inr (25, [.ref tb, va_rf es, .int (nI sz), .int mc, .int (nI th), .float 1061158912, .null, .null, va_rf hd, va_rf tl, .int 0, .int 0]))]) (wr := [(tb, .inl (8, cap, .inr (.inr (.inr (.inr tf)))))]) [0] [1] 2 rfl rfl rfl rfl)) ⟨rfl, rfl⟩ (by first | omega | (dsimp only; omega)) (by first | omega | (dsimp only; omega)) rfl (Nat.le_of_ble_eq_true rfl) dJ20_putVal_56) [0] [1] 2 rfl rfl rfl rfl (k + 1) (n + 6) 59 rfl rfl rfl (fun v3 w4 h5 => ?_) (fun _ _ h => h.elim)
  obtain ⟨q1, rfl, hq2, rfl⟩ := h5
  refine rn.mono (J := xSt F V0 ([(tb, .inl (8, cap, .inr (.inr (.inr (.inr tf))))), (M, .inr (25, [.ref tb, va_rf es, .int (nI sz), .int mc, .int (nI th), .float 1061158912, .null, .null, va_rf (hdn hd q1 tl), .ref q1, .int 0, .int 0]))] ++ stW (L ++ [q1]) (ndX (va_up kd q1 false) (va_up hs q1 hz) (va_up ky q1 k9) (va_up vl q1 v9) (va_up nx q1 none) (va_up bf q1 tl) (afn af q1 tl) pa lf rt pv rd))) (fun _ h => by rw [← List.append_assoc] at h; exact h) ?_
  show rn C (xSt F V0 ([(tb, .inl (8, cap, .inr (.inr (.inr (.inr tf))))), (M, .inr (25, [.ref tb, va_rf es, .int (nI sz), .int mc, .int (nI th), .float 1061158912, .null, .null, va_rf (hdn hd q1 tl), .ref q1, .int 0, .int 0]))] ++ stW (L ++ [q1]) (ndX (va_up kd q1 false) (va_up hs q1 hz) (va_up ky q1 k9) (va_up vl q1 v9) (va_up nx q1 none) (va_up bf q1 tl) (afn af q1 tl) pa lf rt pv rd))) (k + 1) (n + 6) 59 [(7, .null), (9, .int (nI b)), (8, .int (nI cap)), (6, .ref tb), (5, .int 1), (4, .int 0), (3, .ref v9), (2, .ref k9), (1, .int hz), (0, .ref M)] [.ref q1, .int (nI b), .ref tb]
  refine r_aastO (J := xSt F V0 ([(tb, .inl (8, cap, .inr (.inr (.inr (.inr (va_up tf b (some q1))))))), (M, .inr (25, [.ref tb, va_rf es, .int (nI sz), .int mc, .int (nI th), .float 1061158912, .null, .null, va_rf (hdn hd q1 tl), .ref q1, .int 0, .int 0]))] ++ stW (L ++ [q1]) (ndX (va_up kd q1 false) (va_up hs q1 hz) (va_up ky q1 k9) (va_up vl q1 v9) (va_up nx q1 none) (va_up bf q1 tl) (afn af q1 tl) pa lf rt pv rd))) hC hG kJ25 q3422 b (xix_n b hbl (by omega)) rfl (fun _ h => ⟨_, stW_get h (List.mem_append_right _ List.mem_cons_self) (ndX_p (up_same _ _ _))⟩) (fun _ h => h.get 0 rfl) dJ20_putVal_59 (fun _ h => h.set 0 _ rfl) 60 rfl ?_
  refine r_goto hC 259 dJ20_putVal_60 (by decide) ?_
  refine rn.sub (lv' := [(5, .int 1), (0, .ref M)]) [4, 9] rfl ?_
  refine rn.mono (J := xSt F V0 ([(M, .inr (25, [.ref tb, va_rf es, .int (nI sz), .int mc, .int (nI th), .float 1061158912, .null, .null, va_rf (hdn hd q1 tl), .ref q1, .int 0, .int 0])), (tb, .inl (8, cap, .inr (.inr (.inr (.inr (va_up tf b (some q1)))))))] ++ stW (L ++ [q1]) (ndX (va_up kd q1 false) (va_up hs q1 hz) (va_up ky q1 k9) (va_up vl q1 v9) (va_up nx q1 none) (va_up bf q1 tl) (afn af q1 tl) pa lf rt pv rd))) (fun _ h => h.ordT [1, 0] 2 rfl rfl rfl) ?_
  exact kx q1 hq2
theorem cap16 : capI 16 := by unfold capI; omega
set_option maxHeartbeats 4000000 in
set_option maxRecDepth 100000 in
theorem lpJ20_pvZ {C : xC} {F : Nat → Prop} {V0 : xV} (c9 s9 : Nat) (hG : xGood (xGG C)) (hC : xCtx C RJ20 cJ20_putVal 13 (some (.object "java/lang/Object")) { frames := 8, locals := 211, cells := c9, slots := s9 }) (k n : Nat) (L : List Nat) (kd : Nat → Bool) (hs : Nat → Int32) (ky vl : Nat → Nat) (nx bf af pa lf rt pv : Nat → Option Nat) (rd : Nat → Int32) (M : Nat) (es : Option Nat) (sz : Nat) (mc : Int32) (hd tl : Option Nat) (hz : Int32) (k9 v9 : Nat) (htlL : ∀ t, tl = some t → t ∈ L) (hkc : k + 1 + 1 ≤ c9) (hnc : n + 16 + 6 ≤ s9) (kx : ∀ tb q : Nat, q ∉ L → rn C (xSt F V0 ([(M, .inr (25, [.ref tb, va_rf es, .int (nI sz), .int mc, .int 12, .float 1061158912, .null, .null, va_rf (hdn hd q tl), .ref q, .int 0, .int 0])), (tb, .inl (8, 16, .inr (.inr (.inr (.inr (va_up (fun _ => none) (ixN hz 16) (some q)))))))] ++ stW (L ++ [q]) (ndX (va_up kd q false) (va_up hs q hz) (va_up ky q k9) (va_up vl q v9) (va_up nx q none) (va_up bf q tl) (afn af q tl) pa lf rt pv rd))) (k + 1 + 1) (n + 16 + 6) 259 [(5, .int 1), (0, .ref M)] []) : rn C (xSt F V0 ([(M, .inr (25, [.null, va_rf es, .int (nI sz), .int mc, .int 0, .float 1061158912, .null, .null, va_rf hd, va_rf tl, .int 0, .int 0]))] ++ stW L (ndX kd hs ky vl nx bf af pa lf rt pv rd))) k n 0 [(5, .int 1), (4, .int 0), (3, .ref v9), (2, .ref k9), (1, .int hz), (0, .ref M)] [] := by
  refine r_aload_n hC 5 dJ20_putVal_0 rfl 1 rfl ?_
  refine r_get (v := .null) hC kJ21 0 rfl q1770 (fun _ h => h.get 0 rfl) rfl dJ20_putVal_1 4 rfl ?_
  refine r_dup hC dJ20_putVal_4 rfl 5 rfl ?_
  refine r_astoreN hC 6 [(6, .null), (5, .int 1), (4, .int 0), (3, .ref v9), (2, .ref k9), (1, .int hz), (0, .ref M)] dJ20_putVal_5 (Nat.le_of_ble_eq_true rfl) rfl 7 rfl ?_
  refine r_ifnullN hC 19 dJ20_putVal_7 (by decide) ?_
  refine r_aload_n hC 6 dJ20_putVal_19 rfl 20 rfl ?_
  refine xCall.ct (wcx := [(M, .inr (25, [.null, va_rf es, .int (nI sz), .int mc, .int 0, .float 1061158912, .null, .null, va_rf hd, va_rf tl, .int 0, .int 0]))]) (wr := []) (r_cV hC kJ21 M [] mVJ20_resize_J21 q2192 (fun _ h => ⟨_, h.get 0 rfl⟩) (fun V9 h9 => (metJ20_resizeA _ _ hG L kd hs ky vl nx bf af pa lf rt pv rd M es sz mc hd tl) V9 (h9.in.cut (wcx := [(M, .inr (25, [.null, va_rf es, .int (nI sz), .int mc, .int 0, .float 1061158912, .null, .null, va_rf hd, va_rf tl, .int 0, .int 0]))]) (wr := []) [0] [] 1 rfl rfl rfl rfl)) ⟨rfl, rfl⟩ (by first | omega | (dsimp only; omega)) (by first | omega | (dsimp only; omega)) rfl (Nat.le_of_ble_eq_true rfl) dJ20_putVal_20) [0] [] 1 rfl rfl rfl rfl (k + 1) (n + 16) 23 rfl rfl rfl (fun v2 w3 h4 => ?_) (fun _ _ h => h.elim)
  obtain ⟨nt1, rfl, rfl⟩ := h4
  refine rn.mono (J := xSt F V0 ([(M, .inr (25, [.ref nt1, va_rf es, .int (nI sz), .int mc, .int 12, .float 1061158912, .null, .null, va_rf hd, va_rf tl, .int 0, .int 0])), (nt1, .inl (8, 16, .inr (.inr (.inr (.inr (fun _ => none))))))] ++ stW L (ndX kd hs ky vl nx bf af pa lf rt pv rd))) (fun _ h => by rw [← List.append_assoc] at h; exact h) ?_
  show rn C (xSt F V0 ([(M, .inr (25, [.ref nt1, va_rf es, .int (nI sz), .int mc, .int 12, .float 1061158912, .null, .null, va_rf hd, va_rf tl, .int 0, .int 0])), (nt1, .inl (8, 16, .inr (.inr (.inr (.inr (fun _ => none))))))] ++ stW L (ndX kd hs ky vl nx bf af pa lf rt pv rd))) (k + 1) (n + 16) 23 [(6, .null), (5, .int 1), (4, .int 0), (3, .ref v9), (2, .ref k9), (1, .int hz), (0, .ref M)] [.ref nt1]
  refine r_dup hC dJ20_putVal_23 rfl 24 rfl ?_
  refine r_astore hC 6 [(6, .ref nt1), (5, .int 1), (4, .int 0), (3, .ref v9), (2, .ref k9), (1, .int hz), (0, .ref M)] dJ20_putVal_24 (Nat.le_of_ble_eq_true rfl) rfl 26 rfl ?_
  refine r_alen hC 16 (t := 8) rfl (fun _ h => h.get 1 rfl) rfl dJ20_putVal_26 27 rfl ?_
  refine r_istore hC 8 [(8, .int 16), (6, .ref nt1), (5, .int 1), (4, .int 0), (3, .ref v9), (2, .ref k9), (1, .int hz), (0, .ref M)] dJ20_putVal_27 (Nat.le_of_ble_eq_true rfl) rfl 29 rfl ?_
  refine r_aload hC 1 dJ20_putVal_29 rfl 31 rfl ?_
  refine r_iload hC 0 dJ20_putVal_31 rfl 33 rfl ?_
  refine r_iconst hC 1 dJ20_putVal_33 ic_1 34 rfl ?_
  refine r_isub hC 15 dJ20_putVal_34  (by decide) 35 rfl ?_
  refine r_iload_n hC 6 dJ20_putVal_35 rfl 36 rfl ?_
  refine r_iand hC (nI (ixN hz 16)) dJ20_putVal_36  (ix_and cap16) 37 rfl ?_
  refine r_dup hC dJ20_putVal_37 rfl 38 rfl ?_
  refine r_istore hC 9 [(9, .int (nI (ixN hz 16))), (8, .int 16), (6, .ref nt1), (5, .int 1), (4, .int 0), (3, .ref v9), (2, .ref k9), (1, .int hz), (0, .ref M)] dJ20_putVal_38 (Nat.le_of_ble_eq_true rfl) rfl 40 rfl ?_
  refine r_aald hC (ixN hz 16) (xix_n _ (ixN_lt cap16) (by decide)) (t := 8) rfl rfl (fun _ h => h.get 1 rfl) none (rfl) dJ20_putVal_40 41 rfl ?_
  show rn C (xSt F V0 ([(M, .inr (25, [.ref nt1, va_rf es, .int (nI sz), .int mc, .int 12, .float 1061158912, .null, .null, va_rf hd, va_rf tl, .int 0, .int 0])), (nt1, .inl (8, 16, .inr (.inr (.inr (.inr (fun _ => none))))))] ++ stW L (ndX kd hs ky vl nx bf af pa lf rt pv rd))) (k + 1) (n + 16) 41 [(9, .int (nI (ixN hz 16))), (8, .int 16), (6, .ref nt1), (5, .int 1), (4, .int 0), (3, .ref v9), (2, .ref k9), (1, .int hz), (0, .ref M)] [.null]
  refine r_dup hC dJ20_putVal_41 rfl 42 rfl ?_
  refine r_astoreN hC 7 [(7, .null), (9, .int (nI (ixN hz 16))), (8, .int 16), (6, .ref nt1), (5, .int 1), (4, .int 0), (3, .ref v9), (2, .ref k9), (1, .int hz), (0, .ref M)] dJ20_putVal_42 (Nat.le_of_ble_eq_true rfl) rfl 44 rfl ?_
  refine r_ifnonnullN hC dJ20_putVal_44 47 rfl ?_
  refine r_aload hC 3 dJ20_putVal_47 rfl 49 rfl ?_
  refine r_iload hC 1 dJ20_putVal_49 rfl 51 rfl ?_
  refine r_aload_n hC 9 dJ20_putVal_51 rfl 52 rfl ?_
  refine r_iload_n hC 8 dJ20_putVal_52 rfl 53 rfl ?_
  refine r_aload_n hC 7 dJ20_putVal_53 rfl 54 rfl ?_
  refine r_aload_n hC 6 dJ20_putVal_54 rfl 55 rfl ?_
  refine r_null hC dJ20_putVal_55 56 rfl ?_
  refine xCall.ct (wcx := [(M, .inr (25, [.ref nt1, va_rf es, .int (nI sz), .int mc, .int 12, .float 1061158912, .null, .null, va_rf hd, va_rf tl, .int 0, .int 0]))]) (wr := [(nt1, .inl (8, 16, .inr (.inr (.inr (.inr (fun _ => none))))))]) (r_cVD hC hG kJ21 M [.int hz, .ref k9, .ref v9, .null] mDJ21_newNode_J21 q2288 (fun _ h => ⟨_, h.get 0 rfl⟩) (fun V9 h9 => (metJ21_newNodeN _ _ hG L kd hs ky vl nx bf af pa lf rt pv rd M (some nt1) es sz 12 mc hd tl hz k9 v9 htlL) V9 (h9.in.cut (wcx := [(M, .inr (25, [.ref nt1, va_rf es, .int (nI sz), .int mc, .int 12, .float 1061158912, .null, .null, va_rf hd, va_rf tl, .int 0, .int 0]))]) (wr := [(nt1, .inl (8, 16, .inr (.inr (.inr (.inr (fun _ => none))))))]) [0] [1] 2 rfl rfl rfl rfl)) ⟨rfl, rfl⟩ (by first | omega | (dsimp only; omega)) (by first | omega | (dsimp only; omega)) rfl (Nat.le_of_ble_eq_true rfl) dJ20_putVal_56) [0] [1] 2 rfl rfl rfl rfl ((k + 1) + 1) ((n + 16) + 6) 59 rfl rfl rfl (fun v7 w8 h9 => ?_) (fun _ _ h => h.elim)
  obtain ⟨q5, rfl, hq6, rfl⟩ := h9
  refine rn.mono (J := xSt F V0 ([(nt1, .inl (8, 16, .inr (.inr (.inr (.inr (fun _ => none)))))), (M, .inr (25, [.ref nt1, va_rf es, .int (nI sz), .int mc, .int 12, .float 1061158912, .null, .null, va_rf (hdn hd q5 tl), .ref q5, .int 0, .int 0]))] ++ stW (L ++ [q5]) (ndX (va_up kd q5 false) (va_up hs q5 hz) (va_up ky q5 k9) (va_up vl q5 v9) (va_up nx q5 none) (va_up bf q5 tl) (afn af q5 tl) pa lf rt pv rd))) (fun _ h => by rw [← List.append_assoc] at h; exact h) ?_
  show rn C (xSt F V0 ([(nt1, .inl (8, 16, .inr (.inr (.inr (.inr (fun _ => none)))))), (M, .inr (25, [.ref nt1, va_rf es, .int (nI sz), .int mc, .int 12, .float 1061158912, .null, .null, va_rf (hdn hd q5 tl), .ref q5, .int 0, .int 0]))] ++ stW (L ++ [q5]) (ndX (va_up kd q5 false) (va_up hs q5 hz) (va_up ky q5 k9) (va_up vl q5 v9) (va_up nx q5 none) (va_up bf q5 tl) (afn af q5 tl) pa lf rt pv rd))) ((k + 1) + 1) ((n + 16) + 6) 59 [(7, .null), (9, .int (nI (ixN hz 16))), (8, .int 16), (6, .ref nt1), (5, .int 1), (4, .int 0), (3, .ref v9), (2, .ref k9), (1, .int hz), (0, .ref M)] [.ref q5, .int (nI (ixN hz 16)), .ref nt1]
  refine r_aastO (J := xSt F V0 ([(nt1, .inl (8, 16, .inr (.inr (.inr (.inr (va_up (fun _ => none) (ixN hz 16) (some q5))))))), (M, .inr (25, [.ref nt1, va_rf es, .int (nI sz), .int mc, .int 12, .float 1061158912, .null, .null, va_rf (hdn hd q5 tl), .ref q5, .int 0, .int 0]))] ++ stW (L ++ [q5]) (ndX (va_up kd q5 false) (va_up hs q5 hz) (va_up ky q5 k9) (va_up vl q5 v9) (va_up nx q5 none) (va_up bf q5 tl) (afn af q5 tl) pa lf rt pv rd))) hC hG kJ25 q3422 (ixN hz 16) (xix_n _ (ixN_lt cap16) (by decide)) rfl (fun _ h => ⟨_, stW_get h (List.mem_append_right _ List.mem_cons_self) (ndX_p (up_same _ _ _))⟩) (fun _ h => h.get 0 rfl) dJ20_putVal_59 (fun _ h => h.set 0 _ rfl) 60 rfl ?_
  refine r_goto hC 259 dJ20_putVal_60 (by decide) ?_
  refine rn.sub (lv' := [(5, .int 1), (0, .ref M)]) [4, 9] rfl ?_
  refine rn.mono (J := xSt F V0 ([(M, .inr (25, [.ref nt1, va_rf es, .int (nI sz), .int mc, .int 12, .float 1061158912, .null, .null, va_rf (hdn hd q5 tl), .ref q5, .int 0, .int 0])), (nt1, .inl (8, 16, .inr (.inr (.inr (.inr (va_up (fun _ => none) (ixN hz 16) (some q5)))))))] ++ stW (L ++ [q5]) (ndX (va_up kd q5 false) (va_up hs q5 hz) (va_up ky q5 k9) (va_up vl q5 v9) (va_up nx q5 none) (va_up bf q5 tl) (afn af q5 tl) pa lf rt pv rd))) (fun _ h => h.ordT [1, 0] 2 rfl rfl rfl) ?_
  exact kx nt1 q5 hq6
set_option maxHeartbeats 4000000 in
set_option maxRecDepth 100000 in
theorem lpJ20_pvL {C : xC} {F : Nat → Prop} {V0 : xV} (c9 s9 : Nat) (hG : xGood (xGG C)) (hC : xCtx C RJ20 cJ20_putVal 13 (some (.object "java/lang/Object")) { frames := 8, locals := 211, cells := c9, slots := s9 }) (k n : Nat) (L : List Nat) (kd : Nat → Bool) (hs : Nat → Int32) (ky vl : Nat → Nat) (nx bf af pa lf rt pv : Nat → Option Nat) (rd : Nat → Int32) (M : Nat) (es : Option Nat) (sz th : Nat) (mc : Int32) (hd tl : Option Nat) (tb cap : Nat) (tf : Nat → Option Nat) (hcap : capI cap) (hz : Int32) (k9 v9 : Nat) (b : Nat) (hb : ixN hz cap = b) (f : Nat) (hf : tf b = some f) (hfL : f ∈ L) (hfk : kd f = false) (hfne : hs f ≠ hz) (kx : rn C (xSt F V0 ([(M, .inr (25, [.ref tb, va_rf es, .int (nI sz), .int mc, .int (nI th), .float 1061158912, .null, .null, va_rf hd, va_rf tl, .int 0, .int 0])), (tb, .inl (8, cap, .inr (.inr (.inr (.inr tf)))))] ++ stW L (ndX kd hs ky vl nx bf af pa lf rt pv rd))) k n 134 [(12, .int (nI 0)), (7, .ref f), (6, .ref tb), (5, .int 1), (4, .int 0), (3, .ref v9), (2, .ref k9), (1, .int hz), (0, .ref M)] []) : rn C (xSt F V0 ([(M, .inr (25, [.ref tb, va_rf es, .int (nI sz), .int mc, .int (nI th), .float 1061158912, .null, .null, va_rf hd, va_rf tl, .int 0, .int 0])), (tb, .inl (8, cap, .inr (.inr (.inr (.inr tf)))))] ++ stW L (ndX kd hs ky vl nx bf af pa lf rt pv rd))) k n 0 [(5, .int 1), (4, .int 0), (3, .ref v9), (2, .ref k9), (1, .int hz), (0, .ref M)] [] := by
  have hle := hcap.le
  have hbl : b < cap := by rw [← hb]; exact ixN_lt hcap
  refine r_aload_n hC 5 dJ20_putVal_0 rfl 1 rfl ?_
  refine r_get (v := .ref tb) hC kJ21 0 rfl q1770 (fun _ h => h.get 0 rfl) rfl dJ20_putVal_1 4 rfl ?_
  refine r_dup hC dJ20_putVal_4 rfl 5 rfl ?_
  refine r_astore hC 6 [(6, .ref tb), (5, .int 1), (4, .int 0), (3, .ref v9), (2, .ref k9), (1, .int hz), (0, .ref M)] dJ20_putVal_5 (Nat.le_of_ble_eq_true rfl) rfl 7 rfl ?_
  refine r_ifnull hC dJ20_putVal_7 10 rfl ?_
  refine r_aload hC 0 dJ20_putVal_10 rfl 12 rfl ?_
  refine r_alen hC (nI cap) (t := 8) rfl (fun _ h => h.get 1 rfl) rfl dJ20_putVal_12 13 rfl ?_
  refine r_dup hC dJ20_putVal_13 rfl 14 rfl ?_
  refine r_istore hC 8 [(8, .int (nI cap)), (6, .ref tb), (5, .int 1), (4, .int 0), (3, .ref v9), (2, .ref k9), (1, .int hz), (0, .ref M)] dJ20_putVal_14 (Nat.le_of_ble_eq_true rfl) rfl 16 rfl ?_
  refine r_ifne hC 29 dJ20_putVal_16 (by decide) 19 rfl (fun _ => ?_) (fun h => absurd h (nz_nI (by omega) (by omega)))
  refine r_aload hC 1 dJ20_putVal_29 rfl 31 rfl ?_
  refine r_iload hC 0 dJ20_putVal_31 rfl 33 rfl ?_
  refine r_iconst hC 1 dJ20_putVal_33 ic_1 34 rfl ?_
  refine r_isub hC (nI (cap - 1)) dJ20_putVal_34  (pk_sub (a := cap) (b := 1) (by omega)) 35 rfl ?_
  refine r_iload_n hC 6 dJ20_putVal_35 rfl 36 rfl ?_
  refine r_iand hC (nI b) dJ20_putVal_36  ((ix_and hcap).trans (by rw [hb])) 37 rfl ?_
  refine r_dup hC dJ20_putVal_37 rfl 38 rfl ?_
  refine r_istore hC 9 [(9, .int (nI b)), (8, .int (nI cap)), (6, .ref tb), (5, .int 1), (4, .int 0), (3, .ref v9), (2, .ref k9), (1, .int hz), (0, .ref M)] dJ20_putVal_38 (Nat.le_of_ble_eq_true rfl) rfl 40 rfl ?_
  refine r_aald hC b (xix_n b hbl (by omega)) (t := 8) rfl rfl (fun _ h => h.get 1 rfl) (some f) (hf) dJ20_putVal_40 41 rfl ?_
  show rn C (xSt F V0 ([(M, .inr (25, [.ref tb, va_rf es, .int (nI sz), .int mc, .int (nI th), .float 1061158912, .null, .null, va_rf hd, va_rf tl, .int 0, .int 0])), (tb, .inl (8, cap, .inr (.inr (.inr (.inr tf)))))] ++ stW L (ndX kd hs ky vl nx bf af pa lf rt pv rd))) k n 41 [(9, .int (nI b)), (8, .int (nI cap)), (6, .ref tb), (5, .int 1), (4, .int 0), (3, .ref v9), (2, .ref k9), (1, .int hz), (0, .ref M)] [.ref f]
  refine r_dup hC dJ20_putVal_41 rfl 42 rfl ?_
  refine r_astore hC 7 [(7, .ref f), (9, .int (nI b)), (8, .int (nI cap)), (6, .ref tb), (5, .int 1), (4, .int 0), (3, .ref v9), (2, .ref k9), (1, .int hz), (0, .ref M)] dJ20_putVal_42 (Nat.le_of_ble_eq_true rfl) rfl 44 rfl ?_
  refine r_ifnonnull hC 63 dJ20_putVal_44 (by decide) ?_
  refine r_aload hC 0 dJ20_putVal_63 rfl 65 rfl ?_
  refine r_getI (v := .int (hs f)) hC kJ25 0 rfl q2234 (Or.inl rfl) (fun _ h => stW_get h hfL (ndX_p hfk)) rfl dJ20_putVal_65 68 rfl ?_
  refine r_iload_n hC 8 dJ20_putVal_68 rfl 69 rfl ?_
  refine r_icne hC 104 dJ20_putVal_69 (by decide) 72 rfl (fun _ => ?_) (fun h => absurd h (hfne))
  refine r_aload hC 0 dJ20_putVal_104 rfl 106 rfl ?_
  refine r_instNo hC kJ25 q1960 (nt_25 hG) (fun _ h => ⟨_, stW_get h hfL (ndX_p hfk)⟩) dJ20_putVal_106 109 rfl ?_
  refine r_ifeq hC 131 dJ20_putVal_109 (by decide) 112 rfl (fun _ => ?_) (fun h => absurd h (by decide))
  refine r_iconst hC 0 dJ20_putVal_131 ic_0 132 rfl ?_
  refine r_istore hC 12 [(12, .int 0), (7, .ref f), (9, .int (nI b)), (8, .int (nI cap)), (6, .ref tb), (5, .int 1), (4, .int 0), (3, .ref v9), (2, .ref k9), (1, .int hz), (0, .ref M)] dJ20_putVal_132 (Nat.le_of_ble_eq_true rfl) rfl 134 rfl ?_
  refine rn.sub (lv' := [(12, .int 0), (7, .ref f), (6, .ref tb), (5, .int 1), (4, .int 0), (3, .ref v9), (2, .ref k9), (1, .int hz), (0, .ref M)]) [0, 1, 4, 5, 6, 7, 8, 9, 10] rfl ?_
  exact kx
set_option maxHeartbeats 4000000 in
set_option maxRecDepth 100000 in
theorem lpJ20_pvl {C : xC} {F : Nat → Prop} {V0 : xV} (c9 s9 : Nat) (hG : xGood (xGG C)) (hC : xCtx C RJ20 cJ20_putVal 13 (some (.object "java/lang/Object")) { frames := 8, locals := 211, cells := c9, slots := s9 }) (k n : Nat) (L : List Nat) (kd : Nat → Bool) (hs : Nat → Int32) (ky vl : Nat → Nat) (nx bf af pa lf rt pv : Nat → Option Nat) (rd : Nat → Int32) (M : Nat) (es : Option Nat) (sz th : Nat) (mc : Int32) (hd tl : Option Nat) (tb cap : Nat) (tf : Nat → Option Nat) (hcap : capI cap) (hz : Int32) (k9 v9 : Nat) (htlL : ∀ t, tl = some t → t ∈ L) (hkc : k + 1 ≤ c9) (hnc : n + 6 ≤ s9) (Lb : List Nat) (hmL : ∀ a, a ∈ Lb → a ∈ L ∧ kd a = false) (hne : ∀ a, a ∈ Lb → hs a ≠ hz) (kx : ∀ (l0 : List Nat) (z : Nat), Lb = l0 ++ [z] → ∀ i : Nat, l0.length = i → ∀ q : Nat, q ∉ L → rn C (xSt F V0 ([(M, .inr (25, [.ref tb, va_rf es, .int (nI sz), .int mc, .int (nI th), .float 1061158912, .null, .null, va_rf (hdn hd q tl), .ref q, .int 0, .int 0])), (tb, .inl (8, cap, .inr (.inr (.inr (.inr tf)))))] ++ stW (L ++ [q]) (ndX (va_up kd q false) (va_up hs q hz) (va_up ky q k9) (va_up vl q v9) (va_up (va_up nx q none) z (some q)) (va_up bf q tl) (afn af q tl) pa lf rt pv rd))) (k + 1) (n + 6) 158 [(12, .int (nI i)), (6, .ref tb), (10, .null), (5, .int 1), (2, .ref k9), (1, .int hz), (0, .ref M)] []) : ∀ (rest : List Nat) (l1 : List Nat) (p : Nat), Lb = l1 ++ p :: rest → seg nx (nx p) rest none → ∀ i : Nat, l1.length = i → rn C (xSt F V0 ([(M, .inr (25, [.ref tb, va_rf es, .int (nI sz), .int mc, .int (nI th), .float 1061158912, .null, .null, va_rf hd, va_rf tl, .int 0, .int 0])), (tb, .inl (8, cap, .inr (.inr (.inr (.inr tf)))))] ++ stW L (ndX kd hs ky vl nx bf af pa lf rt pv rd))) k n 134 [(12, .int (nI i)), (7, .ref p), (6, .ref tb), (5, .int 1), (4, .int 0), (3, .ref v9), (2, .ref k9), (1, .int hz), (0, .ref M)] [] := by
  have hle := hcap.le
  intro rest
  induction rest with
  | nil =>
    intro l1 p hLb hsg i hi
    have hnx : nx p = none := hsg
    have hpm : p ∈ Lb := by rw [hLb]; exact List.mem_append_right _ List.mem_cons_self
    refine r_aload hC 1 dJ20_putVal_134 rfl 136 rfl ?_
    refine r_getI (v := .null) hC kJ25 3 rfl q2250 (Or.inl rfl) (fun _ h => stW_get h ((hmL p hpm).1) (ndX_p ((hmL p hpm).2))) (congrArg (fun o9 => some (va_rf o9)) (hnx)) dJ20_putVal_136 139 rfl ?_
    refine r_dup hC dJ20_putVal_139 rfl 140 rfl ?_
    refine r_astoreN hC 10 [(10, .null), (12, .int (nI i)), (7, .ref p), (6, .ref tb), (5, .int 1), (4, .int 0), (3, .ref v9), (2, .ref k9), (1, .int hz), (0, .ref M)] dJ20_putVal_140 (Nat.le_of_ble_eq_true rfl) rfl 142 rfl ?_
    refine r_ifnonnullN hC dJ20_putVal_142 145 rfl ?_
    refine r_aload hC 2 dJ20_putVal_145 rfl 147 rfl ?_
    refine r_aload_n hC 9 dJ20_putVal_147 rfl 148 rfl ?_
    refine r_iload_n hC 8 dJ20_putVal_148 rfl 149 rfl ?_
    refine r_aload_n hC 7 dJ20_putVal_149 rfl 150 rfl ?_
    refine r_aload_n hC 6 dJ20_putVal_150 rfl 151 rfl ?_
    refine r_null hC dJ20_putVal_151 152 rfl ?_
    refine xCall.ct (wcx := [(M, .inr (25, [.ref tb, va_rf es, .int (nI sz), .int mc, .int (nI th), .float 1061158912, .null, .null, va_rf hd, va_rf tl, .int 0, .int 0]))]) (wr := [(tb, .inl (8, cap, .inr (.inr (.inr (.inr tf)))))]) (r_cVD hC hG kJ21 M [.int hz, .ref k9, .ref v9, .null] mDJ21_newNode_J21 q2288 (fun _ h => ⟨_, h.get 0 rfl⟩) (fun V9 h9 => (metJ21_newNodeN _ _ hG L kd hs ky vl nx bf af pa lf rt pv rd M (some tb) es sz th mc hd tl hz k9 v9 htlL) V9 (h9.in.cut (wcx := [(M, .inr (25, [.ref tb, va_rf es, .int (nI sz), .int mc, .int (nI th), .float 1061158912, .null, .null, va_rf hd, va_rf tl, .int 0, .int 0]))]) (wr := [(tb, .inl (8, cap, .inr (.inr (.inr (.inr tf)))))]) [0] [1] 2 rfl rfl rfl rfl)) ⟨rfl, rfl⟩ (by first | omega | (dsimp only; omega)) (by first | omega | (dsimp only; omega)) rfl (Nat.le_of_ble_eq_true rfl) dJ20_putVal_152) [0] [1] 2 rfl rfl rfl rfl (k + 1) (n + 6) 155 rfl rfl rfl (fun v3 w4 h5 => ?_) (fun _ _ h => h.elim)
    obtain ⟨q1, rfl, hq2, rfl⟩ := h5
    refine rn.mono (J := xSt F V0 ([(tb, .inl (8, cap, .inr (.inr (.inr (.inr tf))))), (M, .inr (25, [.ref tb, va_rf es, .int (nI sz), .int mc, .int (nI th), .float 1061158912, .null, .null, va_rf (hdn hd q1 tl), .ref q1, .int 0, .int 0]))] ++ stW (L ++ [q1]) (ndX (va_up kd q1 false) (va_up hs q1 hz) (va_up ky q1 k9) (va_up vl q1 v9) (va_up nx q1 none) (va_up bf q1 tl) (afn af q1 tl) pa lf rt pv rd))) (fun _ h => by rw [← List.append_assoc] at h; exact h) ?_
    show rn C (xSt F V0 ([(tb, .inl (8, cap, .inr (.inr (.inr (.inr tf))))), (M, .inr (25, [.ref tb, va_rf es, .int (nI sz), .int mc, .int (nI th), .float 1061158912, .null, .null, va_rf (hdn hd q1 tl), .ref q1, .int 0, .int 0]))] ++ stW (L ++ [q1]) (ndX (va_up kd q1 false) (va_up hs q1 hz) (va_up ky q1 k9) (va_up vl q1 v9) (va_up nx q1 none) (va_up bf q1 tl) (afn af q1 tl) pa lf rt pv rd))) (k + 1) (n + 6) 155 [(10, .null), (12, .int (nI i)), (7, .ref p), (6, .ref tb), (5, .int 1), (4, .int 0), (3, .ref v9), (2, .ref k9), (1, .int hz), (0, .ref M)] [.ref q1, .ref p]
    have nn_p : p ≠ q1 := fun e => hq2 (by rw [← e]; exact (hmL p hpm).1)
    refine r_putI (J := xSt F V0 ([(tb, .inl (8, cap, .inr (.inr (.inr (.inr tf))))), (M, .inr (25, [.ref tb, va_rf es, .int (nI sz), .int mc, .int (nI th), .float 1061158912, .null, .null, va_rf (hdn hd q1 tl), .ref q1, .int 0, .int 0]))] ++ stW (L ++ [q1]) (ndX (va_up kd q1 false) (va_up hs q1 hz) (va_up ky q1 k9) (va_up vl q1 v9) (va_up (va_up nx q1 none) p (some q1)) (va_up bf q1 tl) (afn af q1 tl) pa lf rt pv rd))) hC kJ25 3 rfl q2250 (Or.inl rfl) rfl (fun _ h => stW_get h (List.mem_append_left _ ((hmL p hpm).1)) (ndX_p ((up_ne nn_p).trans ((hmL p hpm).2)))) (Nat.le_of_ble_eq_true rfl) rfl rfl dJ20_putVal_155 (fun _ h => stW_set h (List.mem_append_left _ ((hmL p hpm).1)) (ndP_nx ((up_ne nn_p).trans ((hmL p hpm).2)))) 158 rfl ?_
    refine rn.sub (lv' := [(12, .int (nI i)), (6, .ref tb), (10, .null), (5, .int 1), (2, .ref k9), (1, .int hz), (0, .ref M)]) [1, 3, 0, 4, 7, 8, 9] rfl ?_
    refine rn.mono (J := xSt F V0 ([(M, .inr (25, [.ref tb, va_rf es, .int (nI sz), .int mc, .int (nI th), .float 1061158912, .null, .null, va_rf (hdn hd q1 tl), .ref q1, .int 0, .int 0])), (tb, .inl (8, cap, .inr (.inr (.inr (.inr tf)))))] ++ stW (L ++ [q1]) (ndX (va_up kd q1 false) (va_up hs q1 hz) (va_up ky q1 k9) (va_up vl q1 v9) (va_up (va_up nx q1 none) p (some q1)) (va_up bf q1 tl) (afn af q1 tl) pa lf rt pv rd))) (fun _ h => h.ordT [1, 0] 2 rfl rfl rfl) ?_
    exact kx l1 p hLb i hi q1 hq2
  | cons u t ih9 =>
    intro l1 p hLb hsg i hi
    have hnx : nx p = some u := hsg.1
    have hpm : p ∈ Lb := by rw [hLb]; exact List.mem_append_right _ List.mem_cons_self
    have hum : u ∈ Lb := by rw [hLb]; exact List.mem_append_right _ (List.mem_cons_of_mem _ List.mem_cons_self)
    have hune : hs u ≠ hz := hne u hum
    have ih := fun (l2 : List Nat) (u9 : Nat) (h1 : Lb = l2 ++ u9 :: t) (i9 : Nat) (h3 : l2.length = i9) (h2 : seg nx (nx u9) t none) => ih9 l2 u9 h1 h2 i9 h3
    refine r_aload hC 1 dJ20_putVal_134 rfl 136 rfl ?_
    refine r_getI (v := .ref u) hC kJ25 3 rfl q2250 (Or.inl rfl) (fun _ h => stW_get h ((hmL p hpm).1) (ndX_p ((hmL p hpm).2))) (congrArg (fun o9 => some (va_rf o9)) (hnx)) dJ20_putVal_136 139 rfl ?_
    refine r_dup hC dJ20_putVal_139 rfl 140 rfl ?_
    refine r_astore hC 10 [(10, .ref u), (12, .int (nI i)), (7, .ref p), (6, .ref tb), (5, .int 1), (4, .int 0), (3, .ref v9), (2, .ref k9), (1, .int hz), (0, .ref M)] dJ20_putVal_140 (Nat.le_of_ble_eq_true rfl) rfl 142 rfl ?_
    refine r_ifnonnull hC 175 dJ20_putVal_142 (by decide) ?_
    refine r_aload hC 0 dJ20_putVal_175 rfl 177 rfl ?_
    refine r_getI (v := .int (hs u)) hC kJ25 0 rfl q2234 (Or.inl rfl) (fun _ h => stW_get h ((hmL u hum).1) (ndX_p ((hmL u hum).2))) rfl dJ20_putVal_177 180 rfl ?_
    refine r_iload_n hC 8 dJ20_putVal_180 rfl 181 rfl ?_
    refine r_icne hC 212 dJ20_putVal_181 (by decide) 184 rfl (fun _ => ?_) (fun h => absurd h (hune))
    refine r_aload hC 0 dJ20_putVal_212 rfl 214 rfl ?_
    refine r_astore hC 7 [(7, .ref u), (10, .ref u), (12, .int (nI i)), (6, .ref tb), (5, .int 1), (4, .int 0), (3, .ref v9), (2, .ref k9), (1, .int hz), (0, .ref M)] dJ20_putVal_214 (Nat.le_of_ble_eq_true rfl) rfl 216 rfl ?_
    refine r_iinc hC (nI (i + 1)) 12 2 [(12, .int (nI (i + 1))), (7, .ref u), (10, .ref u), (6, .ref tb), (5, .int 1), (4, .int 0), (3, .ref v9), (2, .ref k9), (1, .int hz), (0, .ref M)] dJ20_putVal_216 rfl (nI_add i 1) (Nat.le_of_ble_eq_true rfl) rfl 219 rfl ?_
    refine r_goto hC 134 dJ20_putVal_219 (by decide) ?_
    refine rn.sub (lv' := [(12, .int (nI (i + 1))), (7, .ref u), (6, .ref tb), (5, .int 1), (4, .int 0), (3, .ref v9), (2, .ref k9), (1, .int hz), (0, .ref M)]) [0, 1, 3, 4, 5, 6, 7, 8, 9] rfl ?_
    exact ih (l1 ++ [p]) u (by rw [hLb, List.append_assoc]; rfl) (i + 1) (by rw [List.length_append]; exact congrArg (· + 1) hi) hsg.2
set_option maxHeartbeats 4000000 in
set_option maxRecDepth 100000 in
theorem lpJ20_pv8N {C : xC} {F : Nat → Prop} {V0 : xV} (c9 s9 : Nat) (hG : xGood (xGG C)) (hC : xCtx C RJ20 cJ20_putVal 13 (some (.object "java/lang/Object")) { frames := 8, locals := 211, cells := c9, slots := s9 }) (k n : Nat) (L : List Nat) (kd : Nat → Bool) (hs : Nat → Int32) (ky vl : Nat → Nat) (nx bf af pa lf rt pv : Nat → Option Nat) (rd : Nat → Int32) (M : Nat) (es : Option Nat) (sz th : Nat) (mc : Int32) (hd tl : Option Nat) (tb cap : Nat) (tf : Nat → Option Nat) (hcap : capI cap) (hz : Int32) (k9 v9 : Nat) (i : Nat) (hi7 : i < 7) (kx : rn C (xSt F V0 ([(M, .inr (25, [.ref tb, va_rf es, .int (nI sz), .int mc, .int (nI th), .float 1061158912, .null, .null, va_rf hd, va_rf tl, .int 0, .int 0])), (tb, .inl (8, cap, .inr (.inr (.inr (.inr tf)))))] ++ stW L (ndX kd hs ky vl nx bf af pa lf rt pv rd))) k n 259 [(5, .int 1), (0, .ref M)] []) : rn C (xSt F V0 ([(M, .inr (25, [.ref tb, va_rf es, .int (nI sz), .int mc, .int (nI th), .float 1061158912, .null, .null, va_rf hd, va_rf tl, .int 0, .int 0])), (tb, .inl (8, cap, .inr (.inr (.inr (.inr tf)))))] ++ stW L (ndX kd hs ky vl nx bf af pa lf rt pv rd))) k n 158 [(12, .int (nI i)), (6, .ref tb), (10, .null), (5, .int 1), (2, .ref k9), (1, .int hz), (0, .ref M)] [] := by
  have hle := hcap.le
  refine r_iload hC 0 dJ20_putVal_158 rfl 160 rfl ?_
  refine r_bipush hC 7 dJ20_putVal_160 bp_7 162 rfl ?_
  refine r_iclt hC 222 dJ20_putVal_162 (by decide) 165 rfl (fun _ => ?_) (fun h => absurd (lt7 hi7) h)
  refine r_aloadN hC 2 dJ20_putVal_222 rfl 224 rfl ?_
  refine r_ifnullN hC 259 dJ20_putVal_224 (by decide) ?_
  refine rn.sub (lv' := [(5, .int 1), (0, .ref M)]) [3, 6] rfl ?_
  exact kx
set_option maxHeartbeats 4000000 in
set_option maxRecDepth 100000 in
theorem lpJ20_pv8B {C : xC} {F : Nat → Prop} {V0 : xV} (c9 s9 : Nat) (hG : xGood (xGG C)) (hC : xCtx C RJ20 cJ20_putVal 13 (some (.object "java/lang/Object")) { frames := 8, locals := 211, cells := c9, slots := s9 }) (k n : Nat) (L : List Nat) (kd : Nat → Bool) (hs : Nat → Int32) (ky vl : Nat → Nat) (nx bf af pa lf rt pv : Nat → Option Nat) (rd : Nat → Int32) (M : Nat) (es : Option Nat) (sz th : Nat) (mc : Int32) (hd tl : Option Nat) (tb cap : Nat) (tf : Nat → Option Nat) (hcap : capI cap) (hz : Int32) (k9 v9 : Nat) (i : Nat) (hi7 : 7 ≤ i) (hi31 : i < 2147483648) (b : Nat) (hb : ixN hz cap = b) (hc64 : 64 ≤ cap) (ord Lb : List Nat) (x0 : Nat) (hf : tf b = some x0) (hseg : seg nx (some x0) Lb none) (hk9 : ∀ a, a ∈ Lb → kd a = false) (hl : lnk bf af hd tl ord) (hoL : ∀ a, a ∈ ord → a ∈ L) (hLo : ∀ a, a ∈ Lb → a ∈ ord) (hnd : Lb.Nodup) (hlen : 6 < Lb.length) (hixs : ∀ a, a ∈ Lb → (nI (cap - 1) &&& hs a) = nI b) (hinj : ∀ a a9, a ∈ ord → a9 ∈ ord → hs a = hs a9 → a = a9) (hkc : k + Lb.length ≤ c9) (hnc : n + 11 * Lb.length ≤ s9) (kx : ∀ (L' ord' Ns : List Nat) (kd' : Nat → Bool) (hs' : Nat → Int32) (ky' vl' : Nat → Nat) (nx' bf' af' pa' lf' rt' pv' : Nat → Option Nat) (rd' : Nat → Int32) (hd' tl' : Option Nat) (root : Nat), brI L ord kd hs ky vl nx pa lf rt pv Lb L' ord' kd' hs' ky' vl' nx' bf' af' pa' lf' rt' pv' hd' tl' Ns → binI kd' hs' nx' pa' lf' rt' pv' (some root) Ns → (∀ a, a ∈ Ns → kd' a = true) → rn C (xSt F V0 ([(M, .inr (25, [.ref tb, va_rf es, .int (nI sz), .int mc, .int (nI th), .float 1061158912, .null, .null, va_rf hd', va_rf tl', .int 0, .int 0])), (tb, .inl (8, cap, .inr (.inr (.inr (.inr (va_up tf b (some root)))))))] ++ stW L' (ndX kd' hs' ky' vl' nx' bf' af' pa' lf' rt' pv' rd'))) (k + Lb.length) (n + 11 * Lb.length) 259 [(5, .int 1), (0, .ref M)] []) : rn C (xSt F V0 ([(M, .inr (25, [.ref tb, va_rf es, .int (nI sz), .int mc, .int (nI th), .float 1061158912, .null, .null, va_rf hd, va_rf tl, .int 0, .int 0])), (tb, .inl (8, cap, .inr (.inr (.inr (.inr tf)))))] ++ stW L (ndX kd hs ky vl nx bf af pa lf rt pv rd))) k n 158 [(12, .int (nI i)), (6, .ref tb), (10, .null), (5, .int 1), (2, .ref k9), (1, .int hz), (0, .ref M)] [] := by
  have hle := hcap.le
  have hbl : b < cap := by rw [← hb]; exact ixN_lt hcap
  refine r_iload hC 0 dJ20_putVal_158 rfl 160 rfl ?_
  refine r_bipush hC 7 dJ20_putVal_160 bp_7 162 rfl ?_
  refine r_iclt hC 222 dJ20_putVal_162 (by decide) 165 rfl (fun h => absurd h (ge7 hi7 (by omega))) (fun _ => ?_)
  refine r_aload_n hC 6 dJ20_putVal_165 rfl 166 rfl ?_
  refine r_aload hC 1 dJ20_putVal_166 rfl 168 rfl ?_
  refine r_iload_n hC 5 dJ20_putVal_168 rfl 169 rfl ?_
  refine xCall.ct (wcx := [(M, .inr (25, [.ref tb, va_rf es, .int (nI sz), .int mc, .int (nI th), .float 1061158912, .null, .null, va_rf hd, va_rf tl, .int 0, .int 0])), (tb, .inl (8, cap, .inr (.inr (.inr (.inr tf)))))]) (wr := []) (r_cV hC kJ21 M [.ref tb, .int hz] mVJ20_treeifyBin_J21 q2339 (fun _ h => ⟨_, h.get 0 rfl⟩) (fun V9 h9 => (metJ20_treeifyBinB _ _ hG L kd hs ky vl nx bf af pa lf rt pv rd M (some tb) es sz th mc hd tl tb cap b tf (by omega) (by omega) hbl hc64 hz ((ix_and hcap).trans (by rw [hb])) ord Lb x0 hf hseg hk9 hl hoL hLo hnd hlen hixs hinj) V9 (h9.in.cut (wcx := [(M, .inr (25, [.ref tb, va_rf es, .int (nI sz), .int mc, .int (nI th), .float 1061158912, .null, .null, va_rf hd, va_rf tl, .int 0, .int 0])), (tb, .inl (8, cap, .inr (.inr (.inr (.inr tf)))))]) (wr := []) [0, 1] [] 2 rfl rfl rfl rfl)) ⟨rfl, rfl⟩ (by first | omega | (dsimp only; omega)) (by first | omega | (dsimp only; omega)) rfl (Nat.le_of_ble_eq_true rfl) dJ20_putVal_169) [0, 1] [] 2 rfl rfl rfl rfl (k + Lb.length) (n + (11 * Lb.length)) 172 rfl rfl rfl (fun v1 w2 h3 => ?_) (fun _ _ h => h.elim)
  obtain ⟨L', ord', Ns, kd', hs', ky', vl', nx', bf', af', pa', lf', rt', pv', rd', hd', tl', root, rfl, hR', hB', hK', rfl⟩ := h3
  refine rn.mono (J := xSt F V0 ([(M, .inr (25, [.ref tb, va_rf es, .int (nI sz), .int mc, .int (nI th), .float 1061158912, .null, .null, va_rf hd', va_rf tl', .int 0, .int 0])), (tb, .inl (8, cap, .inr (.inr (.inr (.inr (va_up tf b (some root)))))))] ++ stW L' (ndX kd' hs' ky' vl' nx' bf' af' pa' lf' rt' pv' rd'))) (fun _ h => by rw [← List.append_assoc] at h; exact h) ?_
  show rn C (xSt F V0 ([(M, .inr (25, [.ref tb, va_rf es, .int (nI sz), .int mc, .int (nI th), .float 1061158912, .null, .null, va_rf hd', va_rf tl', .int 0, .int 0])), (tb, .inl (8, cap, .inr (.inr (.inr (.inr (va_up tf b (some root)))))))] ++ stW L' (ndX kd' hs' ky' vl' nx' bf' af' pa' lf' rt' pv' rd'))) (k + Lb.length) (n + (11 * Lb.length)) 172 [(12, .int (nI i)), (6, .ref tb), (10, .null), (5, .int 1), (2, .ref k9), (1, .int hz), (0, .ref M)] []
  refine r_goto hC 222 dJ20_putVal_172 (by decide) ?_
  refine r_aloadN hC 2 dJ20_putVal_222 rfl 224 rfl ?_
  refine r_ifnullN hC 259 dJ20_putVal_224 (by decide) ?_
  refine rn.sub (lv' := [(5, .int 1), (0, .ref M)]) [3, 6] rfl ?_
  exact kx L' ord' Ns kd' hs' ky' vl' nx' bf' af' pa' lf' rt' pv' rd' hd' tl' root hR' hB' hK'
set_option maxHeartbeats 4000000 in
set_option maxRecDepth 100000 in
theorem lpJ20_pv8C {C : xC} {F : Nat → Prop} {V0 : xV} (c9 s9 : Nat) (hG : xGood (xGG C)) (hC : xCtx C RJ20 cJ20_putVal 13 (some (.object "java/lang/Object")) { frames := 8, locals := 211, cells := c9, slots := s9 }) (k n : Nat) (L : List Nat) (kd : Nat → Bool) (hs : Nat → Int32) (ky vl : Nat → Nat) (nx bf af pa lf rt pv : Nat → Option Nat) (rd : Nat → Int32) (M : Nat) (es : Option Nat) (sz th : Nat) (mc : Int32) (hd tl : Option Nat) (tb cap : Nat) (tf : Nat → Option Nat) (hcap : capI cap) (hz : Int32) (k9 v9 : Nat) (i : Nat) (hi7 : 7 ≤ i) (hi31 : i < 2147483648) (hc64 : cap < 64) (hcap2 : capI (2 * cap)) (hth1 : 1 ≤ th) (hth2 : th ≤ 512) (bins : Nat → List Nat) (ord : List Nat) (hbi : binsI kd hs nx pa lf rt pv tf cap bins ord) (hl : lnk bf af hd tl ord) (hoL : ∀ a, a ∈ ord → a ∈ L) (hD : ((ord.map (dt hs ky vl)).map (fun q => q.1)).Nodup) (hon : ord.length ≤ 1000) (hkc : k + (1 + ord.length) ≤ c9) (hnc : n + (2 * cap + 6 * ord.length) ≤ s9) (kx : ∀ (nt : Nat) (nf : Nat → Option Nat) (nb : Nat → List Nat) (L2 ord2 : List Nat) (kd2 : Nat → Bool) (hs2 : Nat → Int32) (ky2 vl2 : Nat → Nat) (nx2 bf2 af2 pa2 lf2 rt2 pv2 : Nat → Option Nat) (rd2 : Nat → Int32) (hd2 tl2 : Option Nat), binsI kd2 hs2 nx2 pa2 lf2 rt2 pv2 nf (2 * cap) nb ord2 → lnk bf2 af2 hd2 tl2 ord2 → (∀ a, a ∈ ord2 → a ∈ L2) → ord2.map (dt hs2 ky2 vl2) = ord.map (dt hs ky vl) → rn C (xSt F V0 ([(M, .inr (25, [.ref nt, va_rf es, .int (nI sz), .int mc, .int (nI (2 * th)), .float 1061158912, .null, .null, va_rf hd2, va_rf tl2, .int 0, .int 0])), (nt, .inl (8, 2 * cap, .inr (.inr (.inr (.inr nf)))))] ++ stW L2 (ndX kd2 hs2 ky2 vl2 nx2 bf2 af2 pa2 lf2 rt2 pv2 rd2))) (k + (1 + ord.length)) (n + (2 * cap + 6 * ord.length)) 259 [(5, .int 1), (0, .ref M)] []) : rn C (xSt F V0 ([(M, .inr (25, [.ref tb, va_rf es, .int (nI sz), .int mc, .int (nI th), .float 1061158912, .null, .null, va_rf hd, va_rf tl, .int 0, .int 0])), (tb, .inl (8, cap, .inr (.inr (.inr (.inr tf)))))] ++ stW L (ndX kd hs ky vl nx bf af pa lf rt pv rd))) k n 158 [(12, .int (nI i)), (6, .ref tb), (10, .null), (5, .int 1), (2, .ref k9), (1, .int hz), (0, .ref M)] [] := by
  have hle := hcap.le
  refine r_iload hC 0 dJ20_putVal_158 rfl 160 rfl ?_
  refine r_bipush hC 7 dJ20_putVal_160 bp_7 162 rfl ?_
  refine r_iclt hC 222 dJ20_putVal_162 (by decide) 165 rfl (fun h => absurd h (ge7 hi7 (by omega))) (fun _ => ?_)
  refine r_aload_n hC 6 dJ20_putVal_165 rfl 166 rfl ?_
  refine r_aload hC 1 dJ20_putVal_166 rfl 168 rfl ?_
  refine r_iload_n hC 5 dJ20_putVal_168 rfl 169 rfl ?_
  refine xCall.ct (wcx := [(M, .inr (25, [.ref tb, va_rf es, .int (nI sz), .int mc, .int (nI th), .float 1061158912, .null, .null, va_rf hd, va_rf tl, .int 0, .int 0])), (tb, .inl (8, cap, .inr (.inr (.inr (.inr tf)))))]) (wr := []) (r_cV hC kJ21 M [.ref tb, .int hz] mVJ20_treeifyBin_J21 q2339 (fun _ h => ⟨_, h.get 0 rfl⟩) (fun V9 h9 => (metJ20_treeifyBinC _ _ hG L kd hs ky vl nx bf af pa lf rt pv rd M es sz th mc hd tl tb cap tf hcap hcap2 hth1 hth2 bins ord hbi hl hoL hD hon hz hc64) V9 (h9.in.cut (wcx := [(M, .inr (25, [.ref tb, va_rf es, .int (nI sz), .int mc, .int (nI th), .float 1061158912, .null, .null, va_rf hd, va_rf tl, .int 0, .int 0])), (tb, .inl (8, cap, .inr (.inr (.inr (.inr tf)))))]) (wr := []) [0, 1] [] 2 rfl rfl rfl rfl)) ⟨rfl, rfl⟩ (by first | omega | (dsimp only; omega)) (by first | omega | (dsimp only; omega)) rfl (Nat.le_of_ble_eq_true rfl) dJ20_putVal_169) [0, 1] [] 2 rfl rfl rfl rfl (k + (1 + ord.length)) (n + (2 * cap + 6 * ord.length)) 172 rfl rfl rfl (fun v1 w2 h3 => ?_) (fun _ _ h => h.elim)
  obtain ⟨nt, nf, nb, L2, ord2, kd2, hs2, ky2, vl2, nx2, bf2, af2, pa2, lf2, rt2, pv2, rd2, hd2, tl2, rfl, hZ1, hZ2, hZ3, hZ4, rfl⟩ := h3
  refine rn.mono (J := xSt F V0 ([(M, .inr (25, [.ref nt, va_rf es, .int (nI sz), .int mc, .int (nI (2 * th)), .float 1061158912, .null, .null, va_rf hd2, va_rf tl2, .int 0, .int 0])), (nt, .inl (8, 2 * cap, .inr (.inr (.inr (.inr nf)))))] ++ stW L2 (ndX kd2 hs2 ky2 vl2 nx2 bf2 af2 pa2 lf2 rt2 pv2 rd2))) (fun _ h => by rw [← List.append_assoc] at h; exact h) ?_
  show rn C (xSt F V0 ([(M, .inr (25, [.ref nt, va_rf es, .int (nI sz), .int mc, .int (nI (2 * th)), .float 1061158912, .null, .null, va_rf hd2, va_rf tl2, .int 0, .int 0])), (nt, .inl (8, 2 * cap, .inr (.inr (.inr (.inr nf)))))] ++ stW L2 (ndX kd2 hs2 ky2 vl2 nx2 bf2 af2 pa2 lf2 rt2 pv2 rd2))) (k + (1 + ord.length)) (n + (2 * cap + 6 * ord.length)) 172 [(12, .int (nI i)), (6, .ref tb), (10, .null), (5, .int 1), (2, .ref k9), (1, .int hz), (0, .ref M)] []
  refine r_goto hC 222 dJ20_putVal_172 (by decide) ?_
  refine r_aloadN hC 2 dJ20_putVal_222 rfl 224 rfl ?_
  refine r_ifnullN hC 259 dJ20_putVal_224 (by decide) ?_
  refine rn.sub (lv' := [(5, .int 1), (0, .ref M)]) [3, 6] rfl ?_
  exact kx nt nf nb L2 ord2 kd2 hs2 ky2 vl2 nx2 bf2 af2 pa2 lf2 rt2 pv2 rd2 hd2 tl2 hZ1 hZ2 hZ3 hZ4
set_option maxHeartbeats 4000000 in
set_option maxRecDepth 100000 in
theorem lpJ20_pvT {C : xC} {F : Nat → Prop} {V0 : xV} (c9 s9 : Nat) (hG : xGood (xGG C)) (hC : xCtx C RJ20 cJ20_putVal 13 (some (.object "java/lang/Object")) { frames := 8, locals := 211, cells := c9, slots := s9 }) (k n : Nat) (L : List Nat) (kd : Nat → Bool) (hs : Nat → Int32) (ky vl : Nat → Nat) (nx bf af pa lf rt pv : Nat → Option Nat) (rd : Nat → Int32) (M : Nat) (es : Option Nat) (sz th : Nat) (mc : Int32) (hd tl : Option Nat) (tb cap : Nat) (tf : Nat → Option Nat) (hcap : capI cap) (hz : Int32) (k9 v9 : Nat) (b : Nat) (hb : ixN hz cap = b) (ord Lb : List Nat) (f : Nat) (hf : tf b = some f) (hseg : seg nx (tf b) Lb none) (hbck : bck pv none Lb) (hnd : Lb.Nodup) (hlen : 6 < Lb.length) (hml : ∀ a, a ∈ Lb → a ∈ L ∧ kd a = true) (hT : tI (fun a => (hs a).toInt) (fun a => a ∈ Lb) pa lf rt f) (hne : ∀ a, a ∈ Lb → hs a ≠ hz) (hl : lnk bf af hd tl ord) (hoL : ∀ a, a ∈ ord → a ∈ L) (hixs : ∀ a, a ∈ Lb → (nI (cap - 1) &&& hs a) = nI b) (hkc : k + 1 ≤ c9) (hnc : n + 11 ≤ s9) (kx : ∀ (q : Nat) (kd' : Nat → Bool) (hs' : Nat → Int32) (ky' vl' : Nat → Nat) (nx' bf' af' pa' lf' rt' pv' : Nat → Option Nat) (rd' : Nat → Int32) (hd' : Option Nat) (Ns : List Nat) (root' : Nat), insI L ord kd hs ky vl nx pa lf rt pv Lb q hz k9 v9 kd' hs' ky' vl' nx' bf' af' pa' lf' rt' pv' hd' Ns → binI kd' hs' nx' pa' lf' rt' pv' (some root') Ns → rn C (xSt F V0 ([(M, .inr (25, [.ref tb, va_rf es, .int (nI sz), .int mc, .int (nI th), .float 1061158912, .null, .null, va_rf hd', .ref q, .int 0, .int 0])), (tb, .inl (8, cap, .inr (.inr (.inr (.inr (va_up tf b (some root')))))))] ++ stW (L ++ [q]) (ndX kd' hs' ky' vl' nx' bf' af' pa' lf' rt' pv' rd'))) (k + 1) (n + 11) 259 [(5, .int 1), (0, .ref M)] []) : rn C (xSt F V0 ([(M, .inr (25, [.ref tb, va_rf es, .int (nI sz), .int mc, .int (nI th), .float 1061158912, .null, .null, va_rf hd, va_rf tl, .int 0, .int 0])), (tb, .inl (8, cap, .inr (.inr (.inr (.inr tf)))))] ++ stW L (ndX kd hs ky vl nx bf af pa lf rt pv rd))) k n 0 [(5, .int 1), (4, .int 0), (3, .ref v9), (2, .ref k9), (1, .int hz), (0, .ref M)] [] := by
  have hle := hcap.le
  have hbl : b < cap := by rw [← hb]; exact ixN_lt hcap
  have hfm : f ∈ Lb := by rw [hf] at hseg; obtain ⟨t9, ht9⟩ := seg_some hseg; rw [ht9]; exact List.mem_cons_self
  refine r_aload_n hC 5 dJ20_putVal_0 rfl 1 rfl ?_
  refine r_get (v := .ref tb) hC kJ21 0 rfl q1770 (fun _ h => h.get 0 rfl) rfl dJ20_putVal_1 4 rfl ?_
  refine r_dup hC dJ20_putVal_4 rfl 5 rfl ?_
  refine r_astore hC 6 [(6, .ref tb), (5, .int 1), (4, .int 0), (3, .ref v9), (2, .ref k9), (1, .int hz), (0, .ref M)] dJ20_putVal_5 (Nat.le_of_ble_eq_true rfl) rfl 7 rfl ?_
  refine r_ifnull hC dJ20_putVal_7 10 rfl ?_
  refine r_aload hC 0 dJ20_putVal_10 rfl 12 rfl ?_
  refine r_alen hC (nI cap) (t := 8) rfl (fun _ h => h.get 1 rfl) rfl dJ20_putVal_12 13 rfl ?_
  refine r_dup hC dJ20_putVal_13 rfl 14 rfl ?_
  refine r_istore hC 8 [(8, .int (nI cap)), (6, .ref tb), (5, .int 1), (4, .int 0), (3, .ref v9), (2, .ref k9), (1, .int hz), (0, .ref M)] dJ20_putVal_14 (Nat.le_of_ble_eq_true rfl) rfl 16 rfl ?_
  refine r_ifne hC 29 dJ20_putVal_16 (by decide) 19 rfl (fun _ => ?_) (fun h => absurd h (nz_nI (by omega) (by omega)))
  refine r_aload hC 1 dJ20_putVal_29 rfl 31 rfl ?_
  refine r_iload hC 0 dJ20_putVal_31 rfl 33 rfl ?_
  refine r_iconst hC 1 dJ20_putVal_33 ic_1 34 rfl ?_
  refine r_isub hC (nI (cap - 1)) dJ20_putVal_34  (pk_sub (a := cap) (b := 1) (by omega)) 35 rfl ?_
  refine r_iload_n hC 6 dJ20_putVal_35 rfl 36 rfl ?_
  refine r_iand hC (nI b) dJ20_putVal_36  ((ix_and hcap).trans (by rw [hb])) 37 rfl ?_
  refine r_dup hC dJ20_putVal_37 rfl 38 rfl ?_
  refine r_istore hC 9 [(9, .int (nI b)), (8, .int (nI cap)), (6, .ref tb), (5, .int 1), (4, .int 0), (3, .ref v9), (2, .ref k9), (1, .int hz), (0, .ref M)] dJ20_putVal_38 (Nat.le_of_ble_eq_true rfl) rfl 40 rfl ?_
  refine r_aald hC b (xix_n b hbl (by omega)) (t := 8) rfl rfl (fun _ h => h.get 1 rfl) (some f) (hf) dJ20_putVal_40 41 rfl ?_
  show rn C (xSt F V0 ([(M, .inr (25, [.ref tb, va_rf es, .int (nI sz), .int mc, .int (nI th), .float 1061158912, .null, .null, va_rf hd, va_rf tl, .int 0, .int 0])), (tb, .inl (8, cap, .inr (.inr (.inr (.inr tf)))))] ++ stW L (ndX kd hs ky vl nx bf af pa lf rt pv rd))) k n 41 [(9, .int (nI b)), (8, .int (nI cap)), (6, .ref tb), (5, .int 1), (4, .int 0), (3, .ref v9), (2, .ref k9), (1, .int hz), (0, .ref M)] [.ref f]
  refine r_dup hC dJ20_putVal_41 rfl 42 rfl ?_
  refine r_astore hC 7 [(7, .ref f), (9, .int (nI b)), (8, .int (nI cap)), (6, .ref tb), (5, .int 1), (4, .int 0), (3, .ref v9), (2, .ref k9), (1, .int hz), (0, .ref M)] dJ20_putVal_42 (Nat.le_of_ble_eq_true rfl) rfl 44 rfl ?_
  refine r_ifnonnull hC 63 dJ20_putVal_44 (by decide) ?_
  refine r_aload hC 0 dJ20_putVal_63 rfl 65 rfl ?_
  refine r_getI (v := .int (hs f)) hC kJ26 0 rfl q2234 (Or.inl rfl) (fun _ h => stW_get h ((hml f hfm).1) (ndX_t ((hml f hfm).2))) rfl dJ20_putVal_65 68 rfl ?_
  refine r_iload_n hC 8 dJ20_putVal_68 rfl 69 rfl ?_
  refine r_icne hC 104 dJ20_putVal_69 (by decide) 72 rfl (fun _ => ?_) (fun h => absurd h (hne f hfm))
  refine r_aload hC 0 dJ20_putVal_104 rfl 106 rfl ?_
  refine r_instS hC kJ26 q1960 (fun _ h => ⟨_, stW_get h ((hml f hfm).1) (ndX_t ((hml f hfm).2))⟩) dJ20_putVal_106 109 rfl ?_
  refine r_ifeq hC 131 dJ20_putVal_109 (by decide) 112 rfl (fun h => absurd h (by decide)) (fun _ => ?_)
  refine r_aload hC 0 dJ20_putVal_112 rfl 114 rfl ?_
  refine r_castS hC kJ26 q1960 (fun _ h => ⟨_, stW_get h ((hml f hfm).1) (ndX_t ((hml f hfm).2))⟩) dJ20_putVal_114 117 rfl ?_
  refine r_aload_n hC 9 dJ20_putVal_117 rfl 118 rfl ?_
  refine r_aload hC 3 dJ20_putVal_118 rfl 120 rfl ?_
  refine r_iload_n hC 8 dJ20_putVal_120 rfl 121 rfl ?_
  refine r_aload_n hC 7 dJ20_putVal_121 rfl 122 rfl ?_
  refine r_aload_n hC 6 dJ20_putVal_122 rfl 123 rfl ?_
  refine xCall.ct (wcx := [(M, .inr (25, [.ref tb, va_rf es, .int (nI sz), .int mc, .int (nI th), .float 1061158912, .null, .null, va_rf hd, va_rf tl, .int 0, .int 0])), (tb, .inl (8, cap, .inr (.inr (.inr (.inr tf)))))]) (wr := []) (r_cV hC kJ26 f [.ref M, .ref tb, .int hz, .ref k9, .ref v9] mVJ26_putTreeVal q2299 (fun _ h => ⟨_, stW_get h ((hml f hfm).1) (ndX_t ((hml f hfm).2))⟩) (fun V9 h9 => (metJ26_putTreeVal _ _ hG L kd hs ky vl nx bf af pa lf rt pv rd M (some tb) es sz th mc hd tl tb cap b tf (by omega) (by omega) hbl hz k9 v9 ord Lb f hseg hbck hnd hlen hml hT hne hl hoL hixs ((ix_and hcap).trans (by rw [hb]))) V9 (h9.in.cut (wcx := [(M, .inr (25, [.ref tb, va_rf es, .int (nI sz), .int mc, .int (nI th), .float 1061158912, .null, .null, va_rf hd, va_rf tl, .int 0, .int 0])), (tb, .inl (8, cap, .inr (.inr (.inr (.inr tf)))))]) (wr := []) [0, 1] [] 2 rfl rfl rfl rfl)) ⟨rfl, rfl⟩ (by first | omega | (dsimp only; omega)) (by first | omega | (dsimp only; omega)) rfl (Nat.le_of_ble_eq_true rfl) dJ20_putVal_123) [0, 1] [] 2 rfl rfl rfl rfl (k + 1) (n + 11) 126 rfl rfl rfl (fun v1 w2 h3 => ?_) (fun _ _ h => h.elim)
  obtain ⟨q, kd', hs', ky', vl', nx', bf', af', pa', lf', rt', pv', rd', hd', Ns, root', rfl, hI', hB', rfl⟩ := h3
  refine rn.mono (J := xSt F V0 ([(M, .inr (25, [.ref tb, va_rf es, .int (nI sz), .int mc, .int (nI th), .float 1061158912, .null, .null, va_rf hd', .ref q, .int 0, .int 0])), (tb, .inl (8, cap, .inr (.inr (.inr (.inr (va_up tf b (some root')))))))] ++ stW (L ++ [q]) (ndX kd' hs' ky' vl' nx' bf' af' pa' lf' rt' pv' rd'))) (fun _ h => by rw [← List.append_assoc] at h; exact h) ?_
  show rn C (xSt F V0 ([(M, .inr (25, [.ref tb, va_rf es, .int (nI sz), .int mc, .int (nI th), .float 1061158912, .null, .null, va_rf hd', .ref q, .int 0, .int 0])), (tb, .inl (8, cap, .inr (.inr (.inr (.inr (va_up tf b (some root')))))))] ++ stW (L ++ [q]) (ndX kd' hs' ky' vl' nx' bf' af' pa' lf' rt' pv' rd'))) (k + 1) (n + 11) 126 [(7, .ref f), (9, .int (nI b)), (8, .int (nI cap)), (6, .ref tb), (5, .int 1), (4, .int 0), (3, .ref v9), (2, .ref k9), (1, .int hz), (0, .ref M)] [.null]
  refine r_astoreN hC 10 [(10, .null), (7, .ref f), (9, .int (nI b)), (8, .int (nI cap)), (6, .ref tb), (5, .int 1), (4, .int 0), (3, .ref v9), (2, .ref k9), (1, .int hz), (0, .ref M)] dJ20_putVal_126 (Nat.le_of_ble_eq_true rfl) rfl 128 rfl ?_
  refine r_goto hC 222 dJ20_putVal_128 (by decide) ?_
  refine r_aloadN hC 0 dJ20_putVal_222 rfl 224 rfl ?_
  refine r_ifnullN hC 259 dJ20_putVal_224 (by decide) ?_
  refine rn.sub (lv' := [(5, .int 1), (0, .ref M)]) [5, 10] rfl ?_
  exact kx q kd' hs' ky' vl' nx' bf' af' pa' lf' rt' pv' rd' hd' Ns root' hI' hB'
set_option maxHeartbeats 4000000 in
set_option maxRecDepth 100000 in
theorem lpJ20_pvtN {C : xC} {F : Nat → Prop} {V0 : xV} (c9 s9 : Nat) (hG : xGood (xGG C)) (hC : xCtx C RJ20 cJ20_putVal 13 (some (.object "java/lang/Object")) { frames := 8, locals := 211, cells := c9, slots := s9 }) (k n : Nat) (L : List Nat) (kd : Nat → Bool) (hs : Nat → Int32) (ky vl : Nat → Nat) (nx bf af pa lf rt pv : Nat → Option Nat) (rd : Nat → Int32) (M : Nat) (es : Option Nat) (sz th : Nat) (mc : Int32) (x9 : Nat) (tl : Option Nat) (tb cap : Nat) (tf : Nat → Option Nat) (hcap : capI cap) (hsz : sz + 1 ≤ th) (hth : th < 2147483648) (hkc : k ≤ c9) (hnc : n ≤ s9) (kx : rn C (xSt F V0 ([(M, .inr (25, [.ref tb, va_rf es, .int (nI (sz + 1)), .int (mc + 1), .int (nI th), .float 1061158912, .null, .null, .ref x9, va_rf tl, .int 0, .int 0])), (tb, .inl (8, cap, .inr (.inr (.inr (.inr tf)))))] ++ stW L (ndX kd hs ky vl nx bf af pa lf rt pv rd))) k n 299 [] [.null]) : rn C (xSt F V0 ([(M, .inr (25, [.ref tb, va_rf es, .int (nI sz), .int mc, .int (nI th), .float 1061158912, .null, .null, .ref x9, va_rf tl, .int 0, .int 0])), (tb, .inl (8, cap, .inr (.inr (.inr (.inr tf)))))] ++ stW L (ndX kd hs ky vl nx bf af pa lf rt pv rd))) k n 259 [(5, .int 1), (0, .ref M)] [] := by
  refine r_aload_n hC 1 dJ20_putVal_259 rfl 260 rfl ?_
  refine r_dup hC dJ20_putVal_260 rfl 261 rfl ?_
  refine r_get (v := .int mc) hC kJ21 3 rfl q1777 (fun _ h => h.get 0 rfl) rfl dJ20_putVal_261 264 rfl ?_
  refine r_iconst hC 1 dJ20_putVal_264 ic_1 265 rfl ?_
  refine r_iadd hC (mc + 1) dJ20_putVal_265  (rfl) 266 rfl ?_
  refine r_put (J := xSt F V0 ([(M, .inr (25, [.ref tb, va_rf es, .int (nI sz), .int (mc + 1), .int (nI th), .float 1061158912, .null, .null, .ref x9, va_rf tl, .int 0, .int 0])), (tb, .inl (8, cap, .inr (.inr (.inr (.inr tf)))))] ++ stW L (ndX kd hs ky vl nx bf af pa lf rt pv rd))) hC kJ21 3 rfl q1777 rfl (fun _ h => h.get 0 rfl) (Nat.le_of_ble_eq_true rfl) (rfl) (rfl) dJ20_putVal_266 (fun _ h => h.set 0 _ rfl) 269 rfl ?_
  refine r_aload_n hC 1 dJ20_putVal_269 rfl 270 rfl ?_
  refine r_dup hC dJ20_putVal_270 rfl 271 rfl ?_
  refine r_get (v := .int (nI sz)) hC kJ21 2 rfl q1773 (fun _ h => h.get 0 rfl) rfl dJ20_putVal_271 274 rfl ?_
  refine r_iconst hC 1 dJ20_putVal_274 ic_1 275 rfl ?_
  refine r_iadd hC (nI (sz + 1)) dJ20_putVal_275  (nI_add sz 1) 276 rfl ?_
  refine r_dup_x1 hC dJ20_putVal_276 rfl rfl 277 rfl ?_
  refine r_put (J := xSt F V0 ([(M, .inr (25, [.ref tb, va_rf es, .int (nI (sz + 1)), .int (mc + 1), .int (nI th), .float 1061158912, .null, .null, .ref x9, va_rf tl, .int 0, .int 0])), (tb, .inl (8, cap, .inr (.inr (.inr (.inr tf)))))] ++ stW L (ndX kd hs ky vl nx bf af pa lf rt pv rd))) hC kJ21 2 rfl q1773 rfl (fun _ h => h.get 0 rfl) (Nat.le_of_ble_eq_true rfl) (rfl) (rfl) dJ20_putVal_277 (fun _ h => h.set 0 _ rfl) 280 rfl ?_
  refine r_aload_n hC 1 dJ20_putVal_280 rfl 281 rfl ?_
  refine r_get (v := .int (nI th)) hC kJ21 4 rfl q1778 (fun _ h => h.get 0 rfl) rfl dJ20_putVal_281 284 rfl ?_
  refine r_icle hC 292 dJ20_putVal_284 (by decide) 287 rfl (fun _ => ?_) (fun h => absurd (nI_le (by omega) (by omega)) h)
  refine r_aload_n hC 1 dJ20_putVal_292 rfl 293 rfl ?_
  refine r_iload hC 0 dJ20_putVal_293 rfl 295 rfl ?_
  refine xCall.r (r := none) (r_cVD hC hG kJ21 M [.int 1] mDJ21_afterNodeInsertion_J21 q2357 (fun _ h => ⟨_, h.get 0 rfl⟩) (fun V9 h9 => (metJ21_afterNodeInsertion _ _ hG M (some tb) es (sz + 1) th (mc + 1) tl x9) V9 (h9.in.sub [0] rfl rfl)) ⟨rfl, rfl⟩ (by first | omega | (dsimp only; omega)) (by first | omega | (dsimp only; omega)) rfl (Nat.le_of_ble_eq_true rfl) dJ20_putVal_295) (k + 0) (n + 0) 298 rfl rfl rfl ?_
  refine r_null hC dJ20_putVal_298 299 rfl ?_
  refine rn.sub (lv' := []) [] rfl ?_
  exact kx
theorem lnk_hd {bf af : Nat → Option Nat} {hd tl : Option Nat} {ord : List Nat} (h : lnk bf af hd tl ord) (hn : ord ≠ []) : ∃ x, hd = some x := by
  cases ho : ord with
  | nil => exact absurd ho hn
  | cons c t =>
    have h1 := h.1
    rw [ho] at h1
    exact ⟨c, h1.1⟩
theorem gt_nI {a b : Nat} (h : b < a) (h2 : a < 2147483648) : ¬ nI a ≤ nI b := by
  rw [Int32.le_iff_toInt_le, nI_toInt (by omega), nI_toInt (by omega)]
  omega
set_option maxHeartbeats 4000000 in
set_option maxRecDepth 100000 in
theorem lpJ20_pvtR {C : xC} {F : Nat → Prop} {V0 : xV} (c9 s9 : Nat) (hG : xGood (xGG C)) (hC : xCtx C RJ20 cJ20_putVal 13 (some (.object "java/lang/Object")) { frames := 8, locals := 211, cells := c9, slots := s9 }) (k n : Nat) (L : List Nat) (kd : Nat → Bool) (hs : Nat → Int32) (ky vl : Nat → Nat) (nx bf af pa lf rt pv : Nat → Option Nat) (rd : Nat → Int32) (M : Nat) (es : Option Nat) (sz th : Nat) (mc : Int32) (x9 : Nat) (tl : Option Nat) (tb cap : Nat) (tf : Nat → Option Nat) (hcap : capI cap) (hsz : th < sz + 1) (hsz31 : sz + 1 < 2147483648) (hcap2 : capI (2 * cap)) (hth1 : 1 ≤ th) (hth2 : th ≤ 512) (bins : Nat → List Nat) (ord : List Nat) (hbi : binsI kd hs nx pa lf rt pv tf cap bins ord) (hl : lnk bf af (some x9) tl ord) (hoL : ∀ a, a ∈ ord → a ∈ L) (hD : ((ord.map (dt hs ky vl)).map (fun q => q.1)).Nodup) (hon : ord.length ≤ 1000) (hone : ord ≠ []) (hkc : k + (1 + ord.length) ≤ c9) (hnc : n + (2 * cap + 6 * ord.length) ≤ s9) (kx : ∀ (nt : Nat) (nf : Nat → Option Nat) (nb : Nat → List Nat) (L2 ord2 : List Nat) (kd2 : Nat → Bool) (hs2 : Nat → Int32) (ky2 vl2 : Nat → Nat) (nx2 bf2 af2 pa2 lf2 rt2 pv2 : Nat → Option Nat) (rd2 : Nat → Int32) (x2 : Nat) (tl2 : Option Nat), binsI kd2 hs2 nx2 pa2 lf2 rt2 pv2 nf (2 * cap) nb ord2 → lnk bf2 af2 (some x2) tl2 ord2 → (∀ a, a ∈ ord2 → a ∈ L2) → ord2.map (dt hs2 ky2 vl2) = ord.map (dt hs ky vl) → rn C (xSt F V0 ([(M, .inr (25, [.ref nt, va_rf es, .int (nI (sz + 1)), .int (mc + 1), .int (nI (2 * th)), .float 1061158912, .null, .null, .ref x2, va_rf tl2, .int 0, .int 0])), (nt, .inl (8, 2 * cap, .inr (.inr (.inr (.inr nf)))))] ++ stW L2 (ndX kd2 hs2 ky2 vl2 nx2 bf2 af2 pa2 lf2 rt2 pv2 rd2))) (k + (1 + ord.length)) (n + (2 * cap + 6 * ord.length)) 299 [] [.null]) : rn C (xSt F V0 ([(M, .inr (25, [.ref tb, va_rf es, .int (nI sz), .int mc, .int (nI th), .float 1061158912, .null, .null, .ref x9, va_rf tl, .int 0, .int 0])), (tb, .inl (8, cap, .inr (.inr (.inr (.inr tf)))))] ++ stW L (ndX kd hs ky vl nx bf af pa lf rt pv rd))) k n 259 [(5, .int 1), (0, .ref M)] [] := by
  have hle := hcap.le
  refine r_aload_n hC 1 dJ20_putVal_259 rfl 260 rfl ?_
  refine r_dup hC dJ20_putVal_260 rfl 261 rfl ?_
  refine r_get (v := .int mc) hC kJ21 3 rfl q1777 (fun _ h => h.get 0 rfl) rfl dJ20_putVal_261 264 rfl ?_
  refine r_iconst hC 1 dJ20_putVal_264 ic_1 265 rfl ?_
  refine r_iadd hC (mc + 1) dJ20_putVal_265  (rfl) 266 rfl ?_
  refine r_put (J := xSt F V0 ([(M, .inr (25, [.ref tb, va_rf es, .int (nI sz), .int (mc + 1), .int (nI th), .float 1061158912, .null, .null, .ref x9, va_rf tl, .int 0, .int 0])), (tb, .inl (8, cap, .inr (.inr (.inr (.inr tf)))))] ++ stW L (ndX kd hs ky vl nx bf af pa lf rt pv rd))) hC kJ21 3 rfl q1777 rfl (fun _ h => h.get 0 rfl) (Nat.le_of_ble_eq_true rfl) (rfl) (rfl) dJ20_putVal_266 (fun _ h => h.set 0 _ rfl) 269 rfl ?_
  refine r_aload_n hC 1 dJ20_putVal_269 rfl 270 rfl ?_
  refine r_dup hC dJ20_putVal_270 rfl 271 rfl ?_
  refine r_get (v := .int (nI sz)) hC kJ21 2 rfl q1773 (fun _ h => h.get 0 rfl) rfl dJ20_putVal_271 274 rfl ?_
  refine r_iconst hC 1 dJ20_putVal_274 ic_1 275 rfl ?_
  refine r_iadd hC (nI (sz + 1)) dJ20_putVal_275  (nI_add sz 1) 276 rfl ?_
  refine r_dup_x1 hC dJ20_putVal_276 rfl rfl 277 rfl ?_
  refine r_put (J := xSt F V0 ([(M, .inr (25, [.ref tb, va_rf es, .int (nI (sz + 1)), .int (mc + 1), .int (nI th), .float 1061158912, .null, .null, .ref x9, va_rf tl, .int 0, .int 0])), (tb, .inl (8, cap, .inr (.inr (.inr (.inr tf)))))] ++ stW L (ndX kd hs ky vl nx bf af pa lf rt pv rd))) hC kJ21 2 rfl q1773 rfl (fun _ h => h.get 0 rfl) (Nat.le_of_ble_eq_true rfl) (rfl) (rfl) dJ20_putVal_277 (fun _ h => h.set 0 _ rfl) 280 rfl ?_
  refine r_aload_n hC 1 dJ20_putVal_280 rfl 281 rfl ?_
  refine r_get (v := .int (nI th)) hC kJ21 4 rfl q1778 (fun _ h => h.get 0 rfl) rfl dJ20_putVal_281 284 rfl ?_
  refine r_icle hC 292 dJ20_putVal_284 (by decide) 287 rfl (fun h => absurd h (gt_nI (by omega) (by omega))) (fun _ => ?_)
  refine r_aload_n hC 1 dJ20_putVal_287 rfl 288 rfl ?_
  refine xCall.ct (wcx := [(M, .inr (25, [.ref tb, va_rf es, .int (nI (sz + 1)), .int (mc + 1), .int (nI th), .float 1061158912, .null, .null, .ref x9, va_rf tl, .int 0, .int 0])), (tb, .inl (8, cap, .inr (.inr (.inr (.inr tf)))))]) (wr := []) (r_cV hC kJ21 M [] mVJ20_resize_J21 q2192 (fun _ h => ⟨_, h.get 0 rfl⟩) (fun V9 h9 => (metJ20_resizeB _ _ hG L kd hs ky vl nx bf af pa lf rt pv rd M es (sz + 1) th (mc + 1) (some x9) tl tb cap tf hcap hcap2 hth1 hth2 bins ord hbi hl hoL hD hon) V9 (h9.in.cut (wcx := [(M, .inr (25, [.ref tb, va_rf es, .int (nI (sz + 1)), .int (mc + 1), .int (nI th), .float 1061158912, .null, .null, .ref x9, va_rf tl, .int 0, .int 0])), (tb, .inl (8, cap, .inr (.inr (.inr (.inr tf)))))]) (wr := []) [0, 1] [] 2 rfl rfl rfl rfl)) ⟨rfl, rfl⟩ (by first | omega | (dsimp only; omega)) (by first | omega | (dsimp only; omega)) rfl (Nat.le_of_ble_eq_true rfl) dJ20_putVal_288) [0, 1] [] 2 rfl rfl rfl rfl (k + (1 + ord.length)) (n + (2 * cap + 6 * ord.length)) 291 rfl rfl rfl (fun v2 w3 h4 => ?_) (fun _ _ h => h.elim)
  obtain ⟨nt1, nf, nb, L2, ord2, kd2, hs2, ky2, vl2, nx2, bf2, af2, pa2, lf2, rt2, pv2, rd2, hd2, tl2, rfl, hZ1, hZ2, hZ3, hZ4, rfl⟩ := h4
  refine rn.mono (J := xSt F V0 ([(M, .inr (25, [.ref nt1, va_rf es, .int (nI (sz + 1)), .int (mc + 1), .int (nI (2 * th)), .float 1061158912, .null, .null, va_rf hd2, va_rf tl2, .int 0, .int 0])), (nt1, .inl (8, 2 * cap, .inr (.inr (.inr (.inr nf)))))] ++ stW L2 (ndX kd2 hs2 ky2 vl2 nx2 bf2 af2 pa2 lf2 rt2 pv2 rd2))) (fun _ h => by rw [← List.append_assoc] at h; exact h) ?_
  show rn C (xSt F V0 ([(M, .inr (25, [.ref nt1, va_rf es, .int (nI (sz + 1)), .int (mc + 1), .int (nI (2 * th)), .float 1061158912, .null, .null, va_rf hd2, va_rf tl2, .int 0, .int 0])), (nt1, .inl (8, 2 * cap, .inr (.inr (.inr (.inr nf)))))] ++ stW L2 (ndX kd2 hs2 ky2 vl2 nx2 bf2 af2 pa2 lf2 rt2 pv2 rd2))) (k + (1 + ord.length)) (n + (2 * cap + 6 * ord.length)) 291 [(5, .int 1), (0, .ref M)] [.ref nt1]
  obtain ⟨x2, rfl⟩ := lnk_hd hZ2 (fun e => hone (by rw [e] at hZ4; exact List.map_eq_nil_iff.mp hZ4.symm))
  show rn C (xSt F V0 ([(M, .inr (25, [.ref nt1, va_rf es, .int (nI (sz + 1)), .int (mc + 1), .int (nI (2 * th)), .float 1061158912, .null, .null, .ref x2, va_rf tl2, .int 0, .int 0])), (nt1, .inl (8, 2 * cap, .inr (.inr (.inr (.inr nf)))))] ++ stW L2 (ndX kd2 hs2 ky2 vl2 nx2 bf2 af2 pa2 lf2 rt2 pv2 rd2))) (k + (1 + ord.length)) (n + (2 * cap + 6 * ord.length)) 291 [(5, .int 1), (0, .ref M)] [.ref nt1]
  refine r_pop hC dJ20_putVal_291 rfl 292 rfl ?_
  refine r_aload_n hC 1 dJ20_putVal_292 rfl 293 rfl ?_
  refine r_iload hC 0 dJ20_putVal_293 rfl 295 rfl ?_
  refine xCall.r (r := none) (r_cVD hC hG kJ21 M [.int 1] mDJ21_afterNodeInsertion_J21 q2357 (fun _ h => ⟨_, h.get 0 rfl⟩) (fun V9 h9 => (metJ21_afterNodeInsertion _ _ hG M (some nt1) es (sz + 1) (2 * th) (mc + 1) tl2 x2) V9 (h9.in.sub [0] rfl rfl)) ⟨rfl, rfl⟩ (by first | omega | (dsimp only; omega)) (by first | omega | (dsimp only; omega)) rfl (Nat.le_of_ble_eq_true rfl) dJ20_putVal_295) ((k + (1 + ord.length)) + 0) ((n + (2 * cap + 6 * ord.length)) + 0) 298 rfl rfl rfl ?_
  refine r_null hC dJ20_putVal_298 299 rfl ?_
  refine rn.sub (lv' := []) [] rfl ?_
  exact kx nt1 nf nb L2 ord2 kd2 hs2 ky2 vl2 nx2 bf2 af2 pa2 lf2 rt2 pv2 rd2 x2 tl2 hZ1 hZ2 hZ3 hZ4
