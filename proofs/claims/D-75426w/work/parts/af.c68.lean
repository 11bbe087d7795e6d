/-! ===== the JDK: trees: putTreeVal ===== -/
set_option maxRecDepth 100000
theorem tIv_hs {hs hs' : Nat → Int32} {T : Nat → Prop} {pa lf rt : Nat → Option Nat} {root : Nat} {lo hi : Nat → Int} (h : tIv (fun a => (hs a).toInt) T pa lf rt root lo hi) (e : ∀ a, T a → hs' a = hs a) : tIv (fun a => (hs' a).toInt) T pa lf rt root lo hi := by
  obtain ⟨g1, gb, gB, gL, gR, gP⟩ := h
  refine ⟨g1, fun a ha => ?_, gB, fun a b ha q => ?_, fun a b ha q => ?_, gP⟩
  · dsimp only
    rw [e a ha]
    exact gb a ha
  · dsimp only
    rw [e a ha]
    exact gL a b ha q
  · dsimp only
    rw [e a ha]
    exact gR a b ha q
set_option maxHeartbeats 4000000 in
set_option maxRecDepth 100000 in
theorem lpJ26_ptv {C : xC} {F : Nat → Prop} {V0 : xV} (hG : xGood (xGG C)) (hC : xCtx C RJ26 cJ26_putTreeVal 16 (some (.object "java/util/HashMap$TreeNode")) { frames := 5, locals := 117, cells := 1, slots := 11 }) (k n : Nat) (L : List Nat) (kd : Nat → Bool) (hs : Nat → Int32) (ky vl : Nat → Nat) (nx bf af pa lf rt pv : Nat → Option Nat) (rd : Nat → Int32) (M : Nat) (tbo es : Option Nat) (sz th : Nat) (mc : Int32) (hd tl : Option Nat) (tb cap : Nat) (tf : Nat → Option Nat) (root k9 v9 : Nat) (hz : Int32) (T : Nat → Prop) (hTL : ∀ a, T a → a ∈ L) (hTk : ∀ a, T a → kd a = true) (hne : ∀ a, T a → hs a ≠ hz) (lo hi : Nat → Int) (ht : tIv (fun a => (hs a).toInt) T pa lf rt root lo hi) (kL : ∀ p, T p → lo p < hz.toInt → hz.toInt < (hs p).toInt → lf p = none → rn C (xSt F V0 ([(M, .inr (25, [va_rf tbo, va_rf es, .int (nI sz), .int mc, .int (nI th), .float 1061158912, .null, .null, va_rf hd, va_rf tl, .int 0, .int 0])), (tb, .inl (8, cap, .inr (.inr (.inr (.inr tf)))))] ++ stW L (ndX kd hs ky vl nx bf af pa lf rt pv rd))) k n 221 [(13, .ref p), (10, .int (-1)), (8, .ref root), (5, .ref v9), (4, .ref k9), (3, .int hz), (2, .ref tb), (1, .ref M)] []) (kR : ∀ p, T p → (hs p).toInt < hz.toInt → hz.toInt < hi p → rt p = none → rn C (xSt F V0 ([(M, .inr (25, [va_rf tbo, va_rf es, .int (nI sz), .int mc, .int (nI th), .float 1061158912, .null, .null, va_rf hd, va_rf tl, .int 0, .int 0])), (tb, .inl (8, cap, .inr (.inr (.inr (.inr tf)))))] ++ stW L (ndX kd hs ky vl nx bf af pa lf rt pv rd))) k n 221 [(13, .ref p), (10, .int 1), (8, .ref root), (5, .ref v9), (4, .ref k9), (3, .int hz), (2, .ref tb), (1, .ref M)] []) : ∀ (m p : Nat), T p → lo p < hz.toInt → hz.toInt < hi p → (hi p - lo p).toNat < m → rn C (xSt F V0 ([(M, .inr (25, [va_rf tbo, va_rf es, .int (nI sz), .int mc, .int (nI th), .float 1061158912, .null, .null, va_rf hd, va_rf tl, .int 0, .int 0])), (tb, .inl (8, cap, .inr (.inr (.inr (.inr tf)))))] ++ stW L (ndX kd hs ky vl nx bf af pa lf rt pv rd))) k n 27 [(9, .ref p), (8, .ref root), (7, .int 0), (6, .null), (5, .ref v9), (4, .ref k9), (3, .int hz), (2, .ref tb), (1, .ref M), (0, .ref root)] [] := by
  obtain ⟨-, hb, -, hL, hR, -⟩ := id ht
  dsimp only at hb hL hR
  intro m
  induction m with
  | zero =>
    intro p hp h1 h2 hm
    exact absurd hm (Nat.not_lt_zero _)
  | succ m ih =>
    intro p hp h1 h2 hm
    refine r_aload hC 0 dJ26_putTreeVal_27 rfl 29 rfl ?_
    refine r_getI (v := .int (hs p)) hC kJ26 0 rfl q2230 (Or.inr q2231) (fun _ h => stW_get h (hTL p hp) (ndX_t (hTk p hp))) rfl dJ26_putTreeVal_29 32 rfl ?_
    refine r_dup hC dJ26_putTreeVal_32 rfl 33 rfl ?_
    refine r_istore hC 11 [(11, .int (hs p)), (9, .ref p), (8, .ref root), (7, .int 0), (6, .null), (5, .ref v9), (4, .ref k9), (3, .int hz), (2, .ref tb), (1, .ref M), (0, .ref root)] dJ26_putTreeVal_33 (Nat.le_of_ble_eq_true rfl) rfl 35 rfl ?_
    refine r_iload_n hC 7 dJ26_putTreeVal_35 rfl 36 rfl ?_
    refine r_icle hC 45 dJ26_putTreeVal_36 (by decide) 39 rfl (fun c1 => ?_) (fun c1 => ?_)
    · skip
      have kk9 := i32_ne c1 (hne p hp)
      refine r_iload hC 0 dJ26_putTreeVal_45 rfl 47 rfl ?_
      refine r_iload_n hC 7 dJ26_putTreeVal_47 rfl 48 rfl ?_
      refine r_icge hC 57 dJ26_putTreeVal_48 (by decide) 51 rfl (fun h => absurd h (fun q9 => hne p hp (Int32.le_antisymm c1 q9))) (fun _ => ?_)
      refine r_iconst hC 1 dJ26_putTreeVal_51 ic_1 52 rfl ?_
      refine r_istore hC 10 [(10, .int 1), (11, .int (hs p)), (9, .ref p), (8, .ref root), (7, .int 0), (6, .null), (5, .ref v9), (4, .ref k9), (3, .int hz), (2, .ref tb), (1, .ref M), (0, .ref root)] dJ26_putTreeVal_52 (Nat.le_of_ble_eq_true rfl) rfl 54 rfl ?_
      refine r_goto hC 193 dJ26_putTreeVal_54 (by decide) ?_
      refine r_aload hC 2 dJ26_putTreeVal_193 rfl 195 rfl ?_
      refine r_astore hC 13 [(13, .ref p), (10, .int 1), (11, .int (hs p)), (9, .ref p), (8, .ref root), (7, .int 0), (6, .null), (5, .ref v9), (4, .ref k9), (3, .int hz), (2, .ref tb), (1, .ref M), (0, .ref root)] dJ26_putTreeVal_195 (Nat.le_of_ble_eq_true rfl) rfl 197 rfl ?_
      refine r_iload hC 1 dJ26_putTreeVal_197 rfl 199 rfl ?_
      refine r_ifgt hC 210 dJ26_putTreeVal_199 (by decide) 202 rfl (fun _ => ?_) (fun h => absurd h (by decide))
      refine r_aload hC 3 dJ26_putTreeVal_210 rfl 212 rfl ?_
      rcases opt_c (rt p) with hl2 | ⟨x3, hl2⟩
      · skip
        refine r_getI (v := .null) hC kJ26 8 rfl q2317 (Or.inl rfl) (fun _ h => stW_get h (hTL p hp) (ndX_t (hTk p hp))) (congrArg (fun o9 => some (va_rf o9)) (hl2)) dJ26_putTreeVal_212 215 rfl ?_
        refine r_dup hC dJ26_putTreeVal_215 rfl 216 rfl ?_
        refine r_astoreN hC 9 [(9, .null), (13, .ref p), (10, .int 1), (11, .int (hs p)), (8, .ref root), (7, .int 0), (6, .null), (5, .ref v9), (4, .ref k9), (3, .int hz), (2, .ref tb), (1, .ref M), (0, .ref root)] dJ26_putTreeVal_216 (Nat.le_of_ble_eq_true rfl) rfl 218 rfl ?_
        refine r_ifnonnullN hC dJ26_putTreeVal_218 221 rfl ?_
        refine rn.sub (lv' := [(13, .ref p), (10, .int 1), (8, .ref root), (5, .ref v9), (4, .ref k9), (3, .int hz), (2, .ref tb), (1, .ref M)]) [1, 2, 4, 7, 8, 9, 10, 11] rfl ?_
        exact kR p hp (by omega) h2 hl2
      · skip
        refine r_getI (v := .ref x3) hC kJ26 8 rfl q2317 (Or.inl rfl) (fun _ h => stW_get h (hTL p hp) (ndX_t (hTk p hp))) (congrArg (fun o9 => some (va_rf o9)) (hl2)) dJ26_putTreeVal_212 215 rfl ?_
        refine r_dup hC dJ26_putTreeVal_215 rfl 216 rfl ?_
        refine r_astore hC 9 [(9, .ref x3), (13, .ref p), (10, .int 1), (11, .int (hs p)), (8, .ref root), (7, .int 0), (6, .null), (5, .ref v9), (4, .ref k9), (3, .int hz), (2, .ref tb), (1, .ref M), (0, .ref root)] dJ26_putTreeVal_216 (Nat.le_of_ble_eq_true rfl) rfl 218 rfl ?_
        refine r_ifnonnull hC 311 dJ26_putTreeVal_218 (by decide) ?_
        refine r_goto hC 27 dJ26_putTreeVal_311 (by decide) ?_
        refine rn.sub (lv' := [(9, .ref x3), (8, .ref root), (7, .int 0), (6, .null), (5, .ref v9), (4, .ref k9), (3, .int hz), (2, .ref tb), (1, .ref M), (0, .ref root)]) [0, 4, 5, 6, 7, 8, 9, 10, 11, 12] rfl ?_
        obtain ⟨q1, q2, q3, q4⟩ := hR p x3 hp hl2
        have kp := hb p hp
        exact ih x3 q1 (by omega) (by omega) (by omega)
    · skip
      have kk9 := i32_lt c1
      refine r_iconst hC (-1) dJ26_putTreeVal_39 ic_m1 40 rfl ?_
      refine r_istore hC 10 [(10, .int (-1)), (11, .int (hs p)), (9, .ref p), (8, .ref root), (7, .int 0), (6, .null), (5, .ref v9), (4, .ref k9), (3, .int hz), (2, .ref tb), (1, .ref M), (0, .ref root)] dJ26_putTreeVal_40 (Nat.le_of_ble_eq_true rfl) rfl 42 rfl ?_
      refine r_goto hC 193 dJ26_putTreeVal_42 (by decide) ?_
      refine r_aload hC 2 dJ26_putTreeVal_193 rfl 195 rfl ?_
      refine r_astore hC 13 [(13, .ref p), (10, .int (-1)), (11, .int (hs p)), (9, .ref p), (8, .ref root), (7, .int 0), (6, .null), (5, .ref v9), (4, .ref k9), (3, .int hz), (2, .ref tb), (1, .ref M), (0, .ref root)] dJ26_putTreeVal_195 (Nat.le_of_ble_eq_true rfl) rfl 197 rfl ?_
      refine r_iload hC 1 dJ26_putTreeVal_197 rfl 199 rfl ?_
      refine r_ifgt hC 210 dJ26_putTreeVal_199 (by decide) 202 rfl (fun h => absurd h (by decide)) (fun _ => ?_)
      refine r_aload hC 3 dJ26_putTreeVal_202 rfl 204 rfl ?_
      rcases opt_c (lf p) with hl4 | ⟨x5, hl4⟩
      · skip
        refine r_getI (v := .null) hC kJ26 7 rfl q2316 (Or.inl rfl) (fun _ h => stW_get h (hTL p hp) (ndX_t (hTk p hp))) (congrArg (fun o9 => some (va_rf o9)) (hl4)) dJ26_putTreeVal_204 207 rfl ?_
        refine r_goto hC 215 dJ26_putTreeVal_207 (by decide) ?_
        refine r_dup hC dJ26_putTreeVal_215 rfl 216 rfl ?_
        refine r_astoreN hC 9 [(9, .null), (13, .ref p), (10, .int (-1)), (11, .int (hs p)), (8, .ref root), (7, .int 0), (6, .null), (5, .ref v9), (4, .ref k9), (3, .int hz), (2, .ref tb), (1, .ref M), (0, .ref root)] dJ26_putTreeVal_216 (Nat.le_of_ble_eq_true rfl) rfl 218 rfl ?_
        refine r_ifnonnullN hC dJ26_putTreeVal_218 221 rfl ?_
        refine rn.sub (lv' := [(13, .ref p), (10, .int (-1)), (8, .ref root), (5, .ref v9), (4, .ref k9), (3, .int hz), (2, .ref tb), (1, .ref M)]) [1, 2, 4, 7, 8, 9, 10, 11] rfl ?_
        exact kL p hp h1 (by omega) hl4
      · skip
        refine r_getI (v := .ref x5) hC kJ26 7 rfl q2316 (Or.inl rfl) (fun _ h => stW_get h (hTL p hp) (ndX_t (hTk p hp))) (congrArg (fun o9 => some (va_rf o9)) (hl4)) dJ26_putTreeVal_204 207 rfl ?_
        refine r_goto hC 215 dJ26_putTreeVal_207 (by decide) ?_
        refine r_dup hC dJ26_putTreeVal_215 rfl 216 rfl ?_
        refine r_astore hC 9 [(9, .ref x5), (13, .ref p), (10, .int (-1)), (11, .int (hs p)), (8, .ref root), (7, .int 0), (6, .null), (5, .ref v9), (4, .ref k9), (3, .int hz), (2, .ref tb), (1, .ref M), (0, .ref root)] dJ26_putTreeVal_216 (Nat.le_of_ble_eq_true rfl) rfl 218 rfl ?_
        refine r_ifnonnull hC 311 dJ26_putTreeVal_218 (by decide) ?_
        refine r_goto hC 27 dJ26_putTreeVal_311 (by decide) ?_
        refine rn.sub (lv' := [(9, .ref x5), (8, .ref root), (7, .int 0), (6, .null), (5, .ref v9), (4, .ref k9), (3, .int hz), (2, .ref tb), (1, .ref M), (0, .ref root)]) [0, 4, 5, 6, 7, 8, 9, 10, 11, 12] rfl ?_
        obtain ⟨q1, q2, q3, q4⟩ := hL p x5 hp hl4
        have kp := hb p hp
        exact ih x5 q1 (by omega) (by omega) (by omega)
set_option maxHeartbeats 4000000 in
set_option maxRecDepth 100000 in
theorem metJ26_putTreeVal (l : Launch) (G : xG) (hG : xGood G) (L : List Nat) (kd : Nat → Bool) (hs : Nat → Int32) (ky vl : Nat → Nat) (nx bf af pa lf rt pv : Nat → Option Nat) (rd : Nat → Int32) (M : Nat) (tbo es : Option Nat) (sz th : Nat) (mc : Int32) (hd tl : Option Nat) (tb cap b : Nat) (tf : Nat → Option Nat) (hc1 : 1 ≤ cap) (hc2 : cap ≤ 1024) (hb : b < cap) (hz : Int32) (k9 v9 : Nat) (ord Lb : List Nat) (root : Nat) (hseg : seg nx (tf b) Lb none) (hbck : bck pv none Lb) (hnd : Lb.Nodup) (hlen : 6 < Lb.length) (hml : ∀ a, a ∈ Lb → a ∈ L ∧ kd a = true) (hT : tI (fun a => (hs a).toInt) (fun a => a ∈ Lb) pa lf rt root) (hne : ∀ a, a ∈ Lb → hs a ≠ hz) (hl : lnk bf af hd tl ord) (hoL : ∀ a, a ∈ ord → a ∈ L) (hixs : ∀ a, a ∈ Lb → (nI (cap - 1) &&& hs a) = nI b) (hix9 : (nI (cap - 1) &&& hz) = nI b) : xWm l G yJ26_putTreeVal (Cond.code yJ26_putTreeVal cJ26_putTreeVal 16 (some (.object "java/util/HashMap$TreeNode"))) { frames := 5, locals := 117, cells := 1, slots := 11 } [.ref root, .ref M, .ref tb, .int hz, .ref k9, .ref v9] ([(M, .inr (25, [va_rf tbo, va_rf es, .int (nI sz), .int mc, .int (nI th), .float 1061158912, .null, .null, va_rf hd, va_rf tl, .int 0, .int 0])), (tb, .inl (8, cap, .inr (.inr (.inr (.inr tf)))))] ++ stW L (ndX kd hs ky vl nx bf af pa lf rt pv rd)) (fun v w' => ∃ (q : Nat) (kd' : Nat → Bool) (hs' : Nat → Int32) (ky' vl' : Nat → Nat) (nx' bf' af' pa' lf' rt' pv' : Nat → Option Nat) (rd' : Nat → Int32) (hd' : Option Nat) (Ns : List Nat) (root' : Nat), v = some .null ∧ insI L ord kd hs ky vl nx pa lf rt pv Lb q hz k9 v9 kd' hs' ky' vl' nx' bf' af' pa' lf' rt' pv' hd' Ns ∧ binI kd' hs' nx' pa' lf' rt' pv' (some root') Ns ∧ w' = ([(M, .inr (25, [va_rf tbo, va_rf es, .int (nI sz), .int mc, .int (nI th), .float 1061158912, .null, .null, va_rf hd', .ref q, .int 0, .int 0])), (tb, .inl (8, cap, .inr (.inr (.inr (.inr (va_up tf b (some root')))))))] ++ stW (L ++ [q]) (ndX kd' hs' ky' vl' nx' bf' af' pa' lf' rt' pv' rd'))) (fun _ _ => False) := by
  intro V hV
  refine xMet_ofT RJ26 hG rfl (by decide) (Nat.le_of_ble_eq_true rfl) fun C hC hQ hX hl hg _ hTab => ?_
  subst hl hg
  have hrm : root ∈ Lb := by obtain ⟨_, _, h8⟩ := hT; exact h8.1.1
  have hpr : pa root = none := by obtain ⟨_, _, h8⟩ := hT; exact h8.1.2.1
  have htlL : ∀ t, tl = some t → t ∈ L := fun t e => hoL t (by rw [e] at hl; exact lnk_tl hl)
  obtain ⟨V0, hV0⟩ : ∃ V0, V0 = V := ⟨_, rfl⟩
  obtain ⟨F, hF⟩ : ∃ F, F = xF ([(M, .inr (25, [va_rf tbo, va_rf es, .int (nI sz), .int mc, .int (nI th), .float 1061158912, .null, .null, va_rf hd, va_rf tl, .int 0, .int 0])), (tb, .inl (8, cap, .inr (.inr (.inr (.inr tf)))))] ++ stW L (ndX kd hs ky vl nx bf af pa lf rt pv rd)) := ⟨_, rfl⟩
  refine rn.mono (J := xSt F V0 ([(M, .inr (25, [va_rf tbo, va_rf es, .int (nI sz), .int mc, .int (nI th), .float 1061158912, .null, .null, va_rf hd, va_rf tl, .int 0, .int 0])), (tb, .inl (8, cap, .inr (.inr (.inr (.inr tf)))))] ++ stW L (ndX kd hs ky vl nx bf af pa lf rt pv rd))) (fun V9 h => by rw [h, hV0, hF]; exact hV.st) ?_
  show rn C (xSt F V0 ([(M, .inr (25, [va_rf tbo, va_rf es, .int (nI sz), .int mc, .int (nI th), .float 1061158912, .null, .null, va_rf hd, va_rf tl, .int 0, .int 0])), (tb, .inl (8, cap, .inr (.inr (.inr (.inr tf)))))] ++ stW L (ndX kd hs ky vl nx bf af pa lf rt pv rd))) 0 0 0 [(0, .ref root), (1, .ref M), (2, .ref tb), (3, .int hz), (4, .ref k9), (5, .ref v9)] []
  refine r_null hC dJ26_putTreeVal_0 1 rfl ?_
  refine r_astoreN hC 6 [(6, .null), (0, .ref root), (1, .ref M), (2, .ref tb), (3, .int hz), (4, .ref k9), (5, .ref v9)] dJ26_putTreeVal_1 (Nat.le_of_ble_eq_true rfl) rfl 3 rfl ?_
  refine r_iconst hC 0 dJ26_putTreeVal_3 ic_0 4 rfl ?_
  refine r_istore hC 7 [(7, .int 0), (6, .null), (0, .ref root), (1, .ref M), (2, .ref tb), (3, .int hz), (4, .ref k9), (5, .ref v9)] dJ26_putTreeVal_4 (Nat.le_of_ble_eq_true rfl) rfl 6 rfl ?_
  refine r_aload_n hC 2 dJ26_putTreeVal_6 rfl 7 rfl ?_
  refine r_getI (v := .null) hC kJ26 6 rfl q2315 (Or.inl rfl) (fun _ h => stW_get h ((hml root hrm).1) (ndX_t ((hml root hrm).2))) (congrArg (fun o9 => some (va_rf o9)) (hpr)) dJ26_putTreeVal_7 10 rfl ?_
  refine r_ifnullN hC 20 dJ26_putTreeVal_10 (by decide) ?_
  refine r_aload_n hC 2 dJ26_putTreeVal_20 rfl 21 rfl ?_
  refine r_astore hC 8 [(8, .ref root), (7, .int 0), (6, .null), (0, .ref root), (1, .ref M), (2, .ref tb), (3, .int hz), (4, .ref k9), (5, .ref v9)] dJ26_putTreeVal_21 (Nat.le_of_ble_eq_true rfl) rfl 23 rfl ?_
  refine r_aload hC 0 dJ26_putTreeVal_23 rfl 25 rfl ?_
  refine r_astore hC 9 [(9, .ref root), (8, .ref root), (7, .int 0), (6, .null), (0, .ref root), (1, .ref M), (2, .ref tb), (3, .int hz), (4, .ref k9), (5, .ref v9)] dJ26_putTreeVal_25 (Nat.le_of_ble_eq_true rfl) rfl 27 rfl ?_
  refine rn.sub (lv' := [(9, .ref root), (8, .ref root), (7, .int 0), (6, .null), (5, .ref v9), (4, .ref k9), (3, .int hz), (2, .ref tb), (1, .ref M), (0, .ref root)]) [0, 1, 2, 3, 9, 8, 7, 6, 5, 4] rfl ?_
  obtain ⟨lo, hi, ht⟩ := hT
  have hr9 := ht.1
  have hg := hs_rg hz
  refine lpJ26_ptv hG hC 0 0 L kd hs ky vl nx bf af pa lf rt pv rd M tbo es sz th mc hd tl tb cap tf root k9 v9 hz (fun a => a ∈ Lb) (fun a ha => (hml a ha).1) (fun a ha => (hml a ha).2) (fun a ha => hne a ha) lo hi ht (fun p hp h1 h2 hl9 => ?_) (fun p hp h1 h2 hl9 => ?_) _ root hr9.1 (by rw [hr9.2.2.1]; omega) (by rw [hr9.2.2.2]; omega) (Nat.lt_succ_self _)
  · skip
    have hp : p ∈ Lb := hp
    obtain ⟨l1, l2, hLs⟩ := List.append_of_mem hp
    have hsegs := hseg
    have hbcks := hbck
    have hnds := hnd
    rw [hLs] at hsegs hbcks hnds
    show rn C (xSt F V0 ([(M, .inr (25, [va_rf tbo, va_rf es, .int (nI sz), .int mc, .int (nI th), .float 1061158912, .null, .null, va_rf hd, va_rf tl, .int 0, .int 0])), (tb, .inl (8, cap, .inr (.inr (.inr (.inr tf)))))] ++ stW L (ndX kd hs ky vl nx bf af pa lf rt pv rd))) 0 0 221 [(13, .ref p), (10, .int (-1)), (8, .ref root), (5, .ref v9), (4, .ref k9), (3, .int hz), (2, .ref tb), (1, .ref M)] []
    refine r_aload hC 0 dJ26_putTreeVal_221 rfl 223 rfl ?_
    rcases opt_c (nx p) with hl1 | ⟨x2, hl1⟩
    · skip
      refine r_getI (v := .null) hC kJ26 3 rfl q2247 (Or.inr q2248) (fun _ h => stW_get h ((hml p hp).1) (ndX_t ((hml p hp).2))) (congrArg (fun o9 => some (va_rf o9)) (hl1)) dJ26_putTreeVal_223 226 rfl ?_
      refine r_astoreN hC 14 [(14, .null), (13, .ref p), (10, .int (-1)), (8, .ref root), (5, .ref v9), (4, .ref k9), (3, .int hz), (2, .ref tb), (1, .ref M)] dJ26_putTreeVal_226 (Nat.le_of_ble_eq_true rfl) rfl 228 rfl ?_
      refine r_aload_n hC 8 dJ26_putTreeVal_228 rfl 229 rfl ?_
      refine r_iload_n hC 6 dJ26_putTreeVal_229 rfl 230 rfl ?_
      refine r_aload hC 5 dJ26_putTreeVal_230 rfl 232 rfl ?_
      refine r_aload hC 4 dJ26_putTreeVal_232 rfl 234 rfl ?_
      refine r_aloadN hC 0 dJ26_putTreeVal_234 rfl 236 rfl ?_
      refine xCall.ct (wcx := [(M, .inr (25, [va_rf tbo, va_rf es, .int (nI sz), .int mc, .int (nI th), .float 1061158912, .null, .null, va_rf hd, va_rf tl, .int 0, .int 0]))]) (wr := [(tb, .inl (8, cap, .inr (.inr (.inr (.inr tf)))))]) (r_cVD hC hG kJ21 M [.int hz, .ref k9, .ref v9, .null] mDJ21_newTreeNode_J21 q2303 (fun _ h => ⟨_, h.get 0 rfl⟩) (fun V9 h9 => (metJ21_newTreeNodeN _ _ hG L kd hs ky vl nx bf af pa lf rt pv rd M tbo es sz th mc hd tl hz k9 v9 htlL) V9 (h9.in.cut (wcx := [(M, .inr (25, [va_rf tbo, va_rf es, .int (nI sz), .int mc, .int (nI th), .float 1061158912, .null, .null, va_rf hd, va_rf tl, .int 0, .int 0]))]) (wr := [(tb, .inl (8, cap, .inr (.inr (.inr (.inr tf)))))]) [0] [1] 2 rfl rfl rfl rfl)) ⟨rfl, rfl⟩ (Nat.le_of_ble_eq_true rfl) (Nat.le_of_ble_eq_true rfl) rfl (Nat.le_of_ble_eq_true rfl) dJ26_putTreeVal_236) [0] [1] 2 rfl rfl rfl rfl 1 11 239 rfl rfl rfl (fun v5 w6 h7 => ?_) (fun _ _ h => h.elim)
      obtain ⟨q3, rfl, hq4, rfl⟩ := h7
      refine rn.mono (J := xSt F V0 ([(tb, .inl (8, cap, .inr (.inr (.inr (.inr tf))))), (M, .inr (25, [va_rf tbo, va_rf es, .int (nI sz), .int mc, .int (nI th), .float 1061158912, .null, .null, va_rf (hdn hd q3 tl), .ref q3, .int 0, .int 0]))] ++ stW (L ++ [q3]) (ndX (va_up kd q3 true) (va_up hs q3 hz) (va_up ky q3 k9) (va_up vl q3 v9) (va_up nx q3 none) (va_up bf q3 tl) (afn af q3 tl) (va_up pa q3 none) (va_up lf q3 none) (va_up rt q3 none) (va_up pv q3 none) (va_up rd q3 0)))) (fun _ h => by rw [← List.append_assoc] at h; exact h) ?_
      show rn C (xSt F V0 ([(tb, .inl (8, cap, .inr (.inr (.inr (.inr tf))))), (M, .inr (25, [va_rf tbo, va_rf es, .int (nI sz), .int mc, .int (nI th), .float 1061158912, .null, .null, va_rf (hdn hd q3 tl), .ref q3, .int 0, .int 0]))] ++ stW (L ++ [q3]) (ndX (va_up kd q3 true) (va_up hs q3 hz) (va_up ky q3 k9) (va_up vl q3 v9) (va_up nx q3 none) (va_up bf q3 tl) (afn af q3 tl) (va_up pa q3 none) (va_up lf q3 none) (va_up rt q3 none) (va_up pv q3 none) (va_up rd q3 0)))) 1 11 239 [(14, .null), (13, .ref p), (10, .int (-1)), (8, .ref root), (5, .ref v9), (4, .ref k9), (3, .int hz), (2, .ref tb), (1, .ref M)] [.ref q3]
      have nn_root : root ≠ q3 := fun e => hq4 (by rw [← e]; exact (hml root hrm).1)
      have nn_p : p ≠ q3 := fun e => hq4 (by rw [← e]; exact (hml p hp).1)
      have hqB : q3 ∉ Lb := fun e => hq4 (hml q3 e).1
      have hqs : q3 ∉ l1 ++ p :: l2 := by rw [← hLs]; exact hqB
      have hhq : ∀ a, a ∈ Lb → va_up hs q3 hz a = hs a := fun a ha => up_ne (fun e => hqB (by rw [← e]; exact ha))
      have htq : tIv (fun a => (va_up hs q3 hz a).toInt) (fun a => a ∈ Lb) pa lf rt root lo hi := tIv_hs ht (fun a ha => hhq a ha)
      obtain ⟨lo2, hi2, ht2⟩ := tI_insL htq (x := q3) (p := p) hqB hp (by show _ < (va_up hs q3 hz q3).toInt; rw [up_same]; exact h1) (by show (va_up hs q3 hz q3).toInt < (va_up hs q3 hz p).toInt; rw [up_same, hhq p hp]; exact h2) hl9 (T' := fun a => a ∈ Lb ∨ a = q3) (pa' := va_up (va_up pa q3 none) q3 (some p)) (lf' := va_up (va_up lf q3 none) p (some q3)) (rt' := va_up rt q3 none) (fun a => Iff.rfl) (up_same _ _ _) (fun a na => (up_ne na).trans (up_ne na)) (up_same _ _ _) ((up_ne (Ne.symm nn_p)).trans (up_same _ _ _)) (fun a na np => (up_ne np).trans (up_ne na)) (up_same _ _ _) (fun a na => up_ne na)
      refine r_astore hC 15 [(15, .ref q3), (14, .null), (13, .ref p), (10, .int (-1)), (8, .ref root), (5, .ref v9), (4, .ref k9), (3, .int hz), (2, .ref tb), (1, .ref M)] dJ26_putTreeVal_239 (Nat.le_of_ble_eq_true rfl) rfl 241 rfl ?_
      refine r_iload hC 3 dJ26_putTreeVal_241 rfl 243 rfl ?_
      refine r_ifgt hC 256 dJ26_putTreeVal_243 (by decide) 246 rfl (fun h => absurd h (by decide)) (fun _ => ?_)
      refine r_aload hC 2 dJ26_putTreeVal_246 rfl 248 rfl ?_
      refine r_aload hC 0 dJ26_putTreeVal_248 rfl 250 rfl ?_
      refine r_putI (J := xSt F V0 ([(tb, .inl (8, cap, .inr (.inr (.inr (.inr tf))))), (M, .inr (25, [va_rf tbo, va_rf es, .int (nI sz), .int mc, .int (nI th), .float 1061158912, .null, .null, va_rf (hdn hd q3 tl), .ref q3, .int 0, .int 0]))] ++ stW (L ++ [q3]) (ndX (va_up kd q3 true) (va_up hs q3 hz) (va_up ky q3 k9) (va_up vl q3 v9) (va_up nx q3 none) (va_up bf q3 tl) (afn af q3 tl) (va_up pa q3 none) (va_up (va_up lf q3 none) p (some q3)) (va_up rt q3 none) (va_up pv q3 none) (va_up rd q3 0)))) hC kJ26 7 rfl q2316 (Or.inl rfl) rfl (fun _ h => stW_get h (List.mem_append_left _ ((hml p hp).1)) (ndX_t ((up_ne nn_p).trans ((hml p hp).2)))) (Nat.le_of_ble_eq_true rfl) rfl rfl dJ26_putTreeVal_250 (fun _ h => stW_set h (List.mem_append_left _ ((hml p hp).1)) (ndX_lf ((up_ne nn_p).trans ((hml p hp).2)))) 253 rfl ?_
      refine r_goto hC 263 dJ26_putTreeVal_253 (by decide) ?_
      refine r_aload hC 2 dJ26_putTreeVal_263 rfl 265 rfl ?_
      refine r_aload hC 0 dJ26_putTreeVal_265 rfl 267 rfl ?_
      refine r_putI (J := xSt F V0 ([(tb, .inl (8, cap, .inr (.inr (.inr (.inr tf))))), (M, .inr (25, [va_rf tbo, va_rf es, .int (nI sz), .int mc, .int (nI th), .float 1061158912, .null, .null, va_rf (hdn hd q3 tl), .ref q3, .int 0, .int 0]))] ++ stW (L ++ [q3]) (ndX (va_up kd q3 true) (va_up hs q3 hz) (va_up ky q3 k9) (va_up vl q3 v9) (va_up (va_up nx q3 none) p (some q3)) (va_up bf q3 tl) (afn af q3 tl) (va_up pa q3 none) (va_up (va_up lf q3 none) p (some q3)) (va_up rt q3 none) (va_up pv q3 none) (va_up rd q3 0)))) hC kJ26 3 rfl q2247 (Or.inr q2248) rfl (fun _ h => stW_get h (List.mem_append_left _ ((hml p hp).1)) (ndX_t ((up_ne nn_p).trans ((hml p hp).2)))) (Nat.le_of_ble_eq_true rfl) rfl rfl dJ26_putTreeVal_267 (fun _ h => stW_set h (List.mem_append_left _ ((hml p hp).1)) (ndX_nx ((up_ne nn_p).trans ((hml p hp).2)))) 270 rfl ?_
      refine r_aload hC 0 dJ26_putTreeVal_270 rfl 272 rfl ?_
      refine r_aload hC 0 dJ26_putTreeVal_272 rfl 274 rfl ?_
      refine r_aload hC 2 dJ26_putTreeVal_274 rfl 276 rfl ?_
      refine r_dup_x1 hC dJ26_putTreeVal_276 rfl rfl 277 rfl ?_
      refine r_putI (J := xSt F V0 ([(tb, .inl (8, cap, .inr (.inr (.inr (.inr tf))))), (M, .inr (25, [va_rf tbo, va_rf es, .int (nI sz), .int mc, .int (nI th), .float 1061158912, .null, .null, va_rf (hdn hd q3 tl), .ref q3, .int 0, .int 0]))] ++ stW (L ++ [q3]) (ndX (va_up kd q3 true) (va_up hs q3 hz) (va_up ky q3 k9) (va_up vl q3 v9) (va_up (va_up nx q3 none) p (some q3)) (va_up bf q3 tl) (afn af q3 tl) (va_up pa q3 none) (va_up (va_up lf q3 none) p (some q3)) (va_up rt q3 none) (va_up (va_up pv q3 none) q3 (some p)) (va_up rd q3 0)))) hC kJ26 9 rfl q2318 (Or.inl rfl) rfl (fun _ h => stW_get h (List.mem_append_right _ List.mem_cons_self) (ndX_t (up_same _ _ _))) (Nat.le_of_ble_eq_true rfl) rfl rfl dJ26_putTreeVal_277 (fun _ h => stW_set h (List.mem_append_right _ List.mem_cons_self) (ndX_pv (up_same _ _ _))) 280 rfl ?_
      refine r_putI (J := xSt F V0 ([(tb, .inl (8, cap, .inr (.inr (.inr (.inr tf))))), (M, .inr (25, [va_rf tbo, va_rf es, .int (nI sz), .int mc, .int (nI th), .float 1061158912, .null, .null, va_rf (hdn hd q3 tl), .ref q3, .int 0, .int 0]))] ++ stW (L ++ [q3]) (ndX (va_up kd q3 true) (va_up hs q3 hz) (va_up ky q3 k9) (va_up vl q3 v9) (va_up (va_up nx q3 none) p (some q3)) (va_up bf q3 tl) (afn af q3 tl) (va_up (va_up pa q3 none) q3 (some p)) (va_up (va_up lf q3 none) p (some q3)) (va_up rt q3 none) (va_up (va_up pv q3 none) q3 (some p)) (va_up rd q3 0)))) hC kJ26 6 rfl q2315 (Or.inl rfl) rfl (fun _ h => stW_get h (List.mem_append_right _ List.mem_cons_self) (ndX_t (up_same _ _ _))) (Nat.le_of_ble_eq_true rfl) rfl rfl dJ26_putTreeVal_280 (fun _ h => stW_set h (List.mem_append_right _ List.mem_cons_self) (ndX_pa (up_same _ _ _))) 283 rfl ?_
      refine r_aloadN hC 1 dJ26_putTreeVal_283 rfl 285 rfl ?_
      refine r_ifnullN hC 298 dJ26_putTreeVal_285 (by decide) ?_
      refine r_aload_n hC 8 dJ26_putTreeVal_298 rfl 299 rfl ?_
      refine r_aload hC 4 dJ26_putTreeVal_299 rfl 301 rfl ?_
      refine r_aload hC 0 dJ26_putTreeVal_301 rfl 303 rfl ?_
      refine xCall.ct (wcx := []) (wr := [(tb, .inl (8, cap, .inr (.inr (.inr (.inr tf))))), (M, .inr (25, [va_rf tbo, va_rf es, .int (nI sz), .int mc, .int (nI th), .float 1061158912, .null, .null, va_rf (hdn hd q3 tl), .ref q3, .int 0, .int 0]))]) (r_cS hC [.ref root, .ref q3] mSJ26_balanceInsertion q2274 (fun V9 h9 => (metJ26_balanceInsertion _ _ hG (L ++ [q3]) (va_up kd q3 true) (va_up hs q3 hz) (va_up ky q3 k9) (va_up vl q3 v9) (va_up (va_up nx q3 none) p (some q3)) (va_up bf q3 tl) (afn af q3 tl) (va_up (va_up pa q3 none) q3 (some p)) (va_up (va_up lf q3 none) p (some q3)) (va_up rt q3 none) (va_up (va_up pv q3 none) q3 (some p)) (va_up rd q3 0) (fun a => a ∈ Lb ∨ a = q3) (fun a ha => ha.elim (fun h => List.mem_append_left _ (hml a h).1) (fun e => by rw [e]; exact List.mem_append_right _ List.mem_cons_self)) (fun a ha => ha.elim (fun h => (up_ne (fun e => hqB (by rw [← e]; exact h))).trans (hml a h).2) (fun e => by rw [e]; exact up_same _ _ _)) lo2 hi2 root q3 ht2 (Or.inr rfl)) V9 (h9.in.cut (wcx := []) (wr := [(tb, .inl (8, cap, .inr (.inr (.inr (.inr tf))))), (M, .inr (25, [va_rf tbo, va_rf es, .int (nI sz), .int mc, .int (nI th), .float 1061158912, .null, .null, va_rf (hdn hd q3 tl), .ref q3, .int 0, .int 0]))]) [] [0, 1] 2 rfl rfl rfl rfl)) ⟨rfl, rfl⟩ (Nat.le_of_ble_eq_true rfl) (Nat.le_of_ble_eq_true rfl) rfl (Nat.le_of_ble_eq_true rfl) dJ26_putTreeVal_303) [] [0, 1] 2 rfl rfl rfl rfl 1 11 306 rfl rfl rfl (fun v15 w16 h17 => ?_) (fun _ _ h => h.elim)
      obtain ⟨pa8, lf9, rt10, rd11, ro12, rfl, hT13, hO14, rfl⟩ := h17
      show rn C (xSt F V0 ([(tb, .inl (8, cap, .inr (.inr (.inr (.inr tf))))), (M, .inr (25, [va_rf tbo, va_rf es, .int (nI sz), .int mc, .int (nI th), .float 1061158912, .null, .null, va_rf (hdn hd q3 tl), .ref q3, .int 0, .int 0]))] ++ stW (L ++ [q3]) (ndX (va_up kd q3 true) (va_up hs q3 hz) (va_up ky q3 k9) (va_up vl q3 v9) (va_up (va_up nx q3 none) p (some q3)) (va_up bf q3 tl) (afn af q3 tl) pa8 lf9 rt10 (va_up (va_up pv q3 none) q3 (some p)) rd11))) 1 11 306 [(15, .ref q3), (14, .null), (13, .ref p), (10, .int (-1)), (8, .ref root), (5, .ref v9), (4, .ref k9), (3, .int hz), (2, .ref tb), (1, .ref M)] [.ref ro12, .ref tb]
      have hNm : ro12 ∈ l1 ++ p :: q3 :: l2 := by
        obtain ⟨_, _, h8⟩ := hT13
        have h7 : ro12 ∈ Lb ∨ ro12 = q3 := h8.1.1
        rw [hLs] at h7
        exact ins_mem.mpr h7
      obtain ⟨m1, m2, hMs⟩ := List.append_of_mem hNm
      have hLm : ∀ a, a ∈ l1 ++ p :: q3 :: l2 → a ∈ Lb ∨ a = q3 := fun a ha => by rw [hLs]; exact ins_mem.mp ha
      have hmlN : ∀ a, a ∈ l1 ++ p :: q3 :: l2 → a ∈ L ++ [q3] ∧ va_up kd q3 true a = true := fun a ha => (hLm a ha).elim (fun h => ⟨List.mem_append_left _ (hml a h).1, (up_ne (fun e => hqB (by rw [← e]; exact h))).trans (hml a h).2⟩) (fun e => by rw [e]; exact ⟨List.mem_append_right _ List.mem_cons_self, up_same _ _ _⟩)
      have hixN : ∀ a, a ∈ l1 ++ p :: q3 :: l2 → (nI (cap - 1) &&& va_up hs q3 hz a) = nI b := fun a ha => (hLm a ha).elim (fun h => by rw [hhq a h]; exact hixs a h) (fun e => by rw [e, up_same]; exact hix9)
      have hsN := ins_seg hsegs hnds hqs
      have hbN := ins_bck hsegs hbcks hnds hqs
      rw [hl1] at hsN hbN
      have hpv : va_up (va_up pv q3 none) q3 (some p) = va_up pv q3 (some p) := by rw [up_up]
      refine rn.mono (J := xSt F V0 ([(tb, .inl (8, cap, .inr (.inr (.inr (.inr tf))))), (M, .inr (25, [va_rf tbo, va_rf es, .int (nI sz), .int mc, .int (nI th), .float 1061158912, .null, .null, va_rf (hdn hd q3 tl), .ref q3, .int 0, .int 0]))] ++ stW (L ++ [q3]) (ndX (va_up kd q3 true) (va_up hs q3 hz) (va_up ky q3 k9) (va_up vl q3 v9) (va_up (va_up nx q3 none) p (some q3)) (va_up bf q3 tl) (afn af q3 tl) pa8 lf9 rt10 (va_up pv q3 (some p)) rd11))) (fun _ h => by rw [hpv] at h; exact h) ?_
      have hndN := ins_nd hnds hqs
      show rn C (xSt F V0 ([(tb, .inl (8, cap, .inr (.inr (.inr (.inr tf))))), (M, .inr (25, [va_rf tbo, va_rf es, .int (nI sz), .int mc, .int (nI th), .float 1061158912, .null, .null, va_rf (hdn hd q3 tl), .ref q3, .int 0, .int 0]))] ++ stW (L ++ [q3]) (ndX (va_up kd q3 true) (va_up hs q3 hz) (va_up ky q3 k9) (va_up vl q3 v9) (va_up (va_up nx q3 none) p (some q3)) (va_up bf q3 tl) (afn af q3 tl) pa8 lf9 rt10 (va_up pv q3 (some p)) rd11))) 1 11 306 [(15, .ref q3), (14, .null), (13, .ref p), (10, .int (-1)), (8, .ref root), (5, .ref v9), (4, .ref k9), (3, .int hz), (2, .ref tb), (1, .ref M)] [.ref ro12, .ref tb]
      refine xCall.ct (wcx := [(tb, .inl (8, cap, .inr (.inr (.inr (.inr tf)))))]) (wr := [(M, .inr (25, [va_rf tbo, va_rf es, .int (nI sz), .int mc, .int (nI th), .float 1061158912, .null, .null, va_rf (hdn hd q3 tl), .ref q3, .int 0, .int 0]))]) (r_cS hC [.ref tb, .ref ro12] mSJ26_moveRootToFront q2283 (fun V9 h9 => (metJ26_moveRootToFront _ _ hG (L ++ [q3]) (va_up kd q3 true) (va_up hs q3 hz) (va_up ky q3 k9) (va_up vl q3 v9) (va_up (va_up nx q3 none) p (some q3)) (va_up bf q3 tl) (afn af q3 tl) pa8 lf9 rt10 (va_up pv q3 (some p)) rd11 tb cap b tf hc1 hc2 hb ro12 (hixN ro12 hNm) (hmlN ro12 hNm).1 (hmlN ro12 hNm).2 m1 m2 (by rw [← hMs]; exact hsN) (by rw [← hMs]; exact hbN) (by rw [← hMs]; exact hndN) (fun a ha => hmlN a (by rw [hMs]; exact ha))) V9 (h9.in.cut (wcx := [(tb, .inl (8, cap, .inr (.inr (.inr (.inr tf)))))]) (wr := [(M, .inr (25, [va_rf tbo, va_rf es, .int (nI sz), .int mc, .int (nI th), .float 1061158912, .null, .null, va_rf (hdn hd q3 tl), .ref q3, .int 0, .int 0]))]) [0] [1] 2 rfl rfl rfl rfl)) ⟨rfl, rfl⟩ (Nat.le_of_ble_eq_true rfl) (Nat.le_of_ble_eq_true rfl) rfl (Nat.le_of_ble_eq_true rfl) dJ26_putTreeVal_306) [0] [1] 2 rfl rfl rfl rfl 1 11 309 rfl rfl rfl (fun v23 w24 h25 => ?_) (fun _ _ h => h.elim)
      obtain ⟨nx18, pv19, rfl, hs20, hb21, hu22, rfl⟩ := h25
      refine rn.mono (J := xSt F V0 ([(M, .inr (25, [va_rf tbo, va_rf es, .int (nI sz), .int mc, .int (nI th), .float 1061158912, .null, .null, va_rf (hdn hd q3 tl), .ref q3, .int 0, .int 0])), (tb, .inl (8, cap, .inr (.inr (.inr (.inr (va_up tf b (some ro12)))))))] ++ stW (L ++ [q3]) (ndX (va_up kd q3 true) (va_up hs q3 hz) (va_up ky q3 k9) (va_up vl q3 v9) nx18 (va_up bf q3 tl) (afn af q3 tl) pa8 lf9 rt10 pv19 rd11))) (fun _ h => by rw [← List.append_assoc] at h; exact h) ?_
      show rn C (xSt F V0 ([(M, .inr (25, [va_rf tbo, va_rf es, .int (nI sz), .int mc, .int (nI th), .float 1061158912, .null, .null, va_rf (hdn hd q3 tl), .ref q3, .int 0, .int 0])), (tb, .inl (8, cap, .inr (.inr (.inr (.inr (va_up tf b (some ro12)))))))] ++ stW (L ++ [q3]) (ndX (va_up kd q3 true) (va_up hs q3 hz) (va_up ky q3 k9) (va_up vl q3 v9) nx18 (va_up bf q3 tl) (afn af q3 tl) pa8 lf9 rt10 pv19 rd11))) 1 11 309 [(15, .ref q3), (14, .null), (13, .ref p), (10, .int (-1)), (8, .ref root), (5, .ref v9), (4, .ref k9), (3, .int hz), (2, .ref tb), (1, .ref M)] []
      refine r_null hC dJ26_putTreeVal_309 310 rfl ?_
      have hMm : ∀ a, a ∈ ro12 :: (m1 ++ m2) ↔ a ∈ Lb ∨ a = q3 := fun a => by rw [mid_mem, ← hMs, hLs]; exact ins_mem
      have hout : ∀ a, a ∈ L → a ∉ Lb → a ≠ q3 ∧ a ∉ l1 ++ p :: q3 :: l2 := fun a ha na => ⟨fun e => hq4 (by rw [← e]; exact ha), fun e => (hLm a e).elim na (fun e => hq4 (by rw [← e]; exact ha))⟩
      have hI9 : insI L ord kd hs ky vl nx pa lf rt pv Lb q3 hz k9 v9 (va_up kd q3 true) (va_up hs q3 hz) (va_up ky q3 k9) (va_up vl q3 v9) nx18 (va_up bf q3 tl) (afn af q3 tl) pa8 lf9 rt10 pv19 (hdn hd q3 tl) (ro12 :: (m1 ++ m2)) := by
        refine ⟨hq4, fun a ha => ?_, fun a ha na => ?_, lnk_add hl (fun e => hq4 (hoL q3 e)), hMm, up_same _ _ _, up_same _ _ _, up_same _ _ _⟩
        · have n1 : a ≠ q3 := fun e => hq4 (by rw [← e]; exact ha)
          exact ⟨up_ne n1, up_ne n1, up_ne n1, up_ne n1⟩
        · obtain ⟨n1, n2⟩ := hout a ha na
          have np : a ≠ p := fun e => na (by rw [e]; exact hp)
          obtain ⟨u1, u2⟩ := hu22 a (by rw [← hMs]; exact n2)
          obtain ⟨o1, o2, o3, -⟩ := hO14 a (fun e => e.elim na n1)
          exact ⟨u1.trans ((up_ne np).trans (up_ne n1)), o1.trans ((up_ne n1).trans (up_ne n1)), o2.trans ((up_ne np).trans (up_ne n1)), o3.trans (up_ne n1), u2.trans (up_ne n1)⟩
      have hB9 : binI (va_up kd q3 true) (va_up hs q3 hz) nx18 pa8 lf9 rt10 pv19 (some ro12) (ro12 :: (m1 ++ m2)) := by
        refine ⟨hs20, ?_, Or.inr ⟨fun a ha => (hmlN a (by rw [hMs]; exact mid_mem.mp ha)).2, ?_, hb21, ro12, m1 ++ m2, rfl, hT13.congr (fun a => hMm a) (fun _ _ => rfl) (fun _ _ => rfl) (fun _ _ => rfl)⟩⟩
        · rw [hMs] at hndN
          obtain ⟨g1, g2, g3, g4⟩ := nd_split hndN
          exact List.nodup_cons.mpr ⟨fun e => (List.mem_append.mp e).elim g1 g2, g3⟩
        · have e1 := congrArg List.length hMs
          have e2 := congrArg List.length hLs
          simp only [List.length_append, List.length_cons] at e1 e2 ⊢
          omega
      exact r_aret hC (v := none) (Or.inl ⟨_, rfl⟩) (Nat.le_of_ble_eq_true rfl) (Nat.le_of_ble_eq_true rfl) (fun V9 h => hQ _ _ ⟨_, ⟨q3, _, _, _, _, _, _, _, _, _, _, _, _, _, ro12 :: (m1 ++ m2), ro12, rfl, hI9, hB9, rfl⟩, by rw [← hV0, ← hF]; exact h.ordT [0, 1] 2 rfl rfl rfl⟩) dJ26_putTreeVal_310
    · skip
      obtain ⟨t9, ht9⟩ := seg_at hsegs hl1
      have hym : x2 ∈ Lb := by rw [hLs, ht9]; exact List.mem_append_right _ (List.mem_cons_of_mem _ List.mem_cons_self)
      refine r_getI (v := .ref x2) hC kJ26 3 rfl q2247 (Or.inr q2248) (fun _ h => stW_get h ((hml p hp).1) (ndX_t ((hml p hp).2))) (congrArg (fun o9 => some (va_rf o9)) (hl1)) dJ26_putTreeVal_223 226 rfl ?_
      refine r_astore hC 14 [(14, .ref x2), (13, .ref p), (10, .int (-1)), (8, .ref root), (5, .ref v9), (4, .ref k9), (3, .int hz), (2, .ref tb), (1, .ref M)] dJ26_putTreeVal_226 (Nat.le_of_ble_eq_true rfl) rfl 228 rfl ?_
      refine r_aload_n hC 8 dJ26_putTreeVal_228 rfl 229 rfl ?_
      refine r_iload_n hC 6 dJ26_putTreeVal_229 rfl 230 rfl ?_
      refine r_aload hC 5 dJ26_putTreeVal_230 rfl 232 rfl ?_
      refine r_aload hC 4 dJ26_putTreeVal_232 rfl 234 rfl ?_
      refine r_aload hC 0 dJ26_putTreeVal_234 rfl 236 rfl ?_
      refine xCall.ct (wcx := [(M, .inr (25, [va_rf tbo, va_rf es, .int (nI sz), .int mc, .int (nI th), .float 1061158912, .null, .null, va_rf hd, va_rf tl, .int 0, .int 0]))]) (wr := [(tb, .inl (8, cap, .inr (.inr (.inr (.inr tf)))))]) (r_cVD hC hG kJ21 M [.int hz, .ref k9, .ref v9, .ref x2] mDJ21_newTreeNode_J21 q2303 (fun _ h => ⟨_, h.get 0 rfl⟩) (fun V9 h9 => (metJ21_newTreeNodeS _ _ hG L kd hs ky vl nx bf af pa lf rt pv rd M tbo es sz th mc hd tl hz k9 v9 x2 htlL) V9 (h9.in.cut (wcx := [(M, .inr (25, [va_rf tbo, va_rf es, .int (nI sz), .int mc, .int (nI th), .float 1061158912, .null, .null, va_rf hd, va_rf tl, .int 0, .int 0]))]) (wr := [(tb, .inl (8, cap, .inr (.inr (.inr (.inr tf)))))]) [0] [1] 2 rfl rfl rfl rfl)) ⟨rfl, rfl⟩ (Nat.le_of_ble_eq_true rfl) (Nat.le_of_ble_eq_true rfl) rfl (Nat.le_of_ble_eq_true rfl) dJ26_putTreeVal_236) [0] [1] 2 rfl rfl rfl rfl 1 11 239 rfl rfl rfl (fun v28 w29 h30 => ?_) (fun _ _ h => h.elim)
      obtain ⟨q26, rfl, hq27, rfl⟩ := h30
      refine rn.mono (J := xSt F V0 ([(tb, .inl (8, cap, .inr (.inr (.inr (.inr tf))))), (M, .inr (25, [va_rf tbo, va_rf es, .int (nI sz), .int mc, .int (nI th), .float 1061158912, .null, .null, va_rf (hdn hd q26 tl), .ref q26, .int 0, .int 0]))] ++ stW (L ++ [q26]) (ndX (va_up kd q26 true) (va_up hs q26 hz) (va_up ky q26 k9) (va_up vl q26 v9) (va_up nx q26 (some x2)) (va_up bf q26 tl) (afn af q26 tl) (va_up pa q26 none) (va_up lf q26 none) (va_up rt q26 none) (va_up pv q26 none) (va_up rd q26 0)))) (fun _ h => by rw [← List.append_assoc] at h; exact h) ?_
      show rn C (xSt F V0 ([(tb, .inl (8, cap, .inr (.inr (.inr (.inr tf))))), (M, .inr (25, [va_rf tbo, va_rf es, .int (nI sz), .int mc, .int (nI th), .float 1061158912, .null, .null, va_rf (hdn hd q26 tl), .ref q26, .int 0, .int 0]))] ++ stW (L ++ [q26]) (ndX (va_up kd q26 true) (va_up hs q26 hz) (va_up ky q26 k9) (va_up vl q26 v9) (va_up nx q26 (some x2)) (va_up bf q26 tl) (afn af q26 tl) (va_up pa q26 none) (va_up lf q26 none) (va_up rt q26 none) (va_up pv q26 none) (va_up rd q26 0)))) 1 11 239 [(14, .ref x2), (13, .ref p), (10, .int (-1)), (8, .ref root), (5, .ref v9), (4, .ref k9), (3, .int hz), (2, .ref tb), (1, .ref M)] [.ref q26]
      have nn_root : root ≠ q26 := fun e => hq27 (by rw [← e]; exact (hml root hrm).1)
      have nn_p : p ≠ q26 := fun e => hq27 (by rw [← e]; exact (hml p hp).1)
      have nn_x2 : x2 ≠ q26 := fun e => hq27 (by rw [← e]; exact (hml x2 hym).1)
      have hqB : q26 ∉ Lb := fun e => hq27 (hml q26 e).1
      have hqs : q26 ∉ l1 ++ p :: l2 := by rw [← hLs]; exact hqB
      have hhq : ∀ a, a ∈ Lb → va_up hs q26 hz a = hs a := fun a ha => up_ne (fun e => hqB (by rw [← e]; exact ha))
      have htq : tIv (fun a => (va_up hs q26 hz a).toInt) (fun a => a ∈ Lb) pa lf rt root lo hi := tIv_hs ht (fun a ha => hhq a ha)
      obtain ⟨lo2, hi2, ht2⟩ := tI_insL htq (x := q26) (p := p) hqB hp (by show _ < (va_up hs q26 hz q26).toInt; rw [up_same]; exact h1) (by show (va_up hs q26 hz q26).toInt < (va_up hs q26 hz p).toInt; rw [up_same, hhq p hp]; exact h2) hl9 (T' := fun a => a ∈ Lb ∨ a = q26) (pa' := va_up (va_up pa q26 none) q26 (some p)) (lf' := va_up (va_up lf q26 none) p (some q26)) (rt' := va_up rt q26 none) (fun a => Iff.rfl) (up_same _ _ _) (fun a na => (up_ne na).trans (up_ne na)) (up_same _ _ _) ((up_ne (Ne.symm nn_p)).trans (up_same _ _ _)) (fun a na np => (up_ne np).trans (up_ne na)) (up_same _ _ _) (fun a na => up_ne na)
      refine r_astore hC 15 [(15, .ref q26), (14, .ref x2), (13, .ref p), (10, .int (-1)), (8, .ref root), (5, .ref v9), (4, .ref k9), (3, .int hz), (2, .ref tb), (1, .ref M)] dJ26_putTreeVal_239 (Nat.le_of_ble_eq_true rfl) rfl 241 rfl ?_
      refine r_iload hC 3 dJ26_putTreeVal_241 rfl 243 rfl ?_
      refine r_ifgt hC 256 dJ26_putTreeVal_243 (by decide) 246 rfl (fun h => absurd h (by decide)) (fun _ => ?_)
      refine r_aload hC 2 dJ26_putTreeVal_246 rfl 248 rfl ?_
      refine r_aload hC 0 dJ26_putTreeVal_248 rfl 250 rfl ?_
      refine r_putI (J := xSt F V0 ([(tb, .inl (8, cap, .inr (.inr (.inr (.inr tf))))), (M, .inr (25, [va_rf tbo, va_rf es, .int (nI sz), .int mc, .int (nI th), .float 1061158912, .null, .null, va_rf (hdn hd q26 tl), .ref q26, .int 0, .int 0]))] ++ stW (L ++ [q26]) (ndX (va_up kd q26 true) (va_up hs q26 hz) (va_up ky q26 k9) (va_up vl q26 v9) (va_up nx q26 (some x2)) (va_up bf q26 tl) (afn af q26 tl) (va_up pa q26 none) (va_up (va_up lf q26 none) p (some q26)) (va_up rt q26 none) (va_up pv q26 none) (va_up rd q26 0)))) hC kJ26 7 rfl q2316 (Or.inl rfl) rfl (fun _ h => stW_get h (List.mem_append_left _ ((hml p hp).1)) (ndX_t ((up_ne nn_p).trans ((hml p hp).2)))) (Nat.le_of_ble_eq_true rfl) rfl rfl dJ26_putTreeVal_250 (fun _ h => stW_set h (List.mem_append_left _ ((hml p hp).1)) (ndX_lf ((up_ne nn_p).trans ((hml p hp).2)))) 253 rfl ?_
      refine r_goto hC 263 dJ26_putTreeVal_253 (by decide) ?_
      refine r_aload hC 2 dJ26_putTreeVal_263 rfl 265 rfl ?_
      refine r_aload hC 0 dJ26_putTreeVal_265 rfl 267 rfl ?_
      refine r_putI (J := xSt F V0 ([(tb, .inl (8, cap, .inr (.inr (.inr (.inr tf))))), (M, .inr (25, [va_rf tbo, va_rf es, .int (nI sz), .int mc, .int (nI th), .float 1061158912, .null, .null, va_rf (hdn hd q26 tl), .ref q26, .int 0, .int 0]))] ++ stW (L ++ [q26]) (ndX (va_up kd q26 true) (va_up hs q26 hz) (va_up ky q26 k9) (va_up vl q26 v9) (va_up (va_up nx q26 (some x2)) p (some q26)) (va_up bf q26 tl) (afn af q26 tl) (va_up pa q26 none) (va_up (va_up lf q26 none) p (some q26)) (va_up rt q26 none) (va_up pv q26 none) (va_up rd q26 0)))) hC kJ26 3 rfl q2247 (Or.inr q2248) rfl (fun _ h => stW_get h (List.mem_append_left _ ((hml p hp).1)) (ndX_t ((up_ne nn_p).trans ((hml p hp).2)))) (Nat.le_of_ble_eq_true rfl) rfl rfl dJ26_putTreeVal_267 (fun _ h => stW_set h (List.mem_append_left _ ((hml p hp).1)) (ndX_nx ((up_ne nn_p).trans ((hml p hp).2)))) 270 rfl ?_
      refine r_aload hC 0 dJ26_putTreeVal_270 rfl 272 rfl ?_
      refine r_aload hC 0 dJ26_putTreeVal_272 rfl 274 rfl ?_
      refine r_aload hC 2 dJ26_putTreeVal_274 rfl 276 rfl ?_
      refine r_dup_x1 hC dJ26_putTreeVal_276 rfl rfl 277 rfl ?_
      refine r_putI (J := xSt F V0 ([(tb, .inl (8, cap, .inr (.inr (.inr (.inr tf))))), (M, .inr (25, [va_rf tbo, va_rf es, .int (nI sz), .int mc, .int (nI th), .float 1061158912, .null, .null, va_rf (hdn hd q26 tl), .ref q26, .int 0, .int 0]))] ++ stW (L ++ [q26]) (ndX (va_up kd q26 true) (va_up hs q26 hz) (va_up ky q26 k9) (va_up vl q26 v9) (va_up (va_up nx q26 (some x2)) p (some q26)) (va_up bf q26 tl) (afn af q26 tl) (va_up pa q26 none) (va_up (va_up lf q26 none) p (some q26)) (va_up rt q26 none) (va_up (va_up pv q26 none) q26 (some p)) (va_up rd q26 0)))) hC kJ26 9 rfl q2318 (Or.inl rfl) rfl (fun _ h => stW_get h (List.mem_append_right _ List.mem_cons_self) (ndX_t (up_same _ _ _))) (Nat.le_of_ble_eq_true rfl) rfl rfl dJ26_putTreeVal_277 (fun _ h => stW_set h (List.mem_append_right _ List.mem_cons_self) (ndX_pv (up_same _ _ _))) 280 rfl ?_
      refine r_putI (J := xSt F V0 ([(tb, .inl (8, cap, .inr (.inr (.inr (.inr tf))))), (M, .inr (25, [va_rf tbo, va_rf es, .int (nI sz), .int mc, .int (nI th), .float 1061158912, .null, .null, va_rf (hdn hd q26 tl), .ref q26, .int 0, .int 0]))] ++ stW (L ++ [q26]) (ndX (va_up kd q26 true) (va_up hs q26 hz) (va_up ky q26 k9) (va_up vl q26 v9) (va_up (va_up nx q26 (some x2)) p (some q26)) (va_up bf q26 tl) (afn af q26 tl) (va_up (va_up pa q26 none) q26 (some p)) (va_up (va_up lf q26 none) p (some q26)) (va_up rt q26 none) (va_up (va_up pv q26 none) q26 (some p)) (va_up rd q26 0)))) hC kJ26 6 rfl q2315 (Or.inl rfl) rfl (fun _ h => stW_get h (List.mem_append_right _ List.mem_cons_self) (ndX_t (up_same _ _ _))) (Nat.le_of_ble_eq_true rfl) rfl rfl dJ26_putTreeVal_280 (fun _ h => stW_set h (List.mem_append_right _ List.mem_cons_self) (ndX_pa (up_same _ _ _))) 283 rfl ?_
      refine r_aload hC 1 dJ26_putTreeVal_283 rfl 285 rfl ?_
      refine r_ifnull hC dJ26_putTreeVal_285 288 rfl ?_
      refine r_aload hC 1 dJ26_putTreeVal_288 rfl 290 rfl ?_
      refine r_castS hC kJ26 q2206 (fun _ h => ⟨_, stW_get h (List.mem_append_left _ ((hml x2 hym).1)) (ndX_t ((up_ne nn_x2).trans ((hml x2 hym).2)))⟩) dJ26_putTreeVal_290 293 rfl ?_
      refine r_aload hC 0 dJ26_putTreeVal_293 rfl 295 rfl ?_
      refine r_putI (J := xSt F V0 ([(tb, .inl (8, cap, .inr (.inr (.inr (.inr tf))))), (M, .inr (25, [va_rf tbo, va_rf es, .int (nI sz), .int mc, .int (nI th), .float 1061158912, .null, .null, va_rf (hdn hd q26 tl), .ref q26, .int 0, .int 0]))] ++ stW (L ++ [q26]) (ndX (va_up kd q26 true) (va_up hs q26 hz) (va_up ky q26 k9) (va_up vl q26 v9) (va_up (va_up nx q26 (some x2)) p (some q26)) (va_up bf q26 tl) (afn af q26 tl) (va_up (va_up pa q26 none) q26 (some p)) (va_up (va_up lf q26 none) p (some q26)) (va_up rt q26 none) (va_up (va_up (va_up pv q26 none) q26 (some p)) x2 (some q26)) (va_up rd q26 0)))) hC kJ26 9 rfl q2318 (Or.inl rfl) rfl (fun _ h => stW_get h (List.mem_append_left _ ((hml x2 hym).1)) (ndX_t ((up_ne nn_x2).trans ((hml x2 hym).2)))) (Nat.le_of_ble_eq_true rfl) rfl rfl dJ26_putTreeVal_295 (fun _ h => stW_set h (List.mem_append_left _ ((hml x2 hym).1)) (ndX_pv ((up_ne nn_x2).trans ((hml x2 hym).2)))) 298 rfl ?_
      refine r_aload_n hC 8 dJ26_putTreeVal_298 rfl 299 rfl ?_
      refine r_aload hC 4 dJ26_putTreeVal_299 rfl 301 rfl ?_
      refine r_aload hC 0 dJ26_putTreeVal_301 rfl 303 rfl ?_
      refine xCall.ct (wcx := []) (wr := [(tb, .inl (8, cap, .inr (.inr (.inr (.inr tf))))), (M, .inr (25, [va_rf tbo, va_rf es, .int (nI sz), .int mc, .int (nI th), .float 1061158912, .null, .null, va_rf (hdn hd q26 tl), .ref q26, .int 0, .int 0]))]) (r_cS hC [.ref root, .ref q26] mSJ26_balanceInsertion q2274 (fun V9 h9 => (metJ26_balanceInsertion _ _ hG (L ++ [q26]) (va_up kd q26 true) (va_up hs q26 hz) (va_up ky q26 k9) (va_up vl q26 v9) (va_up (va_up nx q26 (some x2)) p (some q26)) (va_up bf q26 tl) (afn af q26 tl) (va_up (va_up pa q26 none) q26 (some p)) (va_up (va_up lf q26 none) p (some q26)) (va_up rt q26 none) (va_up (va_up (va_up pv q26 none) q26 (some p)) x2 (some q26)) (va_up rd q26 0) (fun a => a ∈ Lb ∨ a = q26) (fun a ha => ha.elim (fun h => List.mem_append_left _ (hml a h).1) (fun e => by rw [e]; exact List.mem_append_right _ List.mem_cons_self)) (fun a ha => ha.elim (fun h => (up_ne (fun e => hqB (by rw [← e]; exact h))).trans (hml a h).2) (fun e => by rw [e]; exact up_same _ _ _)) lo2 hi2 root q26 ht2 (Or.inr rfl)) V9 (h9.in.cut (wcx := []) (wr := [(tb, .inl (8, cap, .inr (.inr (.inr (.inr tf))))), (M, .inr (25, [va_rf tbo, va_rf es, .int (nI sz), .int mc, .int (nI th), .float 1061158912, .null, .null, va_rf (hdn hd q26 tl), .ref q26, .int 0, .int 0]))]) [] [0, 1] 2 rfl rfl rfl rfl)) ⟨rfl, rfl⟩ (Nat.le_of_ble_eq_true rfl) (Nat.le_of_ble_eq_true rfl) rfl (Nat.le_of_ble_eq_true rfl) dJ26_putTreeVal_303) [] [0, 1] 2 rfl rfl rfl rfl 1 11 306 rfl rfl rfl (fun v38 w39 h40 => ?_) (fun _ _ h => h.elim)
      obtain ⟨pa31, lf32, rt33, rd34, ro35, rfl, hT36, hO37, rfl⟩ := h40
      show rn C (xSt F V0 ([(tb, .inl (8, cap, .inr (.inr (.inr (.inr tf))))), (M, .inr (25, [va_rf tbo, va_rf es, .int (nI sz), .int mc, .int (nI th), .float 1061158912, .null, .null, va_rf (hdn hd q26 tl), .ref q26, .int 0, .int 0]))] ++ stW (L ++ [q26]) (ndX (va_up kd q26 true) (va_up hs q26 hz) (va_up ky q26 k9) (va_up vl q26 v9) (va_up (va_up nx q26 (some x2)) p (some q26)) (va_up bf q26 tl) (afn af q26 tl) pa31 lf32 rt33 (va_up (va_up (va_up pv q26 none) q26 (some p)) x2 (some q26)) rd34))) 1 11 306 [(15, .ref q26), (14, .ref x2), (13, .ref p), (10, .int (-1)), (8, .ref root), (5, .ref v9), (4, .ref k9), (3, .int hz), (2, .ref tb), (1, .ref M)] [.ref ro35, .ref tb]
      have hNm : ro35 ∈ l1 ++ p :: q26 :: l2 := by
        obtain ⟨_, _, h8⟩ := hT36
        have h7 : ro35 ∈ Lb ∨ ro35 = q26 := h8.1.1
        rw [hLs] at h7
        exact ins_mem.mpr h7
      obtain ⟨m1, m2, hMs⟩ := List.append_of_mem hNm
      have hLm : ∀ a, a ∈ l1 ++ p :: q26 :: l2 → a ∈ Lb ∨ a = q26 := fun a ha => by rw [hLs]; exact ins_mem.mp ha
      have hmlN : ∀ a, a ∈ l1 ++ p :: q26 :: l2 → a ∈ L ++ [q26] ∧ va_up kd q26 true a = true := fun a ha => (hLm a ha).elim (fun h => ⟨List.mem_append_left _ (hml a h).1, (up_ne (fun e => hqB (by rw [← e]; exact h))).trans (hml a h).2⟩) (fun e => by rw [e]; exact ⟨List.mem_append_right _ List.mem_cons_self, up_same _ _ _⟩)
      have hixN : ∀ a, a ∈ l1 ++ p :: q26 :: l2 → (nI (cap - 1) &&& va_up hs q26 hz a) = nI b := fun a ha => (hLm a ha).elim (fun h => by rw [hhq a h]; exact hixs a h) (fun e => by rw [e, up_same]; exact hix9)
      have hsN := ins_seg hsegs hnds hqs
      have hbN := ins_bck hsegs hbcks hnds hqs
      rw [hl1] at hsN hbN
      have hpv : va_up (va_up (va_up pv q26 none) q26 (some p)) x2 (some q26) = va_up (va_up pv q26 (some p)) x2 (some q26) := by rw [up_up]
      refine rn.mono (J := xSt F V0 ([(tb, .inl (8, cap, .inr (.inr (.inr (.inr tf))))), (M, .inr (25, [va_rf tbo, va_rf es, .int (nI sz), .int mc, .int (nI th), .float 1061158912, .null, .null, va_rf (hdn hd q26 tl), .ref q26, .int 0, .int 0]))] ++ stW (L ++ [q26]) (ndX (va_up kd q26 true) (va_up hs q26 hz) (va_up ky q26 k9) (va_up vl q26 v9) (va_up (va_up nx q26 (some x2)) p (some q26)) (va_up bf q26 tl) (afn af q26 tl) pa31 lf32 rt33 (va_up (va_up pv q26 (some p)) x2 (some q26)) rd34))) (fun _ h => by rw [hpv] at h; exact h) ?_
      have hndN := ins_nd hnds hqs
      show rn C (xSt F V0 ([(tb, .inl (8, cap, .inr (.inr (.inr (.inr tf))))), (M, .inr (25, [va_rf tbo, va_rf es, .int (nI sz), .int mc, .int (nI th), .float 1061158912, .null, .null, va_rf (hdn hd q26 tl), .ref q26, .int 0, .int 0]))] ++ stW (L ++ [q26]) (ndX (va_up kd q26 true) (va_up hs q26 hz) (va_up ky q26 k9) (va_up vl q26 v9) (va_up (va_up nx q26 (some x2)) p (some q26)) (va_up bf q26 tl) (afn af q26 tl) pa31 lf32 rt33 (va_up (va_up pv q26 (some p)) x2 (some q26)) rd34))) 1 11 306 [(15, .ref q26), (14, .ref x2), (13, .ref p), (10, .int (-1)), (8, .ref root), (5, .ref v9), (4, .ref k9), (3, .int hz), (2, .ref tb), (1, .ref M)] [.ref ro35, .ref tb]
      refine xCall.ct (wcx := [(tb, .inl (8, cap, .inr (.inr (.inr (.inr tf)))))]) (wr := [(M, .inr (25, [va_rf tbo, va_rf es, .int (nI sz), .int mc, .int (nI th), .float 1061158912, .null, .null, va_rf (hdn hd q26 tl), .ref q26, .int 0, .int 0]))]) (r_cS hC [.ref tb, .ref ro35] mSJ26_moveRootToFront q2283 (fun V9 h9 => (metJ26_moveRootToFront _ _ hG (L ++ [q26]) (va_up kd q26 true) (va_up hs q26 hz) (va_up ky q26 k9) (va_up vl q26 v9) (va_up (va_up nx q26 (some x2)) p (some q26)) (va_up bf q26 tl) (afn af q26 tl) pa31 lf32 rt33 (va_up (va_up pv q26 (some p)) x2 (some q26)) rd34 tb cap b tf hc1 hc2 hb ro35 (hixN ro35 hNm) (hmlN ro35 hNm).1 (hmlN ro35 hNm).2 m1 m2 (by rw [← hMs]; exact hsN) (by rw [← hMs]; exact hbN) (by rw [← hMs]; exact hndN) (fun a ha => hmlN a (by rw [hMs]; exact ha))) V9 (h9.in.cut (wcx := [(tb, .inl (8, cap, .inr (.inr (.inr (.inr tf)))))]) (wr := [(M, .inr (25, [va_rf tbo, va_rf es, .int (nI sz), .int mc, .int (nI th), .float 1061158912, .null, .null, va_rf (hdn hd q26 tl), .ref q26, .int 0, .int 0]))]) [0] [1] 2 rfl rfl rfl rfl)) ⟨rfl, rfl⟩ (Nat.le_of_ble_eq_true rfl) (Nat.le_of_ble_eq_true rfl) rfl (Nat.le_of_ble_eq_true rfl) dJ26_putTreeVal_306) [0] [1] 2 rfl rfl rfl rfl 1 11 309 rfl rfl rfl (fun v46 w47 h48 => ?_) (fun _ _ h => h.elim)
      obtain ⟨nx41, pv42, rfl, hs43, hb44, hu45, rfl⟩ := h48
      refine rn.mono (J := xSt F V0 ([(M, .inr (25, [va_rf tbo, va_rf es, .int (nI sz), .int mc, .int (nI th), .float 1061158912, .null, .null, va_rf (hdn hd q26 tl), .ref q26, .int 0, .int 0])), (tb, .inl (8, cap, .inr (.inr (.inr (.inr (va_up tf b (some ro35)))))))] ++ stW (L ++ [q26]) (ndX (va_up kd q26 true) (va_up hs q26 hz) (va_up ky q26 k9) (va_up vl q26 v9) nx41 (va_up bf q26 tl) (afn af q26 tl) pa31 lf32 rt33 pv42 rd34))) (fun _ h => by rw [← List.append_assoc] at h; exact h) ?_
      show rn C (xSt F V0 ([(M, .inr (25, [va_rf tbo, va_rf es, .int (nI sz), .int mc, .int (nI th), .float 1061158912, .null, .null, va_rf (hdn hd q26 tl), .ref q26, .int 0, .int 0])), (tb, .inl (8, cap, .inr (.inr (.inr (.inr (va_up tf b (some ro35)))))))] ++ stW (L ++ [q26]) (ndX (va_up kd q26 true) (va_up hs q26 hz) (va_up ky q26 k9) (va_up vl q26 v9) nx41 (va_up bf q26 tl) (afn af q26 tl) pa31 lf32 rt33 pv42 rd34))) 1 11 309 [(15, .ref q26), (14, .ref x2), (13, .ref p), (10, .int (-1)), (8, .ref root), (5, .ref v9), (4, .ref k9), (3, .int hz), (2, .ref tb), (1, .ref M)] []
      refine r_null hC dJ26_putTreeVal_309 310 rfl ?_
      have hMm : ∀ a, a ∈ ro35 :: (m1 ++ m2) ↔ a ∈ Lb ∨ a = q26 := fun a => by rw [mid_mem, ← hMs, hLs]; exact ins_mem
      have hout : ∀ a, a ∈ L → a ∉ Lb → a ≠ q26 ∧ a ∉ l1 ++ p :: q26 :: l2 := fun a ha na => ⟨fun e => hq27 (by rw [← e]; exact ha), fun e => (hLm a e).elim na (fun e => hq27 (by rw [← e]; exact ha))⟩
      have hI9 : insI L ord kd hs ky vl nx pa lf rt pv Lb q26 hz k9 v9 (va_up kd q26 true) (va_up hs q26 hz) (va_up ky q26 k9) (va_up vl q26 v9) nx41 (va_up bf q26 tl) (afn af q26 tl) pa31 lf32 rt33 pv42 (hdn hd q26 tl) (ro35 :: (m1 ++ m2)) := by
        refine ⟨hq27, fun a ha => ?_, fun a ha na => ?_, lnk_add hl (fun e => hq27 (hoL q26 e)), hMm, up_same _ _ _, up_same _ _ _, up_same _ _ _⟩
        · have n1 : a ≠ q26 := fun e => hq27 (by rw [← e]; exact ha)
          exact ⟨up_ne n1, up_ne n1, up_ne n1, up_ne n1⟩
        · obtain ⟨n1, n2⟩ := hout a ha na
          have np : a ≠ p := fun e => na (by rw [e]; exact hp)
          obtain ⟨u1, u2⟩ := hu45 a (by rw [← hMs]; exact n2)
          obtain ⟨o1, o2, o3, -⟩ := hO37 a (fun e => e.elim na n1)
          exact ⟨u1.trans ((up_ne np).trans (up_ne n1)), o1.trans ((up_ne n1).trans (up_ne n1)), o2.trans ((up_ne np).trans (up_ne n1)), o3.trans (up_ne n1), u2.trans ((up_ne (fun e => na (by rw [e]; exact hym))).trans (up_ne n1))⟩
      have hB9 : binI (va_up kd q26 true) (va_up hs q26 hz) nx41 pa31 lf32 rt33 pv42 (some ro35) (ro35 :: (m1 ++ m2)) := by
        refine ⟨hs43, ?_, Or.inr ⟨fun a ha => (hmlN a (by rw [hMs]; exact mid_mem.mp ha)).2, ?_, hb44, ro35, m1 ++ m2, rfl, hT36.congr (fun a => hMm a) (fun _ _ => rfl) (fun _ _ => rfl) (fun _ _ => rfl)⟩⟩
        · rw [hMs] at hndN
          obtain ⟨g1, g2, g3, g4⟩ := nd_split hndN
          exact List.nodup_cons.mpr ⟨fun e => (List.mem_append.mp e).elim g1 g2, g3⟩
        · have e1 := congrArg List.length hMs
          have e2 := congrArg List.length hLs
          simp only [List.length_append, List.length_cons] at e1 e2 ⊢
          omega
      exact r_aret hC (v := none) (Or.inl ⟨_, rfl⟩) (Nat.le_of_ble_eq_true rfl) (Nat.le_of_ble_eq_true rfl) (fun V9 h => hQ _ _ ⟨_, ⟨q26, _, _, _, _, _, _, _, _, _, _, _, _, _, ro35 :: (m1 ++ m2), ro35, rfl, hI9, hB9, rfl⟩, by rw [← hV0, ← hF]; exact h.ordT [0, 1] 2 rfl rfl rfl⟩) dJ26_putTreeVal_310
  · skip
    have hp : p ∈ Lb := hp
    obtain ⟨l1, l2, hLs⟩ := List.append_of_mem hp
    have hsegs := hseg
    have hbcks := hbck
    have hnds := hnd
    rw [hLs] at hsegs hbcks hnds
    show rn C (xSt F V0 ([(M, .inr (25, [va_rf tbo, va_rf es, .int (nI sz), .int mc, .int (nI th), .float 1061158912, .null, .null, va_rf hd, va_rf tl, .int 0, .int 0])), (tb, .inl (8, cap, .inr (.inr (.inr (.inr tf)))))] ++ stW L (ndX kd hs ky vl nx bf af pa lf rt pv rd))) 0 0 221 [(13, .ref p), (10, .int 1), (8, .ref root), (5, .ref v9), (4, .ref k9), (3, .int hz), (2, .ref tb), (1, .ref M)] []
    refine r_aload hC 0 dJ26_putTreeVal_221 rfl 223 rfl ?_
    rcases opt_c (nx p) with hl49 | ⟨x50, hl49⟩
    · skip
      refine r_getI (v := .null) hC kJ26 3 rfl q2247 (Or.inr q2248) (fun _ h => stW_get h ((hml p hp).1) (ndX_t ((hml p hp).2))) (congrArg (fun o9 => some (va_rf o9)) (hl49)) dJ26_putTreeVal_223 226 rfl ?_
      refine r_astoreN hC 14 [(14, .null), (13, .ref p), (10, .int 1), (8, .ref root), (5, .ref v9), (4, .ref k9), (3, .int hz), (2, .ref tb), (1, .ref M)] dJ26_putTreeVal_226 (Nat.le_of_ble_eq_true rfl) rfl 228 rfl ?_
      refine r_aload_n hC 8 dJ26_putTreeVal_228 rfl 229 rfl ?_
      refine r_iload_n hC 6 dJ26_putTreeVal_229 rfl 230 rfl ?_
      refine r_aload hC 5 dJ26_putTreeVal_230 rfl 232 rfl ?_
      refine r_aload hC 4 dJ26_putTreeVal_232 rfl 234 rfl ?_
      refine r_aloadN hC 0 dJ26_putTreeVal_234 rfl 236 rfl ?_
      refine xCall.ct (wcx := [(M, .inr (25, [va_rf tbo, va_rf es, .int (nI sz), .int mc, .int (nI th), .float 1061158912, .null, .null, va_rf hd, va_rf tl, .int 0, .int 0]))]) (wr := [(tb, .inl (8, cap, .inr (.inr (.inr (.inr tf)))))]) (r_cVD hC hG kJ21 M [.int hz, .ref k9, .ref v9, .null] mDJ21_newTreeNode_J21 q2303 (fun _ h => ⟨_, h.get 0 rfl⟩) (fun V9 h9 => (metJ21_newTreeNodeN _ _ hG L kd hs ky vl nx bf af pa lf rt pv rd M tbo es sz th mc hd tl hz k9 v9 htlL) V9 (h9.in.cut (wcx := [(M, .inr (25, [va_rf tbo, va_rf es, .int (nI sz), .int mc, .int (nI th), .float 1061158912, .null, .null, va_rf hd, va_rf tl, .int 0, .int 0]))]) (wr := [(tb, .inl (8, cap, .inr (.inr (.inr (.inr tf)))))]) [0] [1] 2 rfl rfl rfl rfl)) ⟨rfl, rfl⟩ (Nat.le_of_ble_eq_true rfl) (Nat.le_of_ble_eq_true rfl) rfl (Nat.le_of_ble_eq_true rfl) dJ26_putTreeVal_236) [0] [1] 2 rfl rfl rfl rfl 1 11 239 rfl rfl rfl (fun v53 w54 h55 => ?_) (fun _ _ h => h.elim)
      obtain ⟨q51, rfl, hq52, rfl⟩ := h55
      refine rn.mono (J := xSt F V0 ([(tb, .inl (8, cap, .inr (.inr (.inr (.inr tf))))), (M, .inr (25, [va_rf tbo, va_rf es, .int (nI sz), .int mc, .int (nI th), .float 1061158912, .null, .null, va_rf (hdn hd q51 tl), .ref q51, .int 0, .int 0]))] ++ stW (L ++ [q51]) (ndX (va_up kd q51 true) (va_up hs q51 hz) (va_up ky q51 k9) (va_up vl q51 v9) (va_up nx q51 none) (va_up bf q51 tl) (afn af q51 tl) (va_up pa q51 none) (va_up lf q51 none) (va_up rt q51 none) (va_up pv q51 none) (va_up rd q51 0)))) (fun _ h => by rw [← List.append_assoc] at h; exact h) ?_
      show rn C (xSt F V0 ([(tb, .inl (8, cap, .inr (.inr (.inr (.inr tf))))), (M, .inr (25, [va_rf tbo, va_rf es, .int (nI sz), .int mc, .int (nI th), .float 1061158912, .null, .null, va_rf (hdn hd q51 tl), .ref q51, .int 0, .int 0]))] ++ stW (L ++ [q51]) (ndX (va_up kd q51 true) (va_up hs q51 hz) (va_up ky q51 k9) (va_up vl q51 v9) (va_up nx q51 none) (va_up bf q51 tl) (afn af q51 tl) (va_up pa q51 none) (va_up lf q51 none) (va_up rt q51 none) (va_up pv q51 none) (va_up rd q51 0)))) 1 11 239 [(14, .null), (13, .ref p), (10, .int 1), (8, .ref root), (5, .ref v9), (4, .ref k9), (3, .int hz), (2, .ref tb), (1, .ref M)] [.ref q51]
      have nn_root : root ≠ q51 := fun e => hq52 (by rw [← e]; exact (hml root hrm).1)
      have nn_p : p ≠ q51 := fun e => hq52 (by rw [← e]; exact (hml p hp).1)
      have hqB : q51 ∉ Lb := fun e => hq52 (hml q51 e).1
      have hqs : q51 ∉ l1 ++ p :: l2 := by rw [← hLs]; exact hqB
      have hhq : ∀ a, a ∈ Lb → va_up hs q51 hz a = hs a := fun a ha => up_ne (fun e => hqB (by rw [← e]; exact ha))
      have htq : tIv (fun a => (va_up hs q51 hz a).toInt) (fun a => a ∈ Lb) pa lf rt root lo hi := tIv_hs ht (fun a ha => hhq a ha)
      obtain ⟨lo2, hi2, ht2⟩ := tI_insR htq (x := q51) (p := p) hqB hp (by show (va_up hs q51 hz p).toInt < (va_up hs q51 hz q51).toInt; rw [up_same, hhq p hp]; exact h1) (by show (va_up hs q51 hz q51).toInt < _; rw [up_same]; exact h2) hl9 (T' := fun a => a ∈ Lb ∨ a = q51) (pa' := va_up (va_up pa q51 none) q51 (some p)) (rt' := va_up (va_up rt q51 none) p (some q51)) (lf' := va_up lf q51 none) (fun a => Iff.rfl) (up_same _ _ _) (fun a na => (up_ne na).trans (up_ne na)) (up_same _ _ _) ((up_ne (Ne.symm nn_p)).trans (up_same _ _ _)) (fun a na np => (up_ne np).trans (up_ne na)) (up_same _ _ _) (fun a na => up_ne na)
      refine r_astore hC 15 [(15, .ref q51), (14, .null), (13, .ref p), (10, .int 1), (8, .ref root), (5, .ref v9), (4, .ref k9), (3, .int hz), (2, .ref tb), (1, .ref M)] dJ26_putTreeVal_239 (Nat.le_of_ble_eq_true rfl) rfl 241 rfl ?_
      refine r_iload hC 3 dJ26_putTreeVal_241 rfl 243 rfl ?_
      refine r_ifgt hC 256 dJ26_putTreeVal_243 (by decide) 246 rfl (fun _ => ?_) (fun h => absurd h (by decide))
      refine r_aload hC 2 dJ26_putTreeVal_256 rfl 258 rfl ?_
      refine r_aload hC 0 dJ26_putTreeVal_258 rfl 260 rfl ?_
      refine r_putI (J := xSt F V0 ([(tb, .inl (8, cap, .inr (.inr (.inr (.inr tf))))), (M, .inr (25, [va_rf tbo, va_rf es, .int (nI sz), .int mc, .int (nI th), .float 1061158912, .null, .null, va_rf (hdn hd q51 tl), .ref q51, .int 0, .int 0]))] ++ stW (L ++ [q51]) (ndX (va_up kd q51 true) (va_up hs q51 hz) (va_up ky q51 k9) (va_up vl q51 v9) (va_up nx q51 none) (va_up bf q51 tl) (afn af q51 tl) (va_up pa q51 none) (va_up lf q51 none) (va_up (va_up rt q51 none) p (some q51)) (va_up pv q51 none) (va_up rd q51 0)))) hC kJ26 8 rfl q2317 (Or.inl rfl) rfl (fun _ h => stW_get h (List.mem_append_left _ ((hml p hp).1)) (ndX_t ((up_ne nn_p).trans ((hml p hp).2)))) (Nat.le_of_ble_eq_true rfl) rfl rfl dJ26_putTreeVal_260 (fun _ h => stW_set h (List.mem_append_left _ ((hml p hp).1)) (ndX_rt ((up_ne nn_p).trans ((hml p hp).2)))) 263 rfl ?_
      refine r_aload hC 2 dJ26_putTreeVal_263 rfl 265 rfl ?_
      refine r_aload hC 0 dJ26_putTreeVal_265 rfl 267 rfl ?_
      refine r_putI (J := xSt F V0 ([(tb, .inl (8, cap, .inr (.inr (.inr (.inr tf))))), (M, .inr (25, [va_rf tbo, va_rf es, .int (nI sz), .int mc, .int (nI th), .float 1061158912, .null, .null, va_rf (hdn hd q51 tl), .ref q51, .int 0, .int 0]))] ++ stW (L ++ [q51]) (ndX (va_up kd q51 true) (va_up hs q51 hz) (va_up ky q51 k9) (va_up vl q51 v9) (va_up (va_up nx q51 none) p (some q51)) (va_up bf q51 tl) (afn af q51 tl) (va_up pa q51 none) (va_up lf q51 none) (va_up (va_up rt q51 none) p (some q51)) (va_up pv q51 none) (va_up rd q51 0)))) hC kJ26 3 rfl q2247 (Or.inr q2248) rfl (fun _ h => stW_get h (List.mem_append_left _ ((hml p hp).1)) (ndX_t ((up_ne nn_p).trans ((hml p hp).2)))) (Nat.le_of_ble_eq_true rfl) rfl rfl dJ26_putTreeVal_267 (fun _ h => stW_set h (List.mem_append_left _ ((hml p hp).1)) (ndX_nx ((up_ne nn_p).trans ((hml p hp).2)))) 270 rfl ?_
      refine r_aload hC 0 dJ26_putTreeVal_270 rfl 272 rfl ?_
      refine r_aload hC 0 dJ26_putTreeVal_272 rfl 274 rfl ?_
      refine r_aload hC 2 dJ26_putTreeVal_274 rfl 276 rfl ?_
      refine r_dup_x1 hC dJ26_putTreeVal_276 rfl rfl 277 rfl ?_
      refine r_putI (J := xSt F V0 ([(tb, .inl (8, cap, .inr (.inr (.inr (.inr tf))))), (M, .inr (25, [va_rf tbo, va_rf es, .int (nI sz), .int mc, .int (nI th), .float 1061158912, .null, .null, va_rf (hdn hd q51 tl), .ref q51, .int 0, .int 0]))] ++ stW (L ++ [q51]) (ndX (va_up kd q51 true) (va_up hs q51 hz) (va_up ky q51 k9) (va_up vl q51 v9) (va_up (va_up nx q51 none) p (some q51)) (va_up bf q51 tl) (afn af q51 tl) (va_up pa q51 none) (va_up lf q51 none) (va_up (va_up rt q51 none) p (some q51)) (va_up (va_up pv q51 none) q51 (some p)) (va_up rd q51 0)))) hC kJ26 9 rfl q2318 (Or.inl rfl) rfl (fun _ h => stW_get h (List.mem_append_right _ List.mem_cons_self) (ndX_t (up_same _ _ _))) (Nat.le_of_ble_eq_true rfl) rfl rfl dJ26_putTreeVal_277 (fun _ h => stW_set h (List.mem_append_right _ List.mem_cons_self) (ndX_pv (up_same _ _ _))) 280 rfl ?_
      refine r_putI (J := xSt F V0 ([(tb, .inl (8, cap, .inr (.inr (.inr (.inr tf))))), (M, .inr (25, [va_rf tbo, va_rf es, .int (nI sz), .int mc, .int (nI th), .float 1061158912, .null, .null, va_rf (hdn hd q51 tl), .ref q51, .int 0, .int 0]))] ++ stW (L ++ [q51]) (ndX (va_up kd q51 true) (va_up hs q51 hz) (va_up ky q51 k9) (va_up vl q51 v9) (va_up (va_up nx q51 none) p (some q51)) (va_up bf q51 tl) (afn af q51 tl) (va_up (va_up pa q51 none) q51 (some p)) (va_up lf q51 none) (va_up (va_up rt q51 none) p (some q51)) (va_up (va_up pv q51 none) q51 (some p)) (va_up rd q51 0)))) hC kJ26 6 rfl q2315 (Or.inl rfl) rfl (fun _ h => stW_get h (List.mem_append_right _ List.mem_cons_self) (ndX_t (up_same _ _ _))) (Nat.le_of_ble_eq_true rfl) rfl rfl dJ26_putTreeVal_280 (fun _ h => stW_set h (List.mem_append_right _ List.mem_cons_self) (ndX_pa (up_same _ _ _))) 283 rfl ?_
      refine r_aloadN hC 1 dJ26_putTreeVal_283 rfl 285 rfl ?_
      refine r_ifnullN hC 298 dJ26_putTreeVal_285 (by decide) ?_
      refine r_aload_n hC 8 dJ26_putTreeVal_298 rfl 299 rfl ?_
      refine r_aload hC 4 dJ26_putTreeVal_299 rfl 301 rfl ?_
      refine r_aload hC 0 dJ26_putTreeVal_301 rfl 303 rfl ?_
      refine xCall.ct (wcx := []) (wr := [(tb, .inl (8, cap, .inr (.inr (.inr (.inr tf))))), (M, .inr (25, [va_rf tbo, va_rf es, .int (nI sz), .int mc, .int (nI th), .float 1061158912, .null, .null, va_rf (hdn hd q51 tl), .ref q51, .int 0, .int 0]))]) (r_cS hC [.ref root, .ref q51] mSJ26_balanceInsertion q2274 (fun V9 h9 => (metJ26_balanceInsertion _ _ hG (L ++ [q51]) (va_up kd q51 true) (va_up hs q51 hz) (va_up ky q51 k9) (va_up vl q51 v9) (va_up (va_up nx q51 none) p (some q51)) (va_up bf q51 tl) (afn af q51 tl) (va_up (va_up pa q51 none) q51 (some p)) (va_up lf q51 none) (va_up (va_up rt q51 none) p (some q51)) (va_up (va_up pv q51 none) q51 (some p)) (va_up rd q51 0) (fun a => a ∈ Lb ∨ a = q51) (fun a ha => ha.elim (fun h => List.mem_append_left _ (hml a h).1) (fun e => by rw [e]; exact List.mem_append_right _ List.mem_cons_self)) (fun a ha => ha.elim (fun h => (up_ne (fun e => hqB (by rw [← e]; exact h))).trans (hml a h).2) (fun e => by rw [e]; exact up_same _ _ _)) lo2 hi2 root q51 ht2 (Or.inr rfl)) V9 (h9.in.cut (wcx := []) (wr := [(tb, .inl (8, cap, .inr (.inr (.inr (.inr tf))))), (M, .inr (25, [va_rf tbo, va_rf es, .int (nI sz), .int mc, .int (nI th), .float 1061158912, .null, .null, va_rf (hdn hd q51 tl), .ref q51, .int 0, .int 0]))]) [] [0, 1] 2 rfl rfl rfl rfl)) ⟨rfl, rfl⟩ (Nat.le_of_ble_eq_true rfl) (Nat.le_of_ble_eq_true rfl) rfl (Nat.le_of_ble_eq_true rfl) dJ26_putTreeVal_303) [] [0, 1] 2 rfl rfl rfl rfl 1 11 306 rfl rfl rfl (fun v63 w64 h65 => ?_) (fun _ _ h => h.elim)
      obtain ⟨pa56, lf57, rt58, rd59, ro60, rfl, hT61, hO62, rfl⟩ := h65
      show rn C (xSt F V0 ([(tb, .inl (8, cap, .inr (.inr (.inr (.inr tf))))), (M, .inr (25, [va_rf tbo, va_rf es, .int (nI sz), .int mc, .int (nI th), .float 1061158912, .null, .null, va_rf (hdn hd q51 tl), .ref q51, .int 0, .int 0]))] ++ stW (L ++ [q51]) (ndX (va_up kd q51 true) (va_up hs q51 hz) (va_up ky q51 k9) (va_up vl q51 v9) (va_up (va_up nx q51 none) p (some q51)) (va_up bf q51 tl) (afn af q51 tl) pa56 lf57 rt58 (va_up (va_up pv q51 none) q51 (some p)) rd59))) 1 11 306 [(15, .ref q51), (14, .null), (13, .ref p), (10, .int 1), (8, .ref root), (5, .ref v9), (4, .ref k9), (3, .int hz), (2, .ref tb), (1, .ref M)] [.ref ro60, .ref tb]
      have hNm : ro60 ∈ l1 ++ p :: q51 :: l2 := by
        obtain ⟨_, _, h8⟩ := hT61
        have h7 : ro60 ∈ Lb ∨ ro60 = q51 := h8.1.1
        rw [hLs] at h7
        exact ins_mem.mpr h7
      obtain ⟨m1, m2, hMs⟩ := List.append_of_mem hNm
      have hLm : ∀ a, a ∈ l1 ++ p :: q51 :: l2 → a ∈ Lb ∨ a = q51 := fun a ha => by rw [hLs]; exact ins_mem.mp ha
      have hmlN : ∀ a, a ∈ l1 ++ p :: q51 :: l2 → a ∈ L ++ [q51] ∧ va_up kd q51 true a = true := fun a ha => (hLm a ha).elim (fun h => ⟨List.mem_append_left _ (hml a h).1, (up_ne (fun e => hqB (by rw [← e]; exact h))).trans (hml a h).2⟩) (fun e => by rw [e]; exact ⟨List.mem_append_right _ List.mem_cons_self, up_same _ _ _⟩)
      have hixN : ∀ a, a ∈ l1 ++ p :: q51 :: l2 → (nI (cap - 1) &&& va_up hs q51 hz a) = nI b := fun a ha => (hLm a ha).elim (fun h => by rw [hhq a h]; exact hixs a h) (fun e => by rw [e, up_same]; exact hix9)
      have hsN := ins_seg hsegs hnds hqs
      have hbN := ins_bck hsegs hbcks hnds hqs
      rw [hl49] at hsN hbN
      have hpv : va_up (va_up pv q51 none) q51 (some p) = va_up pv q51 (some p) := by rw [up_up]
      refine rn.mono (J := xSt F V0 ([(tb, .inl (8, cap, .inr (.inr (.inr (.inr tf))))), (M, .inr (25, [va_rf tbo, va_rf es, .int (nI sz), .int mc, .int (nI th), .float 1061158912, .null, .null, va_rf (hdn hd q51 tl), .ref q51, .int 0, .int 0]))] ++ stW (L ++ [q51]) (ndX (va_up kd q51 true) (va_up hs q51 hz) (va_up ky q51 k9) (va_up vl q51 v9) (va_up (va_up nx q51 none) p (some q51)) (va_up bf q51 tl) (afn af q51 tl) pa56 lf57 rt58 (va_up pv q51 (some p)) rd59))) (fun _ h => by rw [hpv] at h; exact h) ?_
      have hndN := ins_nd hnds hqs
      show rn C (xSt F V0 ([(tb, .inl (8, cap, .inr (.inr (.inr (.inr tf))))), (M, .inr (25, [va_rf tbo, va_rf es, .int (nI sz), .int mc, .int (nI th), .float 1061158912, .null, .null, va_rf (hdn hd q51 tl), .ref q51, .int 0, .int 0]))] ++ stW (L ++ [q51]) (ndX (va_up kd q51 true) (va_up hs q51 hz) (va_up ky q51 k9) (va_up vl q51 v9) (va_up (va_up nx q51 none) p (some q51)) (va_up bf q51 tl) (afn af q51 tl) pa56 lf57 rt58 (va_up pv q51 (some p)) rd59))) 1 11 306 [(15, .ref q51), (14, .null), (13, .ref p), (10, .int 1), (8, .ref root), (5, .ref v9), (4, .ref k9), (3, .int hz), (2, .ref tb), (1, .ref M)] [.ref ro60, .ref tb]
      refine xCall.ct (wcx := [(tb, .inl (8, cap, .inr (.inr (.inr (.inr tf)))))]) (wr := [(M, .inr (25, [va_rf tbo, va_rf es, .int (nI sz), .int mc, .int (nI th), .float 1061158912, .null, .null, va_rf (hdn hd q51 tl), .ref q51, .int 0, .int 0]))]) (r_cS hC [.ref tb, .ref ro60] mSJ26_moveRootToFront q2283 (fun V9 h9 => (metJ26_moveRootToFront _ _ hG (L ++ [q51]) (va_up kd q51 true) (va_up hs q51 hz) (va_up ky q51 k9) (va_up vl q51 v9) (va_up (va_up nx q51 none) p (some q51)) (va_up bf q51 tl) (afn af q51 tl) pa56 lf57 rt58 (va_up pv q51 (some p)) rd59 tb cap b tf hc1 hc2 hb ro60 (hixN ro60 hNm) (hmlN ro60 hNm).1 (hmlN ro60 hNm).2 m1 m2 (by rw [← hMs]; exact hsN) (by rw [← hMs]; exact hbN) (by rw [← hMs]; exact hndN) (fun a ha => hmlN a (by rw [hMs]; exact ha))) V9 (h9.in.cut (wcx := [(tb, .inl (8, cap, .inr (.inr (.inr (.inr tf)))))]) (wr := [(M, .inr (25, [va_rf tbo, va_rf es, .int (nI sz), .int mc, .int (nI th), .float 1061158912, .null, .null, va_rf (hdn hd q51 tl), .ref q51, .int 0, .int 0]))]) [0] [1] 2 rfl rfl rfl rfl)) ⟨rfl, rfl⟩ (Nat.le_of_ble_eq_true rfl) (Nat.le_of_ble_eq_true rfl) rfl (Nat.le_of_ble_eq_true rfl) dJ26_putTreeVal_306) [0] [1] 2 rfl rfl rfl rfl 1 11 309 rfl rfl rfl (fun v71 w72 h73 => ?_) (fun _ _ h => h.elim)
      obtain ⟨nx66, pv67, rfl, hs68, hb69, hu70, rfl⟩ := h73
      refine rn.mono (J := xSt F V0 ([(M, .inr (25, [va_rf tbo, va_rf es, .int (nI sz), .int mc, .int (nI th), .float 1061158912, .null, .null, va_rf (hdn hd q51 tl), .ref q51, .int 0, .int 0])), (tb, .inl (8, cap, .inr (.inr (.inr (.inr (va_up tf b (some ro60)))))))] ++ stW (L ++ [q51]) (ndX (va_up kd q51 true) (va_up hs q51 hz) (va_up ky q51 k9) (va_up vl q51 v9) nx66 (va_up bf q51 tl) (afn af q51 tl) pa56 lf57 rt58 pv67 rd59))) (fun _ h => by rw [← List.append_assoc] at h; exact h) ?_
      show rn C (xSt F V0 ([(M, .inr (25, [va_rf tbo, va_rf es, .int (nI sz), .int mc, .int (nI th), .float 1061158912, .null, .null, va_rf (hdn hd q51 tl), .ref q51, .int 0, .int 0])), (tb, .inl (8, cap, .inr (.inr (.inr (.inr (va_up tf b (some ro60)))))))] ++ stW (L ++ [q51]) (ndX (va_up kd q51 true) (va_up hs q51 hz) (va_up ky q51 k9) (va_up vl q51 v9) nx66 (va_up bf q51 tl) (afn af q51 tl) pa56 lf57 rt58 pv67 rd59))) 1 11 309 [(15, .ref q51), (14, .null), (13, .ref p), (10, .int 1), (8, .ref root), (5, .ref v9), (4, .ref k9), (3, .int hz), (2, .ref tb), (1, .ref M)] []
      refine r_null hC dJ26_putTreeVal_309 310 rfl ?_
      have hMm : ∀ a, a ∈ ro60 :: (m1 ++ m2) ↔ a ∈ Lb ∨ a = q51 := fun a => by rw [mid_mem, ← hMs, hLs]; exact ins_mem
      have hout : ∀ a, a ∈ L → a ∉ Lb → a ≠ q51 ∧ a ∉ l1 ++ p :: q51 :: l2 := fun a ha na => ⟨fun e => hq52 (by rw [← e]; exact ha), fun e => (hLm a e).elim na (fun e => hq52 (by rw [← e]; exact ha))⟩
      have hI9 : insI L ord kd hs ky vl nx pa lf rt pv Lb q51 hz k9 v9 (va_up kd q51 true) (va_up hs q51 hz) (va_up ky q51 k9) (va_up vl q51 v9) nx66 (va_up bf q51 tl) (afn af q51 tl) pa56 lf57 rt58 pv67 (hdn hd q51 tl) (ro60 :: (m1 ++ m2)) := by
        refine ⟨hq52, fun a ha => ?_, fun a ha na => ?_, lnk_add hl (fun e => hq52 (hoL q51 e)), hMm, up_same _ _ _, up_same _ _ _, up_same _ _ _⟩
        · have n1 : a ≠ q51 := fun e => hq52 (by rw [← e]; exact ha)
          exact ⟨up_ne n1, up_ne n1, up_ne n1, up_ne n1⟩
        · obtain ⟨n1, n2⟩ := hout a ha na
          have np : a ≠ p := fun e => na (by rw [e]; exact hp)
          obtain ⟨u1, u2⟩ := hu70 a (by rw [← hMs]; exact n2)
          obtain ⟨o1, o2, o3, -⟩ := hO62 a (fun e => e.elim na n1)
          exact ⟨u1.trans ((up_ne np).trans (up_ne n1)), o1.trans ((up_ne n1).trans (up_ne n1)), o2.trans (up_ne n1), o3.trans ((up_ne np).trans (up_ne n1)), u2.trans (up_ne n1)⟩
      have hB9 : binI (va_up kd q51 true) (va_up hs q51 hz) nx66 pa56 lf57 rt58 pv67 (some ro60) (ro60 :: (m1 ++ m2)) := by
        refine ⟨hs68, ?_, Or.inr ⟨fun a ha => (hmlN a (by rw [hMs]; exact mid_mem.mp ha)).2, ?_, hb69, ro60, m1 ++ m2, rfl, hT61.congr (fun a => hMm a) (fun _ _ => rfl) (fun _ _ => rfl) (fun _ _ => rfl)⟩⟩
        · rw [hMs] at hndN
          obtain ⟨g1, g2, g3, g4⟩ := nd_split hndN
          exact List.nodup_cons.mpr ⟨fun e => (List.mem_append.mp e).elim g1 g2, g3⟩
        · have e1 := congrArg List.length hMs
          have e2 := congrArg List.length hLs
          simp only [List.length_append, List.length_cons] at e1 e2 ⊢
          omega
      exact r_aret hC (v := none) (Or.inl ⟨_, rfl⟩) (Nat.le_of_ble_eq_true rfl) (Nat.le_of_ble_eq_true rfl) (fun V9 h => hQ _ _ ⟨_, ⟨q51, _, _, _, _, _, _, _, _, _, _, _, _, _, ro60 :: (m1 ++ m2), ro60, rfl, hI9, hB9, rfl⟩, by rw [← hV0, ← hF]; exact h.ordT [0, 1] 2 rfl rfl rfl⟩) dJ26_putTreeVal_310
    · skip
      obtain ⟨t9, ht9⟩ := seg_at hsegs hl49
      have hym : x50 ∈ Lb := by rw [hLs, ht9]; exact List.mem_append_right _ (List.mem_cons_of_mem _ List.mem_cons_self)
      refine r_getI (v := .ref x50) hC kJ26 3 rfl q2247 (Or.inr q2248) (fun _ h => stW_get h ((hml p hp).1) (ndX_t ((hml p hp).2))) (congrArg (fun o9 => some (va_rf o9)) (hl49)) dJ26_putTreeVal_223 226 rfl ?_
      refine r_astore hC 14 [(14, .ref x50), (13, .ref p), (10, .int 1), (8, .ref root), (5, .ref v9), (4, .ref k9), (3, .int hz), (2, .ref tb), (1, .ref M)] dJ26_putTreeVal_226 (Nat.le_of_ble_eq_true rfl) rfl 228 rfl ?_
      refine r_aload_n hC 8 dJ26_putTreeVal_228 rfl 229 rfl ?_
      refine r_iload_n hC 6 dJ26_putTreeVal_229 rfl 230 rfl ?_
      refine r_aload hC 5 dJ26_putTreeVal_230 rfl 232 rfl ?_
      refine r_aload hC 4 dJ26_putTreeVal_232 rfl 234 rfl ?_
      refine r_aload hC 0 dJ26_putTreeVal_234 rfl 236 rfl ?_
      refine xCall.ct (wcx := [(M, .inr (25, [va_rf tbo, va_rf es, .int (nI sz), .int mc, .int (nI th), .float 1061158912, .null, .null, va_rf hd, va_rf tl, .int 0, .int 0]))]) (wr := [(tb, .inl (8, cap, .inr (.inr (.inr (.inr tf)))))]) (r_cVD hC hG kJ21 M [.int hz, .ref k9, .ref v9, .ref x50] mDJ21_newTreeNode_J21 q2303 (fun _ h => ⟨_, h.get 0 rfl⟩) (fun V9 h9 => (metJ21_newTreeNodeS _ _ hG L kd hs ky vl nx bf af pa lf rt pv rd M tbo es sz th mc hd tl hz k9 v9 x50 htlL) V9 (h9.in.cut (wcx := [(M, .inr (25, [va_rf tbo, va_rf es, .int (nI sz), .int mc, .int (nI th), .float 1061158912, .null, .null, va_rf hd, va_rf tl, .int 0, .int 0]))]) (wr := [(tb, .inl (8, cap, .inr (.inr (.inr (.inr tf)))))]) [0] [1] 2 rfl rfl rfl rfl)) ⟨rfl, rfl⟩ (Nat.le_of_ble_eq_true rfl) (Nat.le_of_ble_eq_true rfl) rfl (Nat.le_of_ble_eq_true rfl) dJ26_putTreeVal_236) [0] [1] 2 rfl rfl rfl rfl 1 11 239 rfl rfl rfl (fun v76 w77 h78 => ?_) (fun _ _ h => h.elim)
      obtain ⟨q74, rfl, hq75, rfl⟩ := h78
      refine rn.mono (J := xSt F V0 ([(tb, .inl (8, cap, .inr (.inr (.inr (.inr tf))))), (M, .inr (25, [va_rf tbo, va_rf es, .int (nI sz), .int mc, .int (nI th), .float 1061158912, .null, .null, va_rf (hdn hd q74 tl), .ref q74, .int 0, .int 0]))] ++ stW (L ++ [q74]) (ndX (va_up kd q74 true) (va_up hs q74 hz) (va_up ky q74 k9) (va_up vl q74 v9) (va_up nx q74 (some x50)) (va_up bf q74 tl) (afn af q74 tl) (va_up pa q74 none) (va_up lf q74 none) (va_up rt q74 none) (va_up pv q74 none) (va_up rd q74 0)))) (fun _ h => by rw [← List.append_assoc] at h; exact h) ?_
      show rn C (xSt F V0 ([(tb, .inl (8, cap, .inr (.inr (.inr (.inr tf))))), (M, .inr (25, [va_rf tbo, va_rf es, .int (nI sz), .int mc, .int (nI th), .float 1061158912, .null, .null, va_rf (hdn hd q74 tl), .ref q74, .int 0, .int 0]))] ++ stW (L ++ [q74]) (ndX (va_up kd q74 true) (va_up hs q74 hz) (va_up ky q74 k9) (va_up vl q74 v9) (va_up nx q74 (some x50)) (va_up bf q74 tl) (afn af q74 tl) (va_up pa q74 none) (va_up lf q74 none) (va_up rt q74 none) (va_up pv q74 none) (va_up rd q74 0)))) 1 11 239 [(14, .ref x50), (13, .ref p), (10, .int 1), (8, .ref root), (5, .ref v9), (4, .ref k9), (3, .int hz), (2, .ref tb), (1, .ref M)] [.ref q74]
      have nn_root : root ≠ q74 := fun e => hq75 (by rw [← e]; exact (hml root hrm).1)
      have nn_p : p ≠ q74 := fun e => hq75 (by rw [← e]; exact (hml p hp).1)
      have nn_x50 : x50 ≠ q74 := fun e => hq75 (by rw [← e]; exact (hml x50 hym).1)
      have hqB : q74 ∉ Lb := fun e => hq75 (hml q74 e).1
      have hqs : q74 ∉ l1 ++ p :: l2 := by rw [← hLs]; exact hqB
      have hhq : ∀ a, a ∈ Lb → va_up hs q74 hz a = hs a := fun a ha => up_ne (fun e => hqB (by rw [← e]; exact ha))
      have htq : tIv (fun a => (va_up hs q74 hz a).toInt) (fun a => a ∈ Lb) pa lf rt root lo hi := tIv_hs ht (fun a ha => hhq a ha)
      obtain ⟨lo2, hi2, ht2⟩ := tI_insR htq (x := q74) (p := p) hqB hp (by show (va_up hs q74 hz p).toInt < (va_up hs q74 hz q74).toInt; rw [up_same, hhq p hp]; exact h1) (by show (va_up hs q74 hz q74).toInt < _; rw [up_same]; exact h2) hl9 (T' := fun a => a ∈ Lb ∨ a = q74) (pa' := va_up (va_up pa q74 none) q74 (some p)) (rt' := va_up (va_up rt q74 none) p (some q74)) (lf' := va_up lf q74 none) (fun a => Iff.rfl) (up_same _ _ _) (fun a na => (up_ne na).trans (up_ne na)) (up_same _ _ _) ((up_ne (Ne.symm nn_p)).trans (up_same _ _ _)) (fun a na np => (up_ne np).trans (up_ne na)) (up_same _ _ _) (fun a na => up_ne na)
      refine r_astore hC 15 [(15, .ref q74), (14, .ref x50), (13, .ref p), (10, .int 1), (8, .ref root), (5, .ref v9), (4, .ref k9), (3, .int hz), (2, .ref tb), (1, .ref M)] dJ26_putTreeVal_239 (Nat.le_of_ble_eq_true rfl) rfl 241 rfl ?_
      refine r_iload hC 3 dJ26_putTreeVal_241 rfl 243 rfl ?_
      refine r_ifgt hC 256 dJ26_putTreeVal_243 (by decide) 246 rfl (fun _ => ?_) (fun h => absurd h (by decide))
      refine r_aload hC 2 dJ26_putTreeVal_256 rfl 258 rfl ?_
      refine r_aload hC 0 dJ26_putTreeVal_258 rfl 260 rfl ?_
      refine r_putI (J := xSt F V0 ([(tb, .inl (8, cap, .inr (.inr (.inr (.inr tf))))), (M, .inr (25, [va_rf tbo, va_rf es, .int (nI sz), .int mc, .int (nI th), .float 1061158912, .null, .null, va_rf (hdn hd q74 tl), .ref q74, .int 0, .int 0]))] ++ stW (L ++ [q74]) (ndX (va_up kd q74 true) (va_up hs q74 hz) (va_up ky q74 k9) (va_up vl q74 v9) (va_up nx q74 (some x50)) (va_up bf q74 tl) (afn af q74 tl) (va_up pa q74 none) (va_up lf q74 none) (va_up (va_up rt q74 none) p (some q74)) (va_up pv q74 none) (va_up rd q74 0)))) hC kJ26 8 rfl q2317 (Or.inl rfl) rfl (fun _ h => stW_get h (List.mem_append_left _ ((hml p hp).1)) (ndX_t ((up_ne nn_p).trans ((hml p hp).2)))) (Nat.le_of_ble_eq_true rfl) rfl rfl dJ26_putTreeVal_260 (fun _ h => stW_set h (List.mem_append_left _ ((hml p hp).1)) (ndX_rt ((up_ne nn_p).trans ((hml p hp).2)))) 263 rfl ?_
      refine r_aload hC 2 dJ26_putTreeVal_263 rfl 265 rfl ?_
      refine r_aload hC 0 dJ26_putTreeVal_265 rfl 267 rfl ?_
      refine r_putI (J := xSt F V0 ([(tb, .inl (8, cap, .inr (.inr (.inr (.inr tf))))), (M, .inr (25, [va_rf tbo, va_rf es, .int (nI sz), .int mc, .int (nI th), .float 1061158912, .null, .null, va_rf (hdn hd q74 tl), .ref q74, .int 0, .int 0]))] ++ stW (L ++ [q74]) (ndX (va_up kd q74 true) (va_up hs q74 hz) (va_up ky q74 k9) (va_up vl q74 v9) (va_up (va_up nx q74 (some x50)) p (some q74)) (va_up bf q74 tl) (afn af q74 tl) (va_up pa q74 none) (va_up lf q74 none) (va_up (va_up rt q74 none) p (some q74)) (va_up pv q74 none) (va_up rd q74 0)))) hC kJ26 3 rfl q2247 (Or.inr q2248) rfl (fun _ h => stW_get h (List.mem_append_left _ ((hml p hp).1)) (ndX_t ((up_ne nn_p).trans ((hml p hp).2)))) (Nat.le_of_ble_eq_true rfl) rfl rfl dJ26_putTreeVal_267 (fun _ h => stW_set h (List.mem_append_left _ ((hml p hp).1)) (ndX_nx ((up_ne nn_p).trans ((hml p hp).2)))) 270 rfl ?_
      refine r_aload hC 0 dJ26_putTreeVal_270 rfl 272 rfl ?_
      refine r_aload hC 0 dJ26_putTreeVal_272 rfl 274 rfl ?_
      refine r_aload hC 2 dJ26_putTreeVal_274 rfl 276 rfl ?_
      refine r_dup_x1 hC dJ26_putTreeVal_276 rfl rfl 277 rfl ?_
      refine r_putI (J := xSt F V0 ([(tb, .inl (8, cap, .inr (.inr (.inr (.inr tf))))), (M, .inr (25, [va_rf tbo, va_rf es, .int (nI sz), .int mc, .int (nI th), .float 1061158912, .null, .null, va_rf (hdn hd q74 tl), .ref q74, .int 0, .int 0]))] ++ stW (L ++ [q74]) (ndX (va_up kd q74 true) (va_up hs q74 hz) (va_up ky q74 k9) (va_up vl q74 v9) (va_up (va_up nx q74 (some x50)) p (some q74)) (va_up bf q74 tl) (afn af q74 tl) (va_up pa q74 none) (va_up lf q74 none) (va_up (va_up rt q74 none) p (some q74)) (va_up (va_up pv q74 none) q74 (some p)) (va_up rd q74 0)))) hC kJ26 9 rfl q2318 (Or.inl rfl) rfl (fun _ h => stW_get h (List.mem_append_right _ List.mem_cons_self) (ndX_t (up_same _ _ _))) (Nat.le_of_ble_eq_true rfl) rfl rfl dJ26_putTreeVal_277 (fun _ h => stW_set h (List.mem_append_right _ List.mem_cons_self) (ndX_pv (up_same _ _ _))) 280 rfl ?_
      refine r_putI (J := xSt F V0 ([(tb, .inl (8, cap, .inr (.inr (.inr (.inr tf))))), (M, .inr (25, [va_rf tbo, va_rf es, .int (nI sz), .int mc, .int (nI th), .float 1061158912, .null, .null, va_rf (hdn hd q74 tl), .ref q74, .int 0, .int 0]))] ++ stW (L ++ [q74]) (ndX (va_up kd q74 true) (va_up hs q74 hz) (va_up ky q74 k9) (va_up vl q74 v9) (va_up (va_up nx q74 (some x50)) p (some q74)) (va_up bf q74 tl) (afn af q74 tl) (va_up (va_up pa q74 none) q74 (some p)) (va_up lf q74 none) (va_up (va_up rt q74 none) p (some q74)) (va_up (va_up pv q74 none) q74 (some p)) (va_up rd q74 0)))) hC kJ26 6 rfl q2315 (Or.inl rfl) rfl (fun _ h => stW_get h (List.mem_append_right _ List.mem_cons_self) (ndX_t (up_same _ _ _))) (Nat.le_of_ble_eq_true rfl) rfl rfl dJ26_putTreeVal_280 (fun _ h => stW_set h (List.mem_append_right _ List.mem_cons_self) (ndX_pa (up_same _ _ _))) 283 rfl ?_
      refine r_aload hC 1 dJ26_putTreeVal_283 rfl 285 rfl ?_
      refine r_ifnull hC dJ26_putTreeVal_285 288 rfl ?_
      refine r_aload hC 1 dJ26_putTreeVal_288 rfl 290 rfl ?_
      refine r_castS hC kJ26 q2206 (fun _ h => ⟨_, stW_get h (List.mem_append_left _ ((hml x50 hym).1)) (ndX_t ((up_ne nn_x50).trans ((hml x50 hym).2)))⟩) dJ26_putTreeVal_290 293 rfl ?_
      refine r_aload hC 0 dJ26_putTreeVal_293 rfl 295 rfl ?_
      refine r_putI (J := xSt F V0 ([(tb, .inl (8, cap, .inr (.inr (.inr (.inr tf))))), (M, .inr (25, [va_rf tbo, va_rf es, .int (nI sz), .int mc, .int (nI th), .float 1061158912, .null, .null, va_rf (hdn hd q74 tl), .ref q74, .int 0, .int 0]))] ++ stW (L ++ [q74]) (ndX (va_up kd q74 true) (va_up hs q74 hz) (va_up ky q74 k9) (va_up vl q74 v9) (va_up (va_up nx q74 (some x50)) p (some q74)) (va_up bf q74 tl) (afn af q74 tl) (va_up (va_up pa q74 none) q74 (some p)) (va_up lf q74 none) (va_up (va_up rt q74 none) p (some q74)) (va_up (va_up (va_up pv q74 none) q74 (some p)) x50 (some q74)) (va_up rd q74 0)))) hC kJ26 9 rfl q2318 (Or.inl rfl) rfl (fun _ h => stW_get h (List.mem_append_left _ ((hml x50 hym).1)) (ndX_t ((up_ne nn_x50).trans ((hml x50 hym).2)))) (Nat.le_of_ble_eq_true rfl) rfl rfl dJ26_putTreeVal_295 (fun _ h => stW_set h (List.mem_append_left _ ((hml x50 hym).1)) (ndX_pv ((up_ne nn_x50).trans ((hml x50 hym).2)))) 298 rfl ?_
      refine r_aload_n hC 8 dJ26_putTreeVal_298 rfl 299 rfl ?_
      refine r_aload hC 4 dJ26_putTreeVal_299 rfl 301 rfl ?_
      refine r_aload hC 0 dJ26_putTreeVal_301 rfl 303 rfl ?_
      refine xCall.ct (wcx := []) (wr := [(tb, .inl (8, cap, .inr (.inr (.inr (.inr tf))))), (M, .inr (25, [va_rf tbo, va_rf es, .int (nI sz), .int mc, .int (nI th), .float 1061158912, .null, .null, va_rf (hdn hd q74 tl), .ref q74, .int 0, .int 0]))]) (r_cS hC [.ref root, .ref q74] mSJ26_balanceInsertion q2274 (fun V9 h9 => (metJ26_balanceInsertion _ _ hG (L ++ [q74]) (va_up kd q74 true) (va_up hs q74 hz) (va_up ky q74 k9) (va_up vl q74 v9) (va_up (va_up nx q74 (some x50)) p (some q74)) (va_up bf q74 tl) (afn af q74 tl) (va_up (va_up pa q74 none) q74 (some p)) (va_up lf q74 none) (va_up (va_up rt q74 none) p (some q74)) (va_up (va_up (va_up pv q74 none) q74 (some p)) x50 (some q74)) (va_up rd q74 0) (fun a => a ∈ Lb ∨ a = q74) (fun a ha => ha.elim (fun h => List.mem_append_left _ (hml a h).1) (fun e => by rw [e]; exact List.mem_append_right _ List.mem_cons_self)) (fun a ha => ha.elim (fun h => (up_ne (fun e => hqB (by rw [← e]; exact h))).trans (hml a h).2) (fun e => by rw [e]; exact up_same _ _ _)) lo2 hi2 root q74 ht2 (Or.inr rfl)) V9 (h9.in.cut (wcx := []) (wr := [(tb, .inl (8, cap, .inr (.inr (.inr (.inr tf))))), (M, .inr (25, [va_rf tbo, va_rf es, .int (nI sz), .int mc, .int (nI th), .float 1061158912, .null, .null, va_rf (hdn hd q74 tl), .ref q74, .int 0, .int 0]))]) [] [0, 1] 2 rfl rfl rfl rfl)) ⟨rfl, rfl⟩ (Nat.le_of_ble_eq_true rfl) (Nat.le_of_ble_eq_true rfl) rfl (Nat.le_of_ble_eq_true rfl) dJ26_putTreeVal_303) [] [0, 1] 2 rfl rfl rfl rfl 1 11 306 rfl rfl rfl (fun v86 w87 h88 => ?_) (fun _ _ h => h.elim)
      obtain ⟨pa79, lf80, rt81, rd82, ro83, rfl, hT84, hO85, rfl⟩ := h88
      show rn C (xSt F V0 ([(tb, .inl (8, cap, .inr (.inr (.inr (.inr tf))))), (M, .inr (25, [va_rf tbo, va_rf es, .int (nI sz), .int mc, .int (nI th), .float 1061158912, .null, .null, va_rf (hdn hd q74 tl), .ref q74, .int 0, .int 0]))] ++ stW (L ++ [q74]) (ndX (va_up kd q74 true) (va_up hs q74 hz) (va_up ky q74 k9) (va_up vl q74 v9) (va_up (va_up nx q74 (some x50)) p (some q74)) (va_up bf q74 tl) (afn af q74 tl) pa79 lf80 rt81 (va_up (va_up (va_up pv q74 none) q74 (some p)) x50 (some q74)) rd82))) 1 11 306 [(15, .ref q74), (14, .ref x50), (13, .ref p), (10, .int 1), (8, .ref root), (5, .ref v9), (4, .ref k9), (3, .int hz), (2, .ref tb), (1, .ref M)] [.ref ro83, .ref tb]
      have hNm : ro83 ∈ l1 ++ p :: q74 :: l2 := by
        obtain ⟨_, _, h8⟩ := hT84
        have h7 : ro83 ∈ Lb ∨ ro83 = q74 := h8.1.1
        rw [hLs] at h7
        exact ins_mem.mpr h7
      obtain ⟨m1, m2, hMs⟩ := List.append_of_mem hNm
      have hLm : ∀ a, a ∈ l1 ++ p :: q74 :: l2 → a ∈ Lb ∨ a = q74 := fun a ha => by rw [hLs]; exact ins_mem.mp ha
      have hmlN : ∀ a, a ∈ l1 ++ p :: q74 :: l2 → a ∈ L ++ [q74] ∧ va_up kd q74 true a = true := fun a ha => (hLm a ha).elim (fun h => ⟨List.mem_append_left _ (hml a h).1, (up_ne (fun e => hqB (by rw [← e]; exact h))).trans (hml a h).2⟩) (fun e => by rw [e]; exact ⟨List.mem_append_right _ List.mem_cons_self, up_same _ _ _⟩)
      have hixN : ∀ a, a ∈ l1 ++ p :: q74 :: l2 → (nI (cap - 1) &&& va_up hs q74 hz a) = nI b := fun a ha => (hLm a ha).elim (fun h => by rw [hhq a h]; exact hixs a h) (fun e => by rw [e, up_same]; exact hix9)
      have hsN := ins_seg hsegs hnds hqs
      have hbN := ins_bck hsegs hbcks hnds hqs
      rw [hl49] at hsN hbN
      have hpv : va_up (va_up (va_up pv q74 none) q74 (some p)) x50 (some q74) = va_up (va_up pv q74 (some p)) x50 (some q74) := by rw [up_up]
      refine rn.mono (J := xSt F V0 ([(tb, .inl (8, cap, .inr (.inr (.inr (.inr tf))))), (M, .inr (25, [va_rf tbo, va_rf es, .int (nI sz), .int mc, .int (nI th), .float 1061158912, .null, .null, va_rf (hdn hd q74 tl), .ref q74, .int 0, .int 0]))] ++ stW (L ++ [q74]) (ndX (va_up kd q74 true) (va_up hs q74 hz) (va_up ky q74 k9) (va_up vl q74 v9) (va_up (va_up nx q74 (some x50)) p (some q74)) (va_up bf q74 tl) (afn af q74 tl) pa79 lf80 rt81 (va_up (va_up pv q74 (some p)) x50 (some q74)) rd82))) (fun _ h => by rw [hpv] at h; exact h) ?_
      have hndN := ins_nd hnds hqs
      show rn C (xSt F V0 ([(tb, .inl (8, cap, .inr (.inr (.inr (.inr tf))))), (M, .inr (25, [va_rf tbo, va_rf es, .int (nI sz), .int mc, .int (nI th), .float 1061158912, .null, .null, va_rf (hdn hd q74 tl), .ref q74, .int 0, .int 0]))] ++ stW (L ++ [q74]) (ndX (va_up kd q74 true) (va_up hs q74 hz) (va_up ky q74 k9) (va_up vl q74 v9) (va_up (va_up nx q74 (some x50)) p (some q74)) (va_up bf q74 tl) (afn af q74 tl) pa79 lf80 rt81 (va_up (va_up pv q74 (some p)) x50 (some q74)) rd82))) 1 11 306 [(15, .ref q74), (14, .ref x50), (13, .ref p), (10, .int 1), (8, .ref root), (5, .ref v9), (4, .ref k9), (3, .int hz), (2, .ref tb), (1, .ref M)] [.ref ro83, .ref tb]
      refine xCall.ct (wcx := [(tb, .inl (8, cap, .inr (.inr (.inr (.inr tf)))))]) (wr := [(M, .inr (25, [va_rf tbo, va_rf es, .int (nI sz), .int mc, .int (nI th), .float 1061158912, .null, .null, va_rf (hdn hd q74 tl), .ref q74, .int 0, .int 0]))]) (r_cS hC [.ref tb, .ref ro83] mSJ26_moveRootToFront q2283 (fun V9 h9 => (metJ26_moveRootToFront _ _ hG (L ++ [q74]) (va_up kd q74 true) (va_up hs q74 hz) (va_up ky q74 k9) (va_up vl q74 v9) (va_up (va_up nx q74 (some x50)) p (some q74)) (va_up bf q74 tl) (afn af q74 tl) pa79 lf80 rt81 (va_up (va_up pv q74 (some p)) x50 (some q74)) rd82 tb cap b tf hc1 hc2 hb ro83 (hixN ro83 hNm) (hmlN ro83 hNm).1 (hmlN ro83 hNm).2 m1 m2 (by rw [← hMs]; exact hsN) (by rw [← hMs]; exact hbN) (by rw [← hMs]; exact hndN) (fun a ha => hmlN a (by rw [hMs]; exact ha))) V9 (h9.in.cut (wcx := [(tb, .inl (8, cap, .inr (.inr (.inr (.inr tf)))))]) (wr := [(M, .inr (25, [va_rf tbo, va_rf es, .int (nI sz), .int mc, .int (nI th), .float 1061158912, .null, .null, va_rf (hdn hd q74 tl), .ref q74, .int 0, .int 0]))]) [0] [1] 2 rfl rfl rfl rfl)) ⟨rfl, rfl⟩ (Nat.le_of_ble_eq_true rfl) (Nat.le_of_ble_eq_true rfl) rfl (Nat.le_of_ble_eq_true rfl) dJ26_putTreeVal_306) [0] [1] 2 rfl rfl rfl rfl 1 11 309 rfl rfl rfl (fun v94 w95 h96 => ?_) (fun _ _ h => h.elim)
      obtain ⟨nx89, pv90, rfl, hs91, hb92, hu93, rfl⟩ := h96
      refine rn.mono (J := xSt F V0 ([(M, .inr (25, [va_rf tbo, va_rf es, .int (nI sz), .int mc, .int (nI th), .float 1061158912, .null, .null, va_rf (hdn hd q74 tl), .ref q74, .int 0, .int 0])), (tb, .inl (8, cap, .inr (.inr (.inr (.inr (va_up tf b (some ro83)))))))] ++ stW (L ++ [q74]) (ndX (va_up kd q74 true) (va_up hs q74 hz) (va_up ky q74 k9) (va_up vl q74 v9) nx89 (va_up bf q74 tl) (afn af q74 tl) pa79 lf80 rt81 pv90 rd82))) (fun _ h => by rw [← List.append_assoc] at h; exact h) ?_
      show rn C (xSt F V0 ([(M, .inr (25, [va_rf tbo, va_rf es, .int (nI sz), .int mc, .int (nI th), .float 1061158912, .null, .null, va_rf (hdn hd q74 tl), .ref q74, .int 0, .int 0])), (tb, .inl (8, cap, .inr (.inr (.inr (.inr (va_up tf b (some ro83)))))))] ++ stW (L ++ [q74]) (ndX (va_up kd q74 true) (va_up hs q74 hz) (va_up ky q74 k9) (va_up vl q74 v9) nx89 (va_up bf q74 tl) (afn af q74 tl) pa79 lf80 rt81 pv90 rd82))) 1 11 309 [(15, .ref q74), (14, .ref x50), (13, .ref p), (10, .int 1), (8, .ref root), (5, .ref v9), (4, .ref k9), (3, .int hz), (2, .ref tb), (1, .ref M)] []
      refine r_null hC dJ26_putTreeVal_309 310 rfl ?_
      have hMm : ∀ a, a ∈ ro83 :: (m1 ++ m2) ↔ a ∈ Lb ∨ a = q74 := fun a => by rw [mid_mem, ← hMs, hLs]; exact ins_mem
      have hout : ∀ a, a ∈ L → a ∉ Lb → a ≠ q74 ∧ a ∉ l1 ++ p :: q74 :: l2 := fun a ha na => ⟨fun e => hq75 (by rw [← e]; exact ha), fun e => (hLm a e).elim na (fun e => hq75 (by rw [← e]; exact ha))⟩
      have hI9 : insI L ord kd hs ky vl nx pa lf rt pv Lb q74 hz k9 v9 (va_up kd q74 true) (va_up hs q74 hz) (va_up ky q74 k9) (va_up vl q74 v9) nx89 (va_up bf q74 tl) (afn af q74 tl) pa79 lf80 rt81 pv90 (hdn hd q74 tl) (ro83 :: (m1 ++ m2)) := by
        refine ⟨hq75, fun a ha => ?_, fun a ha na => ?_, lnk_add hl (fun e => hq75 (hoL q74 e)), hMm, up_same _ _ _, up_same _ _ _, up_same _ _ _⟩
        · have n1 : a ≠ q74 := fun e => hq75 (by rw [← e]; exact ha)
          exact ⟨up_ne n1, up_ne n1, up_ne n1, up_ne n1⟩
        · obtain ⟨n1, n2⟩ := hout a ha na
          have np : a ≠ p := fun e => na (by rw [e]; exact hp)
          obtain ⟨u1, u2⟩ := hu93 a (by rw [← hMs]; exact n2)
          obtain ⟨o1, o2, o3, -⟩ := hO85 a (fun e => e.elim na n1)
          exact ⟨u1.trans ((up_ne np).trans (up_ne n1)), o1.trans ((up_ne n1).trans (up_ne n1)), o2.trans (up_ne n1), o3.trans ((up_ne np).trans (up_ne n1)), u2.trans ((up_ne (fun e => na (by rw [e]; exact hym))).trans (up_ne n1))⟩
      have hB9 : binI (va_up kd q74 true) (va_up hs q74 hz) nx89 pa79 lf80 rt81 pv90 (some ro83) (ro83 :: (m1 ++ m2)) := by
        refine ⟨hs91, ?_, Or.inr ⟨fun a ha => (hmlN a (by rw [hMs]; exact mid_mem.mp ha)).2, ?_, hb92, ro83, m1 ++ m2, rfl, hT84.congr (fun a => hMm a) (fun _ _ => rfl) (fun _ _ => rfl) (fun _ _ => rfl)⟩⟩
        · rw [hMs] at hndN
          obtain ⟨g1, g2, g3, g4⟩ := nd_split hndN
          exact List.nodup_cons.mpr ⟨fun e => (List.mem_append.mp e).elim g1 g2, g3⟩
        · have e1 := congrArg List.length hMs
          have e2 := congrArg List.length hLs
          simp only [List.length_append, List.length_cons] at e1 e2 ⊢
          omega
      exact r_aret hC (v := none) (Or.inl ⟨_, rfl⟩) (Nat.le_of_ble_eq_true rfl) (Nat.le_of_ble_eq_true rfl) (fun V9 h => hQ _ _ ⟨_, ⟨q74, _, _, _, _, _, _, _, _, _, _, _, _, _, ro83 :: (m1 ++ m2), ro83, rfl, hI9, hB9, rfl⟩, by rw [← hV0, ← hF]; exact h.ordT [0, 1] 2 rfl rfl rfl⟩) dJ26_putTreeVal_310
