/-! ===== the JDK: trees: treeify ===== -/
set_option maxRecDepth 100000
theorem i32_lt {a b : Int32} (h : ¬ a ≤ b) : b.toInt < a.toInt := by
  rw [Int32.le_iff_toInt_le] at h
  omega
theorem i32_ne {a b : Int32} (h : a ≤ b) (n : a ≠ b) : a.toInt < b.toInt := by
  rw [Int32.le_iff_toInt_le] at h
  have h2 : a.toInt ≠ b.toInt := fun e => n (Int32.toInt_inj.mp e)
  omega
set_option maxHeartbeats 4000000 in
set_option maxRecDepth 100000 in
theorem lpJ26_tin {C : xC} {F : Nat → Prop} {V0 : xV} (hG : xGood (xGG C)) (hC : xCtx C RJ26 cJ26_treeify 13 none { frames := 2, locals := 49, cells := 0, slots := 0 }) (k n : Nat) (hk9 : k ≤ 0) (hn9 : n ≤ 0) (L : List Nat) (kd : Nat → Bool) (hs : Nat → Int32) (ky vl : Nat → Nat) (nx bf af pv : Nat → Option Nat) (tb cap : Nat) (tf : Nat → Option Nat) (x0 : Nat) (T : Nat → Prop) (hTL : ∀ a, T a → a ∈ L) (hTk : ∀ a, T a → kd a = true) (pa lf rt : Nat → Option Nat) (rd : Nat → Int32) (root x : Nat) (vo : Value) (hxL : x ∈ L) (hxk : kd x = true) (hxT : ¬ T x) (hne : ∀ a, T a → hs a ≠ hs x) (hlfx : lf x = none) (hrtx : rt x = none) (lo hi : Nat → Int) (ht : tIv (fun a => (hs a).toInt) T pa lf rt root lo hi) (kx : ∀ (pa' lf' rt' : Nat → Option Nat) (rd' : Nat → Int32) (root' : Nat), tI (fun a => (hs a).toInt) (fun a => T a ∨ a = x) pa' lf' rt' root' → oF (fun a => T a ∨ a = x) pa lf rt rd pa' lf' rt' rd' → rn C (xSt F V0 ([(tb, .inl (8, cap, .inr (.inr (.inr (.inr tf)))))] ++ stW L (ndX kd hs ky vl nx bf af pa' lf' rt' pv rd'))) k n 209 [(2, .ref root'), (4, vo), (1, .ref tb), (0, .ref x0)] []) : ∀ (m p : Nat), T p → lo p < (hs x).toInt → (hs x).toInt < hi p → (hi p - lo p).toNat < m → rn C (xSt F V0 ([(tb, .inl (8, cap, .inr (.inr (.inr (.inr tf)))))] ++ stW L (ndX kd hs ky vl nx bf af pa lf rt pv rd))) k n 64 [(8, .ref p), (7, .null), (6, .int (hs x)), (5, .ref (ky x)), (4, vo), (3, .ref x), (2, .ref root), (1, .ref tb), (0, .ref x0)] [] := by
  have hTL' : ∀ a, T a ∨ a = x → a ∈ L := fun a h => h.elim (hTL a) (fun e => by rw [e]; exact hxL)
  have hTk' : ∀ a, T a ∨ a = x → kd a = true := fun a h => h.elim (hTk a) (fun e => by rw [e]; exact hxk)
  obtain ⟨-, hb, -, hL, hR, -⟩ := id ht
  dsimp only at hb hL hR
  intro m
  induction m with
  | zero =>
    intro p hp h1 h2 hm
    exact absurd hm (Nat.not_lt_zero _)
  | succ m ih =>
    intro p hp h1 h2 hm
    have hxp : x ≠ p := fun e => hxT (by rw [e]; exact hp)
    refine r_aload hC 0 dJ26_treeify_64 rfl 66 rfl ?_
    refine r_getI (v := .ref (ky p)) hC kJ26 1 rfl q2236 (Or.inr q2237) (fun _ h => stW_get h (hTL p hp) (ndX_t (hTk p hp))) rfl dJ26_treeify_66 69 rfl ?_
    refine r_astore hC 11 [(11, .ref (ky p)), (8, .ref p), (7, .null), (6, .int (hs x)), (5, .ref (ky x)), (4, vo), (3, .ref x), (2, .ref root), (1, .ref tb), (0, .ref x0)] dJ26_treeify_69 (Nat.le_of_ble_eq_true rfl) rfl 71 rfl ?_
    refine r_aload hC 1 dJ26_treeify_71 rfl 73 rfl ?_
    refine r_getI (v := .int (hs p)) hC kJ26 0 rfl q2230 (Or.inr q2231) (fun _ h => stW_get h (hTL p hp) (ndX_t (hTk p hp))) rfl dJ26_treeify_73 76 rfl ?_
    refine r_dup hC dJ26_treeify_76 rfl 77 rfl ?_
    refine r_istore hC 10 [(10, .int (hs p)), (11, .ref (ky p)), (8, .ref p), (7, .null), (6, .int (hs x)), (5, .ref (ky x)), (4, vo), (3, .ref x), (2, .ref root), (1, .ref tb), (0, .ref x0)] dJ26_treeify_77 (Nat.le_of_ble_eq_true rfl) rfl 79 rfl ?_
    refine r_iload hC 4 dJ26_treeify_79 rfl 81 rfl ?_
    refine r_icle hC 90 dJ26_treeify_81 (by decide) 84 rfl (fun c1 => ?_) (fun c1 => ?_)
    · skip
      have kk9 := i32_ne c1 (hne p hp)
      refine r_iload hC 0 dJ26_treeify_90 rfl 92 rfl ?_
      refine r_iload hC 4 dJ26_treeify_92 rfl 94 rfl ?_
      refine r_icge hC 103 dJ26_treeify_94 (by decide) 97 rfl (fun h => absurd h (fun q9 => hne p hp (Int32.le_antisymm c1 q9))) (fun _ => ?_)
      refine r_iconst hC 1 dJ26_treeify_97 ic_1 98 rfl ?_
      refine r_istore hC 9 [(9, .int 1), (10, .int (hs p)), (11, .ref (ky p)), (8, .ref p), (7, .null), (6, .int (hs x)), (5, .ref (ky x)), (4, vo), (3, .ref x), (2, .ref root), (1, .ref tb), (0, .ref x0)] dJ26_treeify_98 (Nat.le_of_ble_eq_true rfl) rfl 100 rfl ?_
      refine r_goto hC 143 dJ26_treeify_100 (by decide) ?_
      refine r_aload hC 3 dJ26_treeify_143 rfl 145 rfl ?_
      refine r_astore hC 12 [(12, .ref p), (9, .int 1), (10, .int (hs p)), (11, .ref (ky p)), (8, .ref p), (7, .null), (6, .int (hs x)), (5, .ref (ky x)), (4, vo), (3, .ref x), (2, .ref root), (1, .ref tb), (0, .ref x0)] dJ26_treeify_145 (Nat.le_of_ble_eq_true rfl) rfl 147 rfl ?_
      refine r_iload hC 1 dJ26_treeify_147 rfl 149 rfl ?_
      refine r_ifgt hC 160 dJ26_treeify_149 (by decide) 152 rfl (fun _ => ?_) (fun h => absurd h (by decide))
      refine r_aload hC 4 dJ26_treeify_160 rfl 162 rfl ?_
      rcases opt_c (rt p) with hl2 | ⟨x3, hl2⟩
      · skip
        obtain ⟨lo2, hi2, ht2⟩ := tI_insR ht hxT hp (by show (hs p).toInt < (hs x).toInt; omega) h2 hl2 (T' := (fun a => T a ∨ a = x)) (pa' := va_up pa x (some p)) (rt' := va_up rt p (some x)) (lf' := lf) (fun a => Iff.rfl) (up_same _ _ _) (fun a na => up_ne na) (up_same _ _ _) ((up_ne hxp).trans hrtx) (fun a na np => up_ne np) hlfx (fun _ _ => rfl)
        refine r_getI (v := .null) hC kJ26 8 rfl q2317 (Or.inl rfl) (fun _ h => stW_get h (hTL p hp) (ndX_t (hTk p hp))) (congrArg (fun o9 => some (va_rf o9)) (hl2)) dJ26_treeify_162 165 rfl ?_
        refine r_dup hC dJ26_treeify_165 rfl 166 rfl ?_
        refine r_astoreN hC 8 [(8, .null), (12, .ref p), (9, .int 1), (10, .int (hs p)), (11, .ref (ky p)), (7, .null), (6, .int (hs x)), (5, .ref (ky x)), (4, vo), (3, .ref x), (2, .ref root), (1, .ref tb), (0, .ref x0)] dJ26_treeify_166 (Nat.le_of_ble_eq_true rfl) rfl 168 rfl ?_
        refine r_ifnonnullN hC dJ26_treeify_168 171 rfl ?_
        refine r_aload_n hC 9 dJ26_treeify_171 rfl 172 rfl ?_
        refine r_aload hC 1 dJ26_treeify_172 rfl 174 rfl ?_
        refine r_putI (J := xSt F V0 ([(tb, .inl (8, cap, .inr (.inr (.inr (.inr tf)))))] ++ stW L (ndX kd hs ky vl nx bf af (va_up pa x (some p)) lf rt pv rd))) hC kJ26 6 rfl q2315 (Or.inl rfl) rfl (fun _ h => stW_get h hxL (ndX_t hxk)) (Nat.le_of_ble_eq_true rfl) rfl rfl dJ26_treeify_174 (fun _ h => stW_set h hxL (ndX_pa hxk)) 177 rfl ?_
        refine r_iload hC 2 dJ26_treeify_177 rfl 179 rfl ?_
        refine r_ifgt hC 191 dJ26_treeify_179 (by decide) 182 rfl (fun _ => ?_) (fun h => absurd h (by decide))
        refine r_aload hC 1 dJ26_treeify_191 rfl 193 rfl ?_
        refine r_aload_n hC 9 dJ26_treeify_193 rfl 194 rfl ?_
        refine r_putI (J := xSt F V0 ([(tb, .inl (8, cap, .inr (.inr (.inr (.inr tf)))))] ++ stW L (ndX kd hs ky vl nx bf af (va_up pa x (some p)) lf (va_up rt p (some x)) pv rd))) hC kJ26 8 rfl q2317 (Or.inl rfl) rfl (fun _ h => stW_get h (hTL p hp) (ndX_t (hTk p hp))) (Nat.le_of_ble_eq_true rfl) rfl rfl dJ26_treeify_194 (fun _ h => stW_set h (hTL p hp) (ndX_rt (hTk p hp))) 197 rfl ?_
        refine r_aload_n hC 10 dJ26_treeify_197 rfl 198 rfl ?_
        refine r_aload_n hC 9 dJ26_treeify_198 rfl 199 rfl ?_
        refine xCall.ct (wcx := []) (wr := [(tb, .inl (8, cap, .inr (.inr (.inr (.inr tf)))))]) (r_cS hC [.ref root, .ref x] mSJ26_balanceInsertion q2274 (fun V9 h9 => (metJ26_balanceInsertion _ _ hG L kd hs ky vl nx bf af (va_up pa x (some p)) lf (va_up rt p (some x)) pv rd (fun a => T a ∨ a = x) hTL' hTk' lo2 hi2 root x ht2 (Or.inr rfl)) V9 (h9.in.cut (wcx := []) (wr := [(tb, .inl (8, cap, .inr (.inr (.inr (.inr tf)))))]) [] [0] 1 rfl rfl rfl rfl)) ⟨rfl, rfl⟩ (by first | omega | (dsimp only; omega)) (by first | omega | (dsimp only; omega)) rfl (Nat.le_of_ble_eq_true rfl) dJ26_treeify_199) [] [0] 1 rfl rfl rfl rfl k n 202 rfl rfl rfl (fun v11 w12 h13 => ?_) (fun _ _ h => h.elim)
        obtain ⟨pa4, lf5, rt6, rd7, ro8, rfl, hT9, hO10, rfl⟩ := h13
        show rn C (xSt F V0 ([(tb, .inl (8, cap, .inr (.inr (.inr (.inr tf)))))] ++ stW L (ndX kd hs ky vl nx bf af pa4 lf5 rt6 pv rd7))) k n 202 [(8, .null), (12, .ref p), (9, .int 1), (10, .int (hs p)), (11, .ref (ky p)), (7, .null), (6, .int (hs x)), (5, .ref (ky x)), (4, vo), (3, .ref x), (2, .ref root), (1, .ref tb), (0, .ref x0)] [.ref ro8]
        refine r_astore_n hC 2 [(2, .ref ro8), (8, .null), (12, .ref p), (9, .int 1), (10, .int (hs p)), (11, .ref (ky p)), (7, .null), (6, .int (hs x)), (5, .ref (ky x)), (4, vo), (3, .ref x), (1, .ref tb), (0, .ref x0)] dJ26_treeify_202 rfl (Nat.le_of_ble_eq_true rfl) rfl 203 rfl ?_
        refine r_goto hC 209 dJ26_treeify_203 (by decide) ?_
        refine rn.sub (lv' := [(2, .ref ro8), (4, vo), (1, .ref tb), (0, .ref x0)]) [0, 9, 11, 12] rfl ?_
        exact kx pa4 lf5 rt6 rd7 ro8 hT9 (oF.trans (oF.rt (oF.pa oF.refl (Or.inr rfl)) (Or.inl hp)) hO10)
      · skip
        refine r_getI (v := .ref x3) hC kJ26 8 rfl q2317 (Or.inl rfl) (fun _ h => stW_get h (hTL p hp) (ndX_t (hTk p hp))) (congrArg (fun o9 => some (va_rf o9)) (hl2)) dJ26_treeify_162 165 rfl ?_
        refine r_dup hC dJ26_treeify_165 rfl 166 rfl ?_
        refine r_astore hC 8 [(8, .ref x3), (12, .ref p), (9, .int 1), (10, .int (hs p)), (11, .ref (ky p)), (7, .null), (6, .int (hs x)), (5, .ref (ky x)), (4, vo), (3, .ref x), (2, .ref root), (1, .ref tb), (0, .ref x0)] dJ26_treeify_166 (Nat.le_of_ble_eq_true rfl) rfl 168 rfl ?_
        refine r_ifnonnull hC 206 dJ26_treeify_168 (by decide) ?_
        refine r_goto hC 64 dJ26_treeify_206 (by decide) ?_
        refine rn.sub (lv' := [(8, .ref x3), (7, .null), (6, .int (hs x)), (5, .ref (ky x)), (4, vo), (3, .ref x), (2, .ref root), (1, .ref tb), (0, .ref x0)]) [0, 5, 6, 7, 8, 9, 10, 11, 12] rfl ?_
        obtain ⟨q1, q2, q3, q4⟩ := hR p x3 hp hl2
        have kp := hb p hp
        exact ih x3 q1 (by omega) (by omega) (by omega)
    · skip
      have kk9 := i32_lt c1
      refine r_iconst hC (-1) dJ26_treeify_84 ic_m1 85 rfl ?_
      refine r_istore hC 9 [(9, .int (-1)), (10, .int (hs p)), (11, .ref (ky p)), (8, .ref p), (7, .null), (6, .int (hs x)), (5, .ref (ky x)), (4, vo), (3, .ref x), (2, .ref root), (1, .ref tb), (0, .ref x0)] dJ26_treeify_85 (Nat.le_of_ble_eq_true rfl) rfl 87 rfl ?_
      refine r_goto hC 143 dJ26_treeify_87 (by decide) ?_
      refine r_aload hC 3 dJ26_treeify_143 rfl 145 rfl ?_
      refine r_astore hC 12 [(12, .ref p), (9, .int (-1)), (10, .int (hs p)), (11, .ref (ky p)), (8, .ref p), (7, .null), (6, .int (hs x)), (5, .ref (ky x)), (4, vo), (3, .ref x), (2, .ref root), (1, .ref tb), (0, .ref x0)] dJ26_treeify_145 (Nat.le_of_ble_eq_true rfl) rfl 147 rfl ?_
      refine r_iload hC 1 dJ26_treeify_147 rfl 149 rfl ?_
      refine r_ifgt hC 160 dJ26_treeify_149 (by decide) 152 rfl (fun h => absurd h (by decide)) (fun _ => ?_)
      refine r_aload hC 4 dJ26_treeify_152 rfl 154 rfl ?_
      rcases opt_c (lf p) with hl14 | ⟨x15, hl14⟩
      · skip
        obtain ⟨lo2, hi2, ht2⟩ := tI_insL ht hxT hp h1 (by show (hs x).toInt < (hs p).toInt; omega) hl14 (T' := (fun a => T a ∨ a = x)) (pa' := va_up pa x (some p)) (lf' := va_up lf p (some x)) (rt' := rt) (fun a => Iff.rfl) (up_same _ _ _) (fun a na => up_ne na) (up_same _ _ _) ((up_ne hxp).trans hlfx) (fun a na np => up_ne np) hrtx (fun _ _ => rfl)
        refine r_getI (v := .null) hC kJ26 7 rfl q2316 (Or.inl rfl) (fun _ h => stW_get h (hTL p hp) (ndX_t (hTk p hp))) (congrArg (fun o9 => some (va_rf o9)) (hl14)) dJ26_treeify_154 157 rfl ?_
        refine r_goto hC 165 dJ26_treeify_157 (by decide) ?_
        refine r_dup hC dJ26_treeify_165 rfl 166 rfl ?_
        refine r_astoreN hC 8 [(8, .null), (12, .ref p), (9, .int (-1)), (10, .int (hs p)), (11, .ref (ky p)), (7, .null), (6, .int (hs x)), (5, .ref (ky x)), (4, vo), (3, .ref x), (2, .ref root), (1, .ref tb), (0, .ref x0)] dJ26_treeify_166 (Nat.le_of_ble_eq_true rfl) rfl 168 rfl ?_
        refine r_ifnonnullN hC dJ26_treeify_168 171 rfl ?_
        refine r_aload_n hC 9 dJ26_treeify_171 rfl 172 rfl ?_
        refine r_aload hC 1 dJ26_treeify_172 rfl 174 rfl ?_
        refine r_putI (J := xSt F V0 ([(tb, .inl (8, cap, .inr (.inr (.inr (.inr tf)))))] ++ stW L (ndX kd hs ky vl nx bf af (va_up pa x (some p)) lf rt pv rd))) hC kJ26 6 rfl q2315 (Or.inl rfl) rfl (fun _ h => stW_get h hxL (ndX_t hxk)) (Nat.le_of_ble_eq_true rfl) rfl rfl dJ26_treeify_174 (fun _ h => stW_set h hxL (ndX_pa hxk)) 177 rfl ?_
        refine r_iload hC 2 dJ26_treeify_177 rfl 179 rfl ?_
        refine r_ifgt hC 191 dJ26_treeify_179 (by decide) 182 rfl (fun h => absurd h (by decide)) (fun _ => ?_)
        refine r_aload hC 1 dJ26_treeify_182 rfl 184 rfl ?_
        refine r_aload_n hC 9 dJ26_treeify_184 rfl 185 rfl ?_
        refine r_putI (J := xSt F V0 ([(tb, .inl (8, cap, .inr (.inr (.inr (.inr tf)))))] ++ stW L (ndX kd hs ky vl nx bf af (va_up pa x (some p)) (va_up lf p (some x)) rt pv rd))) hC kJ26 7 rfl q2316 (Or.inl rfl) rfl (fun _ h => stW_get h (hTL p hp) (ndX_t (hTk p hp))) (Nat.le_of_ble_eq_true rfl) rfl rfl dJ26_treeify_185 (fun _ h => stW_set h (hTL p hp) (ndX_lf (hTk p hp))) 188 rfl ?_
        refine r_goto hC 197 dJ26_treeify_188 (by decide) ?_
        refine r_aload_n hC 10 dJ26_treeify_197 rfl 198 rfl ?_
        refine r_aload_n hC 9 dJ26_treeify_198 rfl 199 rfl ?_
        refine xCall.ct (wcx := []) (wr := [(tb, .inl (8, cap, .inr (.inr (.inr (.inr tf)))))]) (r_cS hC [.ref root, .ref x] mSJ26_balanceInsertion q2274 (fun V9 h9 => (metJ26_balanceInsertion _ _ hG L kd hs ky vl nx bf af (va_up pa x (some p)) (va_up lf p (some x)) rt pv rd (fun a => T a ∨ a = x) hTL' hTk' lo2 hi2 root x ht2 (Or.inr rfl)) V9 (h9.in.cut (wcx := []) (wr := [(tb, .inl (8, cap, .inr (.inr (.inr (.inr tf)))))]) [] [0] 1 rfl rfl rfl rfl)) ⟨rfl, rfl⟩ (by first | omega | (dsimp only; omega)) (by first | omega | (dsimp only; omega)) rfl (Nat.le_of_ble_eq_true rfl) dJ26_treeify_199) [] [0] 1 rfl rfl rfl rfl k n 202 rfl rfl rfl (fun v23 w24 h25 => ?_) (fun _ _ h => h.elim)
        obtain ⟨pa16, lf17, rt18, rd19, ro20, rfl, hT21, hO22, rfl⟩ := h25
        show rn C (xSt F V0 ([(tb, .inl (8, cap, .inr (.inr (.inr (.inr tf)))))] ++ stW L (ndX kd hs ky vl nx bf af pa16 lf17 rt18 pv rd19))) k n 202 [(8, .null), (12, .ref p), (9, .int (-1)), (10, .int (hs p)), (11, .ref (ky p)), (7, .null), (6, .int (hs x)), (5, .ref (ky x)), (4, vo), (3, .ref x), (2, .ref root), (1, .ref tb), (0, .ref x0)] [.ref ro20]
        refine r_astore_n hC 2 [(2, .ref ro20), (8, .null), (12, .ref p), (9, .int (-1)), (10, .int (hs p)), (11, .ref (ky p)), (7, .null), (6, .int (hs x)), (5, .ref (ky x)), (4, vo), (3, .ref x), (1, .ref tb), (0, .ref x0)] dJ26_treeify_202 rfl (Nat.le_of_ble_eq_true rfl) rfl 203 rfl ?_
        refine r_goto hC 209 dJ26_treeify_203 (by decide) ?_
        refine rn.sub (lv' := [(2, .ref ro20), (4, vo), (1, .ref tb), (0, .ref x0)]) [0, 9, 11, 12] rfl ?_
        exact kx pa16 lf17 rt18 rd19 ro20 hT21 (oF.trans (oF.lf (oF.pa oF.refl (Or.inr rfl)) (Or.inl hp)) hO22)
      · skip
        refine r_getI (v := .ref x15) hC kJ26 7 rfl q2316 (Or.inl rfl) (fun _ h => stW_get h (hTL p hp) (ndX_t (hTk p hp))) (congrArg (fun o9 => some (va_rf o9)) (hl14)) dJ26_treeify_154 157 rfl ?_
        refine r_goto hC 165 dJ26_treeify_157 (by decide) ?_
        refine r_dup hC dJ26_treeify_165 rfl 166 rfl ?_
        refine r_astore hC 8 [(8, .ref x15), (12, .ref p), (9, .int (-1)), (10, .int (hs p)), (11, .ref (ky p)), (7, .null), (6, .int (hs x)), (5, .ref (ky x)), (4, vo), (3, .ref x), (2, .ref root), (1, .ref tb), (0, .ref x0)] dJ26_treeify_166 (Nat.le_of_ble_eq_true rfl) rfl 168 rfl ?_
        refine r_ifnonnull hC 206 dJ26_treeify_168 (by decide) ?_
        refine r_goto hC 64 dJ26_treeify_206 (by decide) ?_
        refine rn.sub (lv' := [(8, .ref x15), (7, .null), (6, .int (hs x)), (5, .ref (ky x)), (4, vo), (3, .ref x), (2, .ref root), (1, .ref tb), (0, .ref x0)]) [0, 5, 6, 7, 8, 9, 10, 11, 12] rfl ?_
        obtain ⟨q1, q2, q3, q4⟩ := hL p x15 hp hl14
        have kp := hb p hp
        exact ih x15 q1 (by omega) (by omega) (by omega)
theorem hs_rg (x : Int32) : -4294967296 < x.toInt ∧ x.toInt < 4294967296 := by
  have h1 := Int32.toInt_lt x
  have h2 := Int32.le_toInt x
  omega
theorem seg_some {nx : Nat → Option Nat} {y : Nat} {l : List Nat} (h : seg nx (some y) l none) : ∃ t, l = y :: t := by
  cases l with
  | nil => cases (show some y = none from h)
  | cons c t => exact ⟨t, by rw [Option.some.inj h.1]⟩
set_option maxHeartbeats 4000000 in
set_option maxRecDepth 100000 in
theorem lpJ26_tout {C : xC} {F : Nat → Prop} {V0 : xV} (hG : xGood (xGG C)) (hC : xCtx C RJ26 cJ26_treeify 13 none { frames := 2, locals := 49, cells := 0, slots := 0 }) (k n : Nat) (hk9 : k ≤ 0) (hn9 : n ≤ 0) (L : List Nat) (kd : Nat → Bool) (hs : Nat → Int32) (ky vl : Nat → Nat) (nx bf af pv : Nat → Option Nat) (tb cap : Nat) (tf : Nat → Option Nat) (x0 : Nat) (Lb : List Nat) (hml : ∀ a, a ∈ Lb → a ∈ L ∧ kd a = true) (hnd : Lb.Nodup) (hinj : ∀ a a9, a ∈ Lb → a9 ∈ Lb → hs a = hs a9 → a = a9) (pa0 lf0 rt0 : Nat → Option Nat) (rd0 : Nat → Int32) (kx : ∀ (pa lf rt : Nat → Option Nat) (rd : Nat → Int32) (root : Nat), tI (fun a => (hs a).toInt) (fun a => a ∈ Lb) pa lf rt root → oF (fun a => a ∈ Lb) pa0 lf0 rt0 rd0 pa lf rt rd → rn C (xSt F V0 ([(tb, .inl (8, cap, .inr (.inr (.inr (.inr tf)))))] ++ stW L (ndX kd hs ky vl nx bf af pa lf rt pv rd))) k n 215 [(2, .ref root), (1, .ref tb), (0, .ref x0)] []) (hLn : Lb ≠ []) : ∀ (rest done : List Nat) (o ro : Option Nat) (pa lf rt : Nat → Option Nat) (rd : Nat → Int32), Lb = done ++ rest → seg nx o rest none → (done = [] → ro = none) → (∀ root, ro = some root → tI (fun a => (hs a).toInt) (fun a => a ∈ done) pa lf rt root) → (done ≠ [] → ∃ root, ro = some root) → oF (fun a => a ∈ Lb) pa0 lf0 rt0 rd0 pa lf rt rd → rn C (xSt F V0 ([(tb, .inl (8, cap, .inr (.inr (.inr (.inr tf)))))] ++ stW L (ndX kd hs ky vl nx bf af pa lf rt pv rd))) k n 4 [(3, va_rf o), (2, va_rf ro), (1, .ref tb), (0, .ref x0)] [] := by
  intro rest
  induction rest with
  | nil =>
    intro done o ro pa lf rt rd hLb hseg hr0 hrT hr1 ho
    obtain rfl : o = none := hseg
    rw [List.append_nil] at hLb
    obtain ⟨root, rfl⟩ := hr1 (by rw [← hLb]; exact hLn)
    have hT9 : tI (fun a => (hs a).toInt) (fun a => a ∈ Lb) pa lf rt root := by rw [hLb]; exact hrT root rfl
    refine r_aload_nN hC 0 dJ26_treeify_4 rfl 5 rfl ?_
    refine r_ifnullN hC 215 dJ26_treeify_5 (by decide) ?_
    refine rn.sub (lv' := [(2, .ref root), (1, .ref tb), (0, .ref x0)]) [1, 2, 3] rfl ?_
    exact kx pa lf rt rd root hT9 ho
  | cons x rest ih =>
    intro done o ro pa lf rt rd hLb hseg hr0 hrT hr1 ho
    obtain rfl : o = some x := hseg.1
    have hxm : x ∈ Lb := by rw [hLb]; exact List.mem_append_right _ List.mem_cons_self
    obtain ⟨hxL, hxk⟩ := hml x hxm
    have hnd2 := hnd
    rw [hLb] at hnd2
    have hxd : ¬ x ∈ done := (nd_split hnd2).1
    have hnx9 : ∀ a, a ∈ done → a ≠ x := fun a ha e => hxd (by rw [← e]; exact ha)
    have hdm : ∀ a, a ∈ done → a ∈ Lb := fun a ha => by rw [hLb]; exact List.mem_append_left _ ha
    cases hd9 : done with
    | nil =>
      subst hd9
      obtain rfl := hr0 rfl
      refine r_aload_n hC 0 dJ26_treeify_4 rfl 5 rfl ?_
      refine r_ifnull hC dJ26_treeify_5 8 rfl ?_
      refine r_aload_n hC 0 dJ26_treeify_8 rfl 9 rfl ?_
      rcases opt_c (nx x) with hl1 | ⟨x2, hl1⟩
      · skip
        refine r_getI (v := .null) hC kJ26 3 rfl q2247 (Or.inr q2248) (fun _ h => stW_get h hxL (ndX_t hxk)) (congrArg (fun o9 => some (va_rf o9)) (hl1)) dJ26_treeify_9 12 rfl ?_
        refine r_castN hC dJ26_treeify_12 15 rfl ?_
        refine r_astoreN hC 4 [(4, .null), (3, .ref x), (2, .null), (1, .ref tb), (0, .ref x0)] dJ26_treeify_15 (Nat.le_of_ble_eq_true rfl) rfl 17 rfl ?_
        refine r_aload_n hC 1 dJ26_treeify_17 rfl 18 rfl ?_
        refine r_aload_n hC 1 dJ26_treeify_18 rfl 19 rfl ?_
        refine r_null hC dJ26_treeify_19 20 rfl ?_
        refine r_dup_x1 hC dJ26_treeify_20 rfl rfl 21 rfl ?_
        refine r_putI (J := xSt F V0 ([(tb, .inl (8, cap, .inr (.inr (.inr (.inr tf)))))] ++ stW L (ndX kd hs ky vl nx bf af pa lf (va_up rt x none) pv rd))) hC kJ26 8 rfl q2317 (Or.inl rfl) rfl (fun _ h => stW_get h hxL (ndX_t hxk)) (Nat.le_of_ble_eq_true rfl) rfl rfl dJ26_treeify_21 (fun _ h => stW_set h hxL (ndX_rt hxk)) 24 rfl ?_
        refine r_putI (J := xSt F V0 ([(tb, .inl (8, cap, .inr (.inr (.inr (.inr tf)))))] ++ stW L (ndX kd hs ky vl nx bf af pa (va_up lf x none) (va_up rt x none) pv rd))) hC kJ26 7 rfl q2316 (Or.inl rfl) rfl (fun _ h => stW_get h hxL (ndX_t hxk)) (Nat.le_of_ble_eq_true rfl) rfl rfl dJ26_treeify_24 (fun _ h => stW_set h hxL (ndX_lf hxk)) 27 rfl ?_
        refine r_aload_nN hC 2 dJ26_treeify_27 rfl 28 rfl ?_
        refine r_ifnonnullN hC dJ26_treeify_28 31 rfl ?_
        refine r_aload_n hC 1 dJ26_treeify_31 rfl 32 rfl ?_
        refine r_null hC dJ26_treeify_32 33 rfl ?_
        refine r_putI (J := xSt F V0 ([(tb, .inl (8, cap, .inr (.inr (.inr (.inr tf)))))] ++ stW L (ndX kd hs ky vl nx bf af (va_up pa x none) (va_up lf x none) (va_up rt x none) pv rd))) hC kJ26 6 rfl q2315 (Or.inl rfl) rfl (fun _ h => stW_get h hxL (ndX_t hxk)) (Nat.le_of_ble_eq_true rfl) rfl rfl dJ26_treeify_33 (fun _ h => stW_set h hxL (ndX_pa hxk)) 36 rfl ?_
        refine r_aload_n hC 1 dJ26_treeify_36 rfl 37 rfl ?_
        refine r_iconst hC 0 dJ26_treeify_37 ic_0 38 rfl ?_
        refine r_putI (J := xSt F V0 ([(tb, .inl (8, cap, .inr (.inr (.inr (.inr tf)))))] ++ stW L (ndX kd hs ky vl nx bf af (va_up pa x none) (va_up lf x none) (va_up rt x none) pv (va_up rd x 0)))) hC kJ26 10 rfl q2320 (Or.inl rfl) rfl (fun _ h => stW_get h hxL (ndX_t hxk)) (Nat.le_of_ble_eq_true rfl) rfl rfl dJ26_treeify_38 (fun _ h => stW_set h hxL (ndX_rd hxk)) 41 rfl ?_
        refine r_aload_n hC 1 dJ26_treeify_41 rfl 42 rfl ?_
        refine r_astore_n hC 2 [(2, .ref x), (4, .null), (3, .ref x), (1, .ref tb), (0, .ref x0)] dJ26_treeify_42 rfl (Nat.le_of_ble_eq_true rfl) rfl 43 rfl ?_
        refine r_goto hC 209 dJ26_treeify_43 (by decide) ?_
        refine r_aloadN hC 1 dJ26_treeify_209 rfl 211 rfl ?_
        refine r_astore_nN hC 3 [(3, .null), (2, .ref x), (4, .null), (1, .ref tb), (0, .ref x0)] dJ26_treeify_211 rfl (Nat.le_of_ble_eq_true rfl) rfl 212 rfl ?_
        refine r_goto hC 4 dJ26_treeify_212 (by decide) ?_
        refine rn.sub (lv' := [(3, .null), (2, .ref x), (1, .ref tb), (0, .ref x0)]) [0, 1, 3, 4] rfl ?_
        refine ih [x] none (some x) _ _ _ _ (by rw [hLb]; rfl) (by have h8 := hseg.2; rw [hl1] at h8; exact h8) (fun e => by cases e) (fun r9 e9 => ?_) (fun _ => ⟨x, rfl⟩) ((((ho.rt hxm).lf hxm).pa hxm).red hxm)
        obtain rfl := Option.some.inj e9
        exact tI_one (K := (fun a => (hs a).toInt)) (fun a => List.mem_singleton) (hs_rg _) (up_same _ _ _) (up_same _ _ _) (up_same _ _ _)
      · skip
        obtain ⟨t9, ht9⟩ : ∃ t9, rest = x2 :: t9 := by have h8 := hseg.2; rw [hl1] at h8; exact seg_some h8
        have hym : x2 ∈ Lb := by rw [hLb, ht9]; exact List.mem_append_right _ (List.mem_cons_of_mem _ List.mem_cons_self)
        refine r_getI (v := .ref x2) hC kJ26 3 rfl q2247 (Or.inr q2248) (fun _ h => stW_get h hxL (ndX_t hxk)) (congrArg (fun o9 => some (va_rf o9)) (hl1)) dJ26_treeify_9 12 rfl ?_
        refine r_castS hC kJ26 q2206 (fun _ h => ⟨_, stW_get h ((hml x2 hym).1) (ndX_t ((hml x2 hym).2))⟩) dJ26_treeify_12 15 rfl ?_
        refine r_astore hC 4 [(4, .ref x2), (3, .ref x), (2, .null), (1, .ref tb), (0, .ref x0)] dJ26_treeify_15 (Nat.le_of_ble_eq_true rfl) rfl 17 rfl ?_
        refine r_aload_n hC 1 dJ26_treeify_17 rfl 18 rfl ?_
        refine r_aload_n hC 1 dJ26_treeify_18 rfl 19 rfl ?_
        refine r_null hC dJ26_treeify_19 20 rfl ?_
        refine r_dup_x1 hC dJ26_treeify_20 rfl rfl 21 rfl ?_
        refine r_putI (J := xSt F V0 ([(tb, .inl (8, cap, .inr (.inr (.inr (.inr tf)))))] ++ stW L (ndX kd hs ky vl nx bf af pa lf (va_up rt x none) pv rd))) hC kJ26 8 rfl q2317 (Or.inl rfl) rfl (fun _ h => stW_get h hxL (ndX_t hxk)) (Nat.le_of_ble_eq_true rfl) rfl rfl dJ26_treeify_21 (fun _ h => stW_set h hxL (ndX_rt hxk)) 24 rfl ?_
        refine r_putI (J := xSt F V0 ([(tb, .inl (8, cap, .inr (.inr (.inr (.inr tf)))))] ++ stW L (ndX kd hs ky vl nx bf af pa (va_up lf x none) (va_up rt x none) pv rd))) hC kJ26 7 rfl q2316 (Or.inl rfl) rfl (fun _ h => stW_get h hxL (ndX_t hxk)) (Nat.le_of_ble_eq_true rfl) rfl rfl dJ26_treeify_24 (fun _ h => stW_set h hxL (ndX_lf hxk)) 27 rfl ?_
        refine r_aload_nN hC 2 dJ26_treeify_27 rfl 28 rfl ?_
        refine r_ifnonnullN hC dJ26_treeify_28 31 rfl ?_
        refine r_aload_n hC 1 dJ26_treeify_31 rfl 32 rfl ?_
        refine r_null hC dJ26_treeify_32 33 rfl ?_
        refine r_putI (J := xSt F V0 ([(tb, .inl (8, cap, .inr (.inr (.inr (.inr tf)))))] ++ stW L (ndX kd hs ky vl nx bf af (va_up pa x none) (va_up lf x none) (va_up rt x none) pv rd))) hC kJ26 6 rfl q2315 (Or.inl rfl) rfl (fun _ h => stW_get h hxL (ndX_t hxk)) (Nat.le_of_ble_eq_true rfl) rfl rfl dJ26_treeify_33 (fun _ h => stW_set h hxL (ndX_pa hxk)) 36 rfl ?_
        refine r_aload_n hC 1 dJ26_treeify_36 rfl 37 rfl ?_
        refine r_iconst hC 0 dJ26_treeify_37 ic_0 38 rfl ?_
        refine r_putI (J := xSt F V0 ([(tb, .inl (8, cap, .inr (.inr (.inr (.inr tf)))))] ++ stW L (ndX kd hs ky vl nx bf af (va_up pa x none) (va_up lf x none) (va_up rt x none) pv (va_up rd x 0)))) hC kJ26 10 rfl q2320 (Or.inl rfl) rfl (fun _ h => stW_get h hxL (ndX_t hxk)) (Nat.le_of_ble_eq_true rfl) rfl rfl dJ26_treeify_38 (fun _ h => stW_set h hxL (ndX_rd hxk)) 41 rfl ?_
        refine r_aload_n hC 1 dJ26_treeify_41 rfl 42 rfl ?_
        refine r_astore_n hC 2 [(2, .ref x), (4, .ref x2), (3, .ref x), (1, .ref tb), (0, .ref x0)] dJ26_treeify_42 rfl (Nat.le_of_ble_eq_true rfl) rfl 43 rfl ?_
        refine r_goto hC 209 dJ26_treeify_43 (by decide) ?_
        refine r_aload hC 1 dJ26_treeify_209 rfl 211 rfl ?_
        refine r_astore_n hC 3 [(3, .ref x2), (2, .ref x), (4, .ref x2), (1, .ref tb), (0, .ref x0)] dJ26_treeify_211 rfl (Nat.le_of_ble_eq_true rfl) rfl 212 rfl ?_
        refine r_goto hC 4 dJ26_treeify_212 (by decide) ?_
        refine rn.sub (lv' := [(3, .ref x2), (2, .ref x), (1, .ref tb), (0, .ref x0)]) [0, 1, 3, 4] rfl ?_
        refine ih [x] (some x2) (some x) _ _ _ _ (by rw [hLb]; rfl) (by have h8 := hseg.2; rw [hl1] at h8; exact h8) (fun e => by cases e) (fun r9 e9 => ?_) (fun _ => ⟨x, rfl⟩) ((((ho.rt hxm).lf hxm).pa hxm).red hxm)
        obtain rfl := Option.some.inj e9
        exact tI_one (K := (fun a => (hs a).toInt)) (fun a => List.mem_singleton) (hs_rg _) (up_same _ _ _) (up_same _ _ _) (up_same _ _ _)
    | cons d9 t8 =>
      obtain ⟨root, rfl⟩ := hr1 (by rw [hd9]; exact List.cons_ne_nil _ _)
      have hT9 := hrT root rfl
      clear hd9
      refine r_aload_n hC 0 dJ26_treeify_4 rfl 5 rfl ?_
      refine r_ifnull hC dJ26_treeify_5 8 rfl ?_
      refine r_aload_n hC 0 dJ26_treeify_8 rfl 9 rfl ?_
      rcases opt_c (nx x) with hl1 | ⟨x2, hl1⟩
      · skip
        refine r_getI (v := .null) hC kJ26 3 rfl q2247 (Or.inr q2248) (fun _ h => stW_get h hxL (ndX_t hxk)) (congrArg (fun o9 => some (va_rf o9)) (hl1)) dJ26_treeify_9 12 rfl ?_
        refine r_castN hC dJ26_treeify_12 15 rfl ?_
        refine r_astoreN hC 4 [(4, .null), (3, .ref x), (2, .ref root), (1, .ref tb), (0, .ref x0)] dJ26_treeify_15 (Nat.le_of_ble_eq_true rfl) rfl 17 rfl ?_
        refine r_aload_n hC 1 dJ26_treeify_17 rfl 18 rfl ?_
        refine r_aload_n hC 1 dJ26_treeify_18 rfl 19 rfl ?_
        refine r_null hC dJ26_treeify_19 20 rfl ?_
        refine r_dup_x1 hC dJ26_treeify_20 rfl rfl 21 rfl ?_
        refine r_putI (J := xSt F V0 ([(tb, .inl (8, cap, .inr (.inr (.inr (.inr tf)))))] ++ stW L (ndX kd hs ky vl nx bf af pa lf (va_up rt x none) pv rd))) hC kJ26 8 rfl q2317 (Or.inl rfl) rfl (fun _ h => stW_get h hxL (ndX_t hxk)) (Nat.le_of_ble_eq_true rfl) rfl rfl dJ26_treeify_21 (fun _ h => stW_set h hxL (ndX_rt hxk)) 24 rfl ?_
        refine r_putI (J := xSt F V0 ([(tb, .inl (8, cap, .inr (.inr (.inr (.inr tf)))))] ++ stW L (ndX kd hs ky vl nx bf af pa (va_up lf x none) (va_up rt x none) pv rd))) hC kJ26 7 rfl q2316 (Or.inl rfl) rfl (fun _ h => stW_get h hxL (ndX_t hxk)) (Nat.le_of_ble_eq_true rfl) rfl rfl dJ26_treeify_24 (fun _ h => stW_set h hxL (ndX_lf hxk)) 27 rfl ?_
        refine r_aload_n hC 2 dJ26_treeify_27 rfl 28 rfl ?_
        refine r_ifnonnull hC 46 dJ26_treeify_28 (by decide) ?_
        refine r_aload_n hC 1 dJ26_treeify_46 rfl 47 rfl ?_
        refine r_getI (v := .ref (ky x)) hC kJ26 1 rfl q2236 (Or.inr q2237) (fun _ h => stW_get h hxL (ndX_t hxk)) rfl dJ26_treeify_47 50 rfl ?_
        refine r_astore hC 5 [(5, .ref (ky x)), (4, .null), (3, .ref x), (2, .ref root), (1, .ref tb), (0, .ref x0)] dJ26_treeify_50 (Nat.le_of_ble_eq_true rfl) rfl 52 rfl ?_
        refine r_aload_n hC 2 dJ26_treeify_52 rfl 53 rfl ?_
        refine r_getI (v := .int (hs x)) hC kJ26 0 rfl q2230 (Or.inr q2231) (fun _ h => stW_get h hxL (ndX_t hxk)) rfl dJ26_treeify_53 56 rfl ?_
        refine r_istore hC 6 [(6, .int (hs x)), (5, .ref (ky x)), (4, .null), (3, .ref x), (2, .ref root), (1, .ref tb), (0, .ref x0)] dJ26_treeify_56 (Nat.le_of_ble_eq_true rfl) rfl 58 rfl ?_
        refine r_null hC dJ26_treeify_58 59 rfl ?_
        refine r_astoreN hC 7 [(7, .null), (6, .int (hs x)), (5, .ref (ky x)), (4, .null), (3, .ref x), (2, .ref root), (1, .ref tb), (0, .ref x0)] dJ26_treeify_59 (Nat.le_of_ble_eq_true rfl) rfl 61 rfl ?_
        refine r_aload_n hC 5 dJ26_treeify_61 rfl 62 rfl ?_
        refine r_astore hC 8 [(8, .ref root), (7, .null), (6, .int (hs x)), (5, .ref (ky x)), (4, .null), (3, .ref x), (2, .ref root), (1, .ref tb), (0, .ref x0)] dJ26_treeify_62 (Nat.le_of_ble_eq_true rfl) rfl 64 rfl ?_
        refine rn.sub (lv' := [(8, .ref root), (7, .null), (6, .int (hs x)), (5, .ref (ky x)), (4, .null), (3, .ref x), (2, .ref root), (1, .ref tb), (0, .ref x0)]) [0, 1, 2, 3, 4, 5, 6, 7, 8] rfl ?_
        obtain ⟨lo, hi, ht⟩ := (hT9.congr (T' := fun a => a ∈ done) (pa' := pa) (lf' := va_up lf x none) (rt' := va_up rt x none) (fun _ => Iff.rfl) (fun _ _ => rfl) (fun a ha => up_ne (hnx9 a ha)) (fun a ha => up_ne (hnx9 a ha)))
        have hr9 := ht.1
        have hg := hs_rg (hs x)
        refine lpJ26_tin hG hC k n hk9 hn9 L kd hs ky vl nx bf af pv tb cap tf x0 (fun a => a ∈ done) (fun a ha => (hml a (hdm a ha)).1) (fun a ha => (hml a (hdm a ha)).2) pa _ _ rd root x (.null) hxL hxk hxd (fun a ha e => hnx9 a ha (hinj a x (hdm a ha) hxm e)) (up_same _ _ _) (up_same _ _ _) lo hi ht (fun pa' lf' rt' rd' root' ht' ho' => ?_) _ root hr9.1 (by rw [hr9.2.2.1]; omega) (by rw [hr9.2.2.2]; omega) (Nat.lt_succ_self _)
        show rn C (xSt F V0 ([(tb, .inl (8, cap, .inr (.inr (.inr (.inr tf)))))] ++ stW L (ndX kd hs ky vl nx bf af pa' lf' rt' pv rd'))) k n 209 [(2, .ref root'), (4, .null), (1, .ref tb), (0, .ref x0)] []
        refine r_aloadN hC 1 dJ26_treeify_209 rfl 211 rfl ?_
        refine r_astore_nN hC 3 [(3, .null), (2, .ref root'), (4, .null), (1, .ref tb), (0, .ref x0)] dJ26_treeify_211 rfl (Nat.le_of_ble_eq_true rfl) rfl 212 rfl ?_
        refine r_goto hC 4 dJ26_treeify_212 (by decide) ?_
        refine rn.sub (lv' := [(3, .null), (2, .ref root'), (1, .ref tb), (0, .ref x0)]) [0, 1, 3, 4] rfl ?_
        refine ih (done ++ [x]) none (some root') pa' lf' rt' rd' (by rw [hLb, List.append_assoc]; rfl) (by have h8 := hseg.2; rw [hl1] at h8; exact h8) (fun e => absurd e (by simp)) (fun r9 e9 => ?_) (fun _ => ⟨_, rfl⟩) (oF.trans ((ho.rt hxm).lf hxm) (ho'.imp (fun a h => ?_)))
        · obtain rfl := Option.some.inj e9
          exact ht'.congr (fun a => by rw [List.mem_append, List.mem_singleton]) (fun _ _ => rfl) (fun _ _ => rfl) (fun _ _ => rfl)
        · rcases h with h | h
          · rw [hLb]; exact List.mem_append_left _ h
          · rw [h]; exact hxm
      · skip
        obtain ⟨t9, ht9⟩ : ∃ t9, rest = x2 :: t9 := by have h8 := hseg.2; rw [hl1] at h8; exact seg_some h8
        have hym : x2 ∈ Lb := by rw [hLb, ht9]; exact List.mem_append_right _ (List.mem_cons_of_mem _ List.mem_cons_self)
        refine r_getI (v := .ref x2) hC kJ26 3 rfl q2247 (Or.inr q2248) (fun _ h => stW_get h hxL (ndX_t hxk)) (congrArg (fun o9 => some (va_rf o9)) (hl1)) dJ26_treeify_9 12 rfl ?_
        refine r_castS hC kJ26 q2206 (fun _ h => ⟨_, stW_get h ((hml x2 hym).1) (ndX_t ((hml x2 hym).2))⟩) dJ26_treeify_12 15 rfl ?_
        refine r_astore hC 4 [(4, .ref x2), (3, .ref x), (2, .ref root), (1, .ref tb), (0, .ref x0)] dJ26_treeify_15 (Nat.le_of_ble_eq_true rfl) rfl 17 rfl ?_
        refine r_aload_n hC 1 dJ26_treeify_17 rfl 18 rfl ?_
        refine r_aload_n hC 1 dJ26_treeify_18 rfl 19 rfl ?_
        refine r_null hC dJ26_treeify_19 20 rfl ?_
        refine r_dup_x1 hC dJ26_treeify_20 rfl rfl 21 rfl ?_
        refine r_putI (J := xSt F V0 ([(tb, .inl (8, cap, .inr (.inr (.inr (.inr tf)))))] ++ stW L (ndX kd hs ky vl nx bf af pa lf (va_up rt x none) pv rd))) hC kJ26 8 rfl q2317 (Or.inl rfl) rfl (fun _ h => stW_get h hxL (ndX_t hxk)) (Nat.le_of_ble_eq_true rfl) rfl rfl dJ26_treeify_21 (fun _ h => stW_set h hxL (ndX_rt hxk)) 24 rfl ?_
        refine r_putI (J := xSt F V0 ([(tb, .inl (8, cap, .inr (.inr (.inr (.inr tf)))))] ++ stW L (ndX kd hs ky vl nx bf af pa (va_up lf x none) (va_up rt x none) pv rd))) hC kJ26 7 rfl q2316 (Or.inl rfl) rfl (fun _ h => stW_get h hxL (ndX_t hxk)) (Nat.le_of_ble_eq_true rfl) rfl rfl dJ26_treeify_24 (fun _ h => stW_set h hxL (ndX_lf hxk)) 27 rfl ?_
        refine r_aload_n hC 2 dJ26_treeify_27 rfl 28 rfl ?_
        refine r_ifnonnull hC 46 dJ26_treeify_28 (by decide) ?_
        refine r_aload_n hC 1 dJ26_treeify_46 rfl 47 rfl ?_
        refine r_getI (v := .ref (ky x)) hC kJ26 1 rfl q2236 (Or.inr q2237) (fun _ h => stW_get h hxL (ndX_t hxk)) rfl dJ26_treeify_47 50 rfl ?_
        refine r_astore hC 5 [(5, .ref (ky x)), (4, .ref x2), (3, .ref x), (2, .ref root), (1, .ref tb), (0, .ref x0)] dJ26_treeify_50 (Nat.le_of_ble_eq_true rfl) rfl 52 rfl ?_
        refine r_aload_n hC 2 dJ26_treeify_52 rfl 53 rfl ?_
        refine r_getI (v := .int (hs x)) hC kJ26 0 rfl q2230 (Or.inr q2231) (fun _ h => stW_get h hxL (ndX_t hxk)) rfl dJ26_treeify_53 56 rfl ?_
        refine r_istore hC 6 [(6, .int (hs x)), (5, .ref (ky x)), (4, .ref x2), (3, .ref x), (2, .ref root), (1, .ref tb), (0, .ref x0)] dJ26_treeify_56 (Nat.le_of_ble_eq_true rfl) rfl 58 rfl ?_
        refine r_null hC dJ26_treeify_58 59 rfl ?_
        refine r_astoreN hC 7 [(7, .null), (6, .int (hs x)), (5, .ref (ky x)), (4, .ref x2), (3, .ref x), (2, .ref root), (1, .ref tb), (0, .ref x0)] dJ26_treeify_59 (Nat.le_of_ble_eq_true rfl) rfl 61 rfl ?_
        refine r_aload_n hC 5 dJ26_treeify_61 rfl 62 rfl ?_
        refine r_astore hC 8 [(8, .ref root), (7, .null), (6, .int (hs x)), (5, .ref (ky x)), (4, .ref x2), (3, .ref x), (2, .ref root), (1, .ref tb), (0, .ref x0)] dJ26_treeify_62 (Nat.le_of_ble_eq_true rfl) rfl 64 rfl ?_
        refine rn.sub (lv' := [(8, .ref root), (7, .null), (6, .int (hs x)), (5, .ref (ky x)), (4, .ref x2), (3, .ref x), (2, .ref root), (1, .ref tb), (0, .ref x0)]) [0, 1, 2, 3, 4, 5, 6, 7, 8] rfl ?_
        obtain ⟨lo, hi, ht⟩ := (hT9.congr (T' := fun a => a ∈ done) (pa' := pa) (lf' := va_up lf x none) (rt' := va_up rt x none) (fun _ => Iff.rfl) (fun _ _ => rfl) (fun a ha => up_ne (hnx9 a ha)) (fun a ha => up_ne (hnx9 a ha)))
        have hr9 := ht.1
        have hg := hs_rg (hs x)
        refine lpJ26_tin hG hC k n hk9 hn9 L kd hs ky vl nx bf af pv tb cap tf x0 (fun a => a ∈ done) (fun a ha => (hml a (hdm a ha)).1) (fun a ha => (hml a (hdm a ha)).2) pa _ _ rd root x (.ref x2) hxL hxk hxd (fun a ha e => hnx9 a ha (hinj a x (hdm a ha) hxm e)) (up_same _ _ _) (up_same _ _ _) lo hi ht (fun pa' lf' rt' rd' root' ht' ho' => ?_) _ root hr9.1 (by rw [hr9.2.2.1]; omega) (by rw [hr9.2.2.2]; omega) (Nat.lt_succ_self _)
        show rn C (xSt F V0 ([(tb, .inl (8, cap, .inr (.inr (.inr (.inr tf)))))] ++ stW L (ndX kd hs ky vl nx bf af pa' lf' rt' pv rd'))) k n 209 [(2, .ref root'), (4, .ref x2), (1, .ref tb), (0, .ref x0)] []
        refine r_aload hC 1 dJ26_treeify_209 rfl 211 rfl ?_
        refine r_astore_n hC 3 [(3, .ref x2), (2, .ref root'), (4, .ref x2), (1, .ref tb), (0, .ref x0)] dJ26_treeify_211 rfl (Nat.le_of_ble_eq_true rfl) rfl 212 rfl ?_
        refine r_goto hC 4 dJ26_treeify_212 (by decide) ?_
        refine rn.sub (lv' := [(3, .ref x2), (2, .ref root'), (1, .ref tb), (0, .ref x0)]) [0, 1, 3, 4] rfl ?_
        refine ih (done ++ [x]) (some x2) (some root') pa' lf' rt' rd' (by rw [hLb, List.append_assoc]; rfl) (by have h8 := hseg.2; rw [hl1] at h8; exact h8) (fun e => absurd e (by simp)) (fun r9 e9 => ?_) (fun _ => ⟨_, rfl⟩) (oF.trans ((ho.rt hxm).lf hxm) (ho'.imp (fun a h => ?_)))
        · obtain rfl := Option.some.inj e9
          exact ht'.congr (fun a => by rw [List.mem_append, List.mem_singleton]) (fun _ _ => rfl) (fun _ _ => rfl) (fun _ _ => rfl)
        · rcases h with h | h
          · rw [hLb]; exact List.mem_append_left _ h
          · rw [h]; exact hxm
set_option maxHeartbeats 4000000 in
set_option maxRecDepth 100000 in
theorem metJ26_treeify (l : Launch) (G : xG) (hG : xGood G) (L : List Nat) (kd : Nat → Bool) (hs : Nat → Int32) (ky vl : Nat → Nat) (nx bf af pa lf rt pv : Nat → Option Nat) (rd : Nat → Int32) (tb cap b : Nat) (tf : Nat → Option Nat) (hc1 : 1 ≤ cap) (hc2 : cap ≤ 1024) (hb : b < cap) (x0 : Nat) (Lb : List Nat) (hml : ∀ a, a ∈ Lb → a ∈ L ∧ kd a = true) (hnd : Lb.Nodup) (hinj : ∀ a a9, a ∈ Lb → a9 ∈ Lb → hs a = hs a9 → a = a9) (hLn : Lb ≠ []) (hf : tf b = some x0) (hseg : seg nx (some x0) Lb none) (hbck : bck pv none Lb) (hixs : ∀ a, a ∈ Lb → (nI (cap - 1) &&& hs a) = nI b) : xWm l G yJ26_treeify (Cond.code yJ26_treeify cJ26_treeify 13 none) { frames := 2, locals := 49, cells := 0, slots := 0 } [.ref x0, .ref tb] ([(tb, .inl (8, cap, .inr (.inr (.inr (.inr tf)))))] ++ stW L (ndX kd hs ky vl nx bf af pa lf rt pv rd)) (fun v w' => ∃ (nx' pv' pa' lf' rt' : Nat → Option Nat) (rd' : Nat → Int32) (root : Nat) (l1 l2 : List Nat), v = none ∧ Lb = l1 ++ root :: l2 ∧ tI (fun a => (hs a).toInt) (fun a => a ∈ Lb) pa' lf' rt' root ∧ seg nx' (some root) (root :: (l1 ++ l2)) none ∧ bck pv' none (root :: (l1 ++ l2)) ∧ (∀ a, a ∉ Lb → nx' a = nx a ∧ pv' a = pv a) ∧ oF (fun a => a ∈ Lb) pa lf rt rd pa' lf' rt' rd' ∧ w' = ([(tb, .inl (8, cap, .inr (.inr (.inr (.inr (va_up tf b (some root)))))))] ++ stW L (ndX kd hs ky vl nx' bf af pa' lf' rt' pv' rd'))) (fun _ _ => False) := by
  intro V hV
  refine xMet_ofT RJ26 hG rfl (by decide) (Nat.le_of_ble_eq_true rfl) fun C hC hQ hX hl hg _ hTab => ?_
  subst hl hg
  have hx0m : x0 ∈ Lb := by obtain ⟨t9, rfl⟩ := seg_some hseg; exact List.mem_cons_self
  obtain ⟨V0, hV0⟩ : ∃ V0, V0 = V := ⟨_, rfl⟩
  obtain ⟨F, hF⟩ : ∃ F, F = xF ([(tb, .inl (8, cap, .inr (.inr (.inr (.inr tf)))))] ++ stW L (ndX kd hs ky vl nx bf af pa lf rt pv rd)) := ⟨_, rfl⟩
  refine rn.mono (J := xSt F V0 ([(tb, .inl (8, cap, .inr (.inr (.inr (.inr tf)))))] ++ stW L (ndX kd hs ky vl nx bf af pa lf rt pv rd))) (fun V9 h => by rw [h, hV0, hF]; exact hV.st) ?_
  show rn C (xSt F V0 ([(tb, .inl (8, cap, .inr (.inr (.inr (.inr tf)))))] ++ stW L (ndX kd hs ky vl nx bf af pa lf rt pv rd))) 0 0 0 [(0, .ref x0), (1, .ref tb)] []
  refine r_null hC dJ26_treeify_0 1 rfl ?_
  refine r_astore_nN hC 2 [(2, .null), (0, .ref x0), (1, .ref tb)] dJ26_treeify_1 rfl (Nat.le_of_ble_eq_true rfl) rfl 2 rfl ?_
  refine r_aload_n hC 1 dJ26_treeify_2 rfl 3 rfl ?_
  refine r_astore_n hC 3 [(3, .ref x0), (2, .null), (0, .ref x0), (1, .ref tb)] dJ26_treeify_3 rfl (Nat.le_of_ble_eq_true rfl) rfl 4 rfl ?_
  refine rn.sub (lv' := [(3, .ref x0), (2, .null), (1, .ref tb), (0, .ref x0)]) [0, 1, 3, 2] rfl ?_
  refine lpJ26_tout hG hC 0 0 (by decide) (by decide) L kd hs ky vl nx bf af pv tb cap tf x0 Lb hml hnd hinj pa lf rt rd (fun pa' lf' rt' rd' root' ht' ho' => ?_) hLn Lb [] (some x0) none pa lf rt rd rfl hseg (fun _ => rfl) (fun _ e => by cases e) (fun e => absurd rfl e) oF.refl
  have hrm : root' ∈ Lb := by obtain ⟨_, _, h9⟩ := ht'; exact h9.1.1
  obtain ⟨l1, l2, hLs⟩ := List.append_of_mem hrm
  obtain ⟨hrL, hrk⟩ := hml root' hrm
  show rn C (xSt F V0 ([(tb, .inl (8, cap, .inr (.inr (.inr (.inr tf)))))] ++ stW L (ndX kd hs ky vl nx bf af pa' lf' rt' pv rd'))) 0 0 215 [(2, .ref root'), (1, .ref tb), (0, .ref x0)] []
  refine r_aload_n hC 1 dJ26_treeify_215 rfl 216 rfl ?_
  refine r_aload_n hC 0 dJ26_treeify_216 rfl 217 rfl ?_
  refine xCall.ct (wcx := [(tb, .inl (8, cap, .inr (.inr (.inr (.inr tf)))))]) (wr := []) (r_cS hC [.ref tb, .ref root'] mSJ26_moveRootToFront q2283 (fun V9 h9 => (metJ26_moveRootToFront _ _ hG L kd hs ky vl nx bf af pa' lf' rt' pv rd' tb cap b tf hc1 hc2 hb root' (hixs root' hrm) hrL hrk l1 l2 (by rw [hf, ← hLs]; exact hseg) (by rw [← hLs]; exact hbck) (by rw [← hLs]; exact hnd) (fun a ha => hml a (by rw [hLs]; exact ha))) V9 (h9.in.cut (wcx := [(tb, .inl (8, cap, .inr (.inr (.inr (.inr tf)))))]) (wr := []) [0] [] 1 rfl rfl rfl rfl)) ⟨rfl, rfl⟩ (Nat.le_of_ble_eq_true rfl) (Nat.le_of_ble_eq_true rfl) rfl (Nat.le_of_ble_eq_true rfl) dJ26_treeify_217) [0] [] 1 rfl rfl rfl rfl 0 0 220 rfl rfl rfl (fun v6 w7 h8 => ?_) (fun _ _ h => h.elim)
  obtain ⟨nx1, pv2, rfl, hs3, hb4, hu5, rfl⟩ := h8
  refine rn.mono (J := xSt F V0 ([(tb, .inl (8, cap, .inr (.inr (.inr (.inr (va_up tf b (some root')))))))] ++ stW L (ndX kd hs ky vl nx1 bf af pa' lf' rt' pv2 rd'))) (fun _ h => by rw [← List.append_assoc] at h; exact h) ?_
  show rn C (xSt F V0 ([(tb, .inl (8, cap, .inr (.inr (.inr (.inr (va_up tf b (some root')))))))] ++ stW L (ndX kd hs ky vl nx1 bf af pa' lf' rt' pv2 rd'))) 0 0 220 [(2, .ref root'), (1, .ref tb), (0, .ref x0)] []
  exact r_vret hC (Nat.le_of_ble_eq_true rfl) (Nat.le_of_ble_eq_true rfl) (fun V9 h => hQ _ _ ⟨_, ⟨nx1, pv2, pa', lf', rt', rd', root', l1, l2, rfl, hLs, ht', hs3, hb4, (fun a ha => hu5 a (by rw [← hLs]; exact ha)), ho', rfl⟩, by rw [← hV0, ← hF]; exact h⟩) dJ26_treeify_220
