/-! ===== the reference: history, operations ===== -/
set_option maxRecDepth 100000
/-- the history with the row r laid at place rc -/
def layQ (h r : Nat → Int64) (rc : Nat) : Nat → Int64 := va_cpy r h 0 (111 * rc) 111
/-- the history, one place down -/
def downQ (h : Nat → Int64) : Nat → Int64 := va_cpy h h 111 0 999
set_option maxHeartbeats 4000000 in
set_option maxRecDepth 100000 in
theorem lpX6_records_a {C : xC} {F : Nat → Prop} {V0 : xV} {k n : Nat} {rm : Room} (hC : xCtx C RX6 cX6_records 2 none rm) (b : Nat → Nat) (i : Nat → Int32) (j : Nat → Int64) (r hy : Nat → Int64) (kx : rn C (xSt F V0 [(b 0, .inr (5, mF b i j)), (b 1, .inl (1, 111, .inr (.inl r))), (b 6, .inl (1, 1110, .inr (.inl (va_cpy hy hy 111 0 999))))]) k n 40 [(0, .ref (b 0))] []) : ∀ m c : Nat, c + m = 999 → rn C (xSt F V0 [(b 0, .inr (5, mF b i j)), (b 1, .inl (1, 111, .inr (.inl r))), (b 6, .inl (1, 1110, .inr (.inl (va_cpy hy hy 111 0 c))))]) k n 12 [(1, .int (nI (111 + c))), (0, .ref (b 0))] [] := by
  intro m
  induction m with
  | zero =>
    intro c hc
    have hc : c = 999 := by omega
    subst hc
    refine r_iload_n hC 0 dX6_records_12 rfl 13 rfl ?_
    refine r_sipush hC 1110 dX6_records_13 sp_1110 16 rfl ?_
    refine r_icge hC 40 dX6_records_16 (by decide) 19 rfl (fun _ => ?_) (fun h => absurd (Int32.le_refl _) h)
    refine rn.sub (lv' := [(0, .ref (b 0))]) [1] rfl ?_
    exact kx
  | succ m ih =>
    intro c hc
    refine r_iload_n hC 0 dX6_records_12 rfl 13 rfl ?_
    refine r_sipush hC 1110 dX6_records_13 sp_1110 16 rfl ?_
    refine r_icge hC 40 dX6_records_16 (by decide) 19 rfl (fun h => absurd h (nI_ge (a := 111 + c) (b := 1110) (by omega) (by decide))) (fun _ => ?_)
    refine r_aload_n hC 1 dX6_records_19 rfl 20 rfl ?_
    refine r_get (v := .ref (b 6)) hC kX6 6 rfl q2759 (fun _ h => h.get 0 rfl) rfl dX6_records_20 23 rfl ?_
    refine r_iload_n hC 0 dX6_records_23 rfl 24 rfl ?_
    refine r_bipush hC 111 dX6_records_24 bp_111 26 rfl ?_
    refine r_isub hC (nI c) dX6_records_26  (by rw [show (111 : Int32) = nI 111 from rfl, pk_sub (by omega)]; congr 1; omega) 27 rfl ?_
    refine r_aload_n hC 1 dX6_records_27 rfl 28 rfl ?_
    refine r_get (v := .ref (b 6)) hC kX6 6 rfl q2759 (fun _ h => h.get 0 rfl) rfl dX6_records_28 31 rfl ?_
    refine r_iload_n hC 0 dX6_records_31 rfl 32 rfl ?_
    refine r_lald hC (111 + c) (xix_n (111 + c) (by omega) (Nat.le_of_ble_eq_true rfl)) (fun _ h => h.get 2 rfl) ((va_cpy hy hy 111 0 c) (111 + c)) (rfl) dX6_records_32 33 rfl ?_
    refine r_last (J := xSt F V0 [(b 0, .inr (5, mF b i j)), (b 1, .inl (1, 111, .inr (.inl r))), (b 6, .inl (1, 1110, .inr (.inl (va_up (va_cpy hy hy 111 0 c) c ((va_cpy hy hy 111 0 c) (111 + c))))))]) hC c (xix_n c (by omega) (Nat.le_of_ble_eq_true rfl)) (fun _ h => h.get 2 rfl) dX6_records_33 (fun _ h => h.set 2 _ rfl) 34 rfl ?_
    refine r_iinc hC (nI (111 + c + 1)) 1 0 [(1, .int (nI (111 + c + 1))), (0, .ref (b 0))] dX6_records_34 rfl (nI_add (111 + c) 1) (Nat.le_of_ble_eq_true rfl) rfl 37 rfl ?_
    refine r_goto hC 12 dX6_records_37 (by decide) ?_
    rw [show va_up (va_cpy hy hy 111 0 c) c ((va_cpy hy hy 111 0 c) (111 + c)) = va_cpy hy hy 111 0 (c + 1) from cpy_step (by omega) (cpy_out (by omega))]
    refine rn.sub (lv' := [(1, .int (nI (111 + c + 1))), (0, .ref (b 0))]) [0, 1] rfl ?_
    exact ih (c + 1) (by omega)
set_option maxHeartbeats 4000000 in
set_option maxRecDepth 100000 in
theorem lpX6_records_b {C : xC} {F : Nat → Prop} {V0 : xV} {k n : Nat} {rm : Room} (hC : xCtx C RX6 cX6_records 2 none rm) (b : Nat → Nat) (i : Nat → Int32) (j : Nat → Int64) (r hy : Nat → Int64) (rc : Nat) (hrc : rc < 10) (hi : i 10 = nI rc) (kx : rn C (xSt F V0 [(b 0, .inr (5, mF b i j)), (b 1, .inl (1, 111, .inr (.inl r))), (b 6, .inl (1, 1110, .inr (.inl (va_cpy r hy 0 (111 * rc) 111))))]) k n 84 [(0, .ref (b 0))] []) : ∀ m c : Nat, c + m = 111 → rn C (xSt F V0 [(b 0, .inr (5, mF b i j)), (b 1, .inl (1, 111, .inr (.inl r))), (b 6, .inl (1, 1110, .inr (.inl (va_cpy r hy 0 (111 * rc) c))))]) k n 52 [(1, .int (nI c)), (0, .ref (b 0))] [] := by
  intro m
  induction m with
  | zero =>
    intro c hc
    have hc : c = 111 := by omega
    subst hc
    refine r_iload_n hC 0 dX6_records_52 rfl 53 rfl ?_
    refine r_bipush hC 111 dX6_records_53 bp_111 55 rfl ?_
    refine r_icge hC 84 dX6_records_55 (by decide) 58 rfl (fun _ => ?_) (fun h => absurd (Int32.le_refl _) h)
    refine rn.sub (lv' := [(0, .ref (b 0))]) [1] rfl ?_
    exact kx
  | succ m ih =>
    intro c hc
    refine r_iload_n hC 0 dX6_records_52 rfl 53 rfl ?_
    refine r_bipush hC 111 dX6_records_53 bp_111 55 rfl ?_
    refine r_icge hC 84 dX6_records_55 (by decide) 58 rfl (fun h => absurd h (nI_ge (a := c) (b := 111) (by omega) (by decide))) (fun _ => ?_)
    refine r_aload_n hC 1 dX6_records_58 rfl 59 rfl ?_
    refine r_get (v := .ref (b 6)) hC kX6 6 rfl q2759 (fun _ h => h.get 0 rfl) rfl dX6_records_59 62 rfl ?_
    refine r_bipush hC 111 dX6_records_62 bp_111 64 rfl ?_
    refine r_aload_n hC 1 dX6_records_64 rfl 65 rfl ?_
    refine r_get (v := .int (i 10)) hC kX6 10 rfl q2763 (fun _ h => h.get 0 rfl) rfl dX6_records_65 68 rfl ?_
    refine r_eqi (y := nI rc) (hi) ?_
    refine r_imul hC (nI (111 * rc)) dX6_records_68  (pk_mul 111 rc) 69 rfl ?_
    refine r_iload_n hC 0 dX6_records_69 rfl 70 rfl ?_
    refine r_iadd hC (nI (111 * rc + c)) dX6_records_70  (nI_add (111 * rc) c) 71 rfl ?_
    refine r_aload_n hC 1 dX6_records_71 rfl 72 rfl ?_
    refine r_get (v := .ref (b 1)) hC kX6 1 rfl q2754 (fun _ h => h.get 0 rfl) rfl dX6_records_72 75 rfl ?_
    refine r_iload_n hC 0 dX6_records_75 rfl 76 rfl ?_
    refine r_lald hC c (xix_n c (by omega) (Nat.le_of_ble_eq_true rfl)) (fun _ h => h.get 1 rfl) (r c) (rfl) dX6_records_76 77 rfl ?_
    refine r_last (J := xSt F V0 [(b 0, .inr (5, mF b i j)), (b 1, .inl (1, 111, .inr (.inl r))), (b 6, .inl (1, 1110, .inr (.inl (va_up (va_cpy r hy 0 (111 * rc) c) (111 * rc + c) (r c)))))]) hC (111 * rc + c) (xix_n (111 * rc + c) (by omega) (Nat.le_of_ble_eq_true rfl)) (fun _ h => h.get 2 rfl) dX6_records_77 (fun _ h => h.set 2 _ rfl) 78 rfl ?_
    refine r_iinc hC (nI (c + 1)) 1 0 [(1, .int (nI (c + 1))), (0, .ref (b 0))] dX6_records_78 rfl (nI_add c 1) (Nat.le_of_ble_eq_true rfl) rfl 81 rfl ?_
    refine r_goto hC 52 dX6_records_81 (by decide) ?_
    rw [show va_up (va_cpy r hy 0 (111 * rc) c) (111 * rc + c) (r c) = va_cpy r hy 0 (111 * rc) (c + 1) from cpy_step (by omega) (by rw [Nat.zero_add])]
    refine rn.sub (lv' := [(1, .int (nI (c + 1))), (0, .ref (b 0))]) [0, 1] rfl ?_
    exact ih (c + 1) (by omega)
set_option maxHeartbeats 4000000 in
set_option maxRecDepth 100000 in
theorem metX6_records (l : Launch) (G : xG) (hG : xGood G) (b : Nat → Nat) (i : Nat → Int32) (j : Nat → Int64) (r hy : Nat → Int64) (rc : Nat) (hrc : rc < 10) (hi : i 10 = nI rc) : xWm l G yX6_records (Cond.code yX6_records cX6_records 2 none) { frames := 0, locals := 0, cells := 0, slots := 0 } [.ref (b 0)] [(b 0, .inr (5, mF b i j)), (b 1, .inl (1, 111, .inr (.inl r))), (b 6, .inl (1, 1110, .inr (.inl hy)))] (fun v w' => v = none ∧ w' = [(b 0, .inr (5, mF b (va_up i 10 (nI (rc + 1))) j)), (b 1, .inl (1, 111, .inr (.inl r))), (b 6, .inl (1, 1110, .inr (.inl (layQ hy r rc))))]) (fun _ _ => False) := by
  intro V hV
  refine xMet_of RX6 hG rfl (by decide) (Nat.le_of_ble_eq_true rfl) fun C hC hQ hX hl hg _ => ?_
  subst hl hg
  obtain ⟨V0, hV0⟩ : ∃ V0, V0 = V := ⟨_, rfl⟩
  obtain ⟨F, hF⟩ : ∃ F, F = xF [(b 0, .inr (5, mF b i j)), (b 1, .inl (1, 111, .inr (.inl r))), (b 6, .inl (1, 1110, .inr (.inl hy)))] := ⟨_, rfl⟩
  refine rn.mono (J := xSt F V0 [(b 0, .inr (5, mF b i j)), (b 1, .inl (1, 111, .inr (.inl r))), (b 6, .inl (1, 1110, .inr (.inl hy)))]) (fun V9 h => by rw [h, hV0, hF]; exact hV.st) ?_
  show rn C (xSt F V0 [(b 0, .inr (5, mF b i j)), (b 1, .inl (1, 111, .inr (.inl r))), (b 6, .inl (1, 1110, .inr (.inl hy)))]) 0 0 0 [(0, .ref (b 0))] []
  refine r_aload_n hC 0 dX6_records_0 rfl 1 rfl ?_
  refine r_get (v := .int (i 10)) hC kX6 10 rfl q2763 (fun _ h => h.get 0 rfl) rfl dX6_records_1 4 rfl ?_
  refine r_eqi (y := nI rc) (hi) ?_
  refine r_bipush hC 10 dX6_records_4 bp_10 6 rfl ?_
  refine r_icne hC 50 dX6_records_6 (by decide) 9 rfl (fun _ => ?_) (fun h => absurd h (fun h => by have := (nI_eq (by omega) (by decide)).mp (show nI rc = nI 10 from h); omega))
  refine r_iconst hC 0 dX6_records_50 ic_0 51 rfl ?_
  refine r_istore_n hC 1 [(1, .int 0), (0, .ref (b 0))] dX6_records_51 rfl (Nat.le_of_ble_eq_true rfl) rfl 52 rfl ?_
  refine rn.sub (lv' := [(1, .int 0), (0, .ref (b 0))]) [0, 1] rfl ?_
  refine rn.mono (J := xSt F V0 [(b 0, .inr (5, mF b i j)), (b 1, .inl (1, 111, .inr (.inl r))), (b 6, .inl (1, 1110, .inr (.inl (va_cpy r hy 0 (111 * rc) 0))))]) (fun _ h => by rw [cpy_0]; exact h) ?_
  refine lpX6_records_b hC b i j r hy rc (by omega) (hi) ?_ 111 0 rfl
  show rn C (xSt F V0 [(b 0, .inr (5, mF b i j)), (b 1, .inl (1, 111, .inr (.inl r))), (b 6, .inl (1, 1110, .inr (.inl (layQ hy r rc))))]) 0 0 84 [(0, .ref (b 0))] []
  refine r_aload_n hC 0 dX6_records_84 rfl 85 rfl ?_
  refine r_dup hC dX6_records_85 rfl 86 rfl ?_
  refine r_get (v := .int (i 10)) hC kX6 10 rfl q2763 (fun _ h => h.get 0 rfl) rfl dX6_records_86 89 rfl ?_
  refine r_eqi (y := nI rc) (hi) ?_
  refine r_iconst hC 1 dX6_records_89 ic_1 90 rfl ?_
  refine r_iadd hC (nI (rc + 1)) dX6_records_90  (nI_add rc 1) 91 rfl ?_
  refine r_put (J := xSt F V0 [(b 0, .inr (5, mF b (va_up i 10 (nI (rc + 1))) j)), (b 1, .inl (1, 111, .inr (.inl r))), (b 6, .inl (1, 1110, .inr (.inl (layQ hy r rc))))]) hC kX6 10 rfl q2763 rfl (fun _ h => h.get 0 rfl) (Nat.le_of_ble_eq_true rfl) rfl rfl dX6_records_91 (fun _ h => h.set 0 _ rfl) 94 rfl ?_
  exact r_vret hC (Nat.le_of_ble_eq_true rfl) (Nat.le_of_ble_eq_true rfl) (fun V9 h => hQ _ _ ⟨[(b 0, .inr (5, mF b (va_up i 10 (nI (rc + 1))) j)), (b 1, .inl (1, 111, .inr (.inl r))), (b 6, .inl (1, 1110, .inr (.inl (layQ hy r rc))))], ⟨rfl, rfl⟩, by rw [← hV0, ← hF]; exact h⟩) dX6_records_94
set_option maxHeartbeats 4000000 in
set_option maxRecDepth 100000 in
theorem metX6_recordsF (l : Launch) (G : xG) (hG : xGood G) (b : Nat → Nat) (i : Nat → Int32) (j : Nat → Int64) (r hy : Nat → Int64) (hi : i 10 = 10) : xWm l G yX6_records (Cond.code yX6_records cX6_records 2 none) { frames := 0, locals := 0, cells := 0, slots := 0 } [.ref (b 0)] [(b 0, .inr (5, mF b i j)), (b 1, .inl (1, 111, .inr (.inl r))), (b 6, .inl (1, 1110, .inr (.inl hy)))] (fun v w' => v = none ∧ w' = [(b 0, .inr (5, mF b (va_up i 10 10) j)), (b 1, .inl (1, 111, .inr (.inl r))), (b 6, .inl (1, 1110, .inr (.inl (layQ (downQ hy) r 9))))]) (fun _ _ => False) := by
  intro V hV
  refine xMet_of RX6 hG rfl (by decide) (Nat.le_of_ble_eq_true rfl) fun C hC hQ hX hl hg _ => ?_
  subst hl hg
  obtain ⟨V0, hV0⟩ : ∃ V0, V0 = V := ⟨_, rfl⟩
  obtain ⟨F, hF⟩ : ∃ F, F = xF [(b 0, .inr (5, mF b i j)), (b 1, .inl (1, 111, .inr (.inl r))), (b 6, .inl (1, 1110, .inr (.inl hy)))] := ⟨_, rfl⟩
  refine rn.mono (J := xSt F V0 [(b 0, .inr (5, mF b i j)), (b 1, .inl (1, 111, .inr (.inl r))), (b 6, .inl (1, 1110, .inr (.inl hy)))]) (fun V9 h => by rw [h, hV0, hF]; exact hV.st) ?_
  show rn C (xSt F V0 [(b 0, .inr (5, mF b i j)), (b 1, .inl (1, 111, .inr (.inl r))), (b 6, .inl (1, 1110, .inr (.inl hy)))]) 0 0 0 [(0, .ref (b 0))] []
  refine r_aload_n hC 0 dX6_records_0 rfl 1 rfl ?_
  refine r_get (v := .int (i 10)) hC kX6 10 rfl q2763 (fun _ h => h.get 0 rfl) rfl dX6_records_1 4 rfl ?_
  refine r_eqi (y := 10) (hi) ?_
  refine r_bipush hC 10 dX6_records_4 bp_10 6 rfl ?_
  refine r_icne hC 50 dX6_records_6 (by decide) 9 rfl (fun h => absurd h (by decide)) (fun _ => ?_)
  refine r_bipush hC 111 dX6_records_9 bp_111 11 rfl ?_
  refine r_istore_n hC 1 [(1, .int 111), (0, .ref (b 0))] dX6_records_11 rfl (Nat.le_of_ble_eq_true rfl) rfl 12 rfl ?_
  refine rn.sub (lv' := [(1, .int 111), (0, .ref (b 0))]) [0, 1] rfl ?_
  refine rn.mono (J := xSt F V0 [(b 0, .inr (5, mF b i j)), (b 1, .inl (1, 111, .inr (.inl r))), (b 6, .inl (1, 1110, .inr (.inl (va_cpy hy hy 111 0 0))))]) (fun _ h => by rw [cpy_0]; exact h) ?_
  refine lpX6_records_a hC b i j r hy ?_ 999 0 rfl
  show rn C (xSt F V0 [(b 0, .inr (5, mF b i j)), (b 1, .inl (1, 111, .inr (.inl r))), (b 6, .inl (1, 1110, .inr (.inl (downQ hy))))]) 0 0 40 [(0, .ref (b 0))] []
  refine r_aload_n hC 0 dX6_records_40 rfl 41 rfl ?_
  refine r_dup hC dX6_records_41 rfl 42 rfl ?_
  refine r_get (v := .int (i 10)) hC kX6 10 rfl q2763 (fun _ h => h.get 0 rfl) rfl dX6_records_42 45 rfl ?_
  refine r_eqi (y := 10) (hi) ?_
  refine r_iconst hC 1 dX6_records_45 ic_1 46 rfl ?_
  refine r_isub hC 9 dX6_records_46  (by decide) 47 rfl ?_
  refine r_put (J := xSt F V0 [(b 0, .inr (5, mF b (va_up i 10 9) j)), (b 1, .inl (1, 111, .inr (.inl r))), (b 6, .inl (1, 1110, .inr (.inl (downQ hy))))]) hC kX6 10 rfl q2763 rfl (fun _ h => h.get 0 rfl) (Nat.le_of_ble_eq_true rfl) rfl rfl dX6_records_47 (fun _ h => h.set 0 _ rfl) 50 rfl ?_
  refine r_iconst hC 0 dX6_records_50 ic_0 51 rfl ?_
  refine r_istore_n hC 1 [(1, .int 0), (0, .ref (b 0))] dX6_records_51 rfl (Nat.le_of_ble_eq_true rfl) rfl 52 rfl ?_
  refine rn.sub (lv' := [(1, .int 0), (0, .ref (b 0))]) [0, 1] rfl ?_
  refine rn.mono (J := xSt F V0 [(b 0, .inr (5, mF b (va_up i 10 9) j)), (b 1, .inl (1, 111, .inr (.inl r))), (b 6, .inl (1, 1110, .inr (.inl (va_cpy r (downQ hy) 0 (111 * 9) 0))))]) (fun _ h => by rw [cpy_0]; exact h) ?_
  refine lpX6_records_b hC b (va_up i 10 9) j r (downQ hy) 9 (by omega) (rfl) ?_ 111 0 rfl
  show rn C (xSt F V0 [(b 0, .inr (5, mF b (va_up i 10 9) j)), (b 1, .inl (1, 111, .inr (.inl r))), (b 6, .inl (1, 1110, .inr (.inl (layQ (downQ hy) r 9))))]) 0 0 84 [(0, .ref (b 0))] []
  refine r_aload_n hC 0 dX6_records_84 rfl 85 rfl ?_
  refine r_dup hC dX6_records_85 rfl 86 rfl ?_
  refine r_get (v := .int 9) hC kX6 10 rfl q2763 (fun _ h => h.get 0 rfl) rfl dX6_records_86 89 rfl ?_
  refine r_iconst hC 1 dX6_records_89 ic_1 90 rfl ?_
  refine r_iadd hC 10 dX6_records_90  (by decide) 91 rfl ?_
  refine r_put (J := xSt F V0 [(b 0, .inr (5, mF b (va_up (va_up i 10 9) 10 10) j)), (b 1, .inl (1, 111, .inr (.inl r))), (b 6, .inl (1, 1110, .inr (.inl (layQ (downQ hy) r 9))))]) hC kX6 10 rfl q2763 rfl (fun _ h => h.get 0 rfl) (Nat.le_of_ble_eq_true rfl) rfl rfl dX6_records_91 (fun _ h => h.set 0 _ rfl) 94 rfl ?_
  exact r_vret hC (Nat.le_of_ble_eq_true rfl) (Nat.le_of_ble_eq_true rfl) (fun V9 h => hQ _ _ ⟨[(b 0, .inr (5, mF b (va_up (va_up i 10 9) 10 10) j)), (b 1, .inl (1, 111, .inr (.inl r))), (b 6, .inl (1, 1110, .inr (.inl (layQ (downQ hy) r 9))))], ⟨rfl, by simp only [bx_uu]⟩, by rw [← hV0, ← hF]; exact h⟩) dX6_records_94
set_option maxHeartbeats 4000000 in
set_option maxRecDepth 100000 in
/-- the history and its count behind a record -/
def recH (h r : Nat → Int64) (rc : Nat) : Nat → Int64 := if rc < 10 then layQ h r rc else layQ (downQ h) r 9
def recN (rc : Nat) : Nat := if rc < 10 then rc + 1 else 10
theorem metX6_rec (l : Launch) (G : xG) (hG : xGood G) (b : Nat → Nat) (i : Nat → Int32) (j : Nat → Int64) (r hy : Nat → Int64) (rc : Nat) (hrc : rc ≤ 10) (hi : i 10 = nI rc) : xWm l G yX6_records (Cond.code yX6_records cX6_records 2 none) { frames := 0, locals := 0, cells := 0, slots := 0 } [.ref (b 0)] [(b 0, .inr (5, mF b i j)), (b 1, .inl (1, 111, .inr (.inl r))), (b 6, .inl (1, 1110, .inr (.inl hy)))] (fun v w' => v = none ∧ w' = [(b 0, .inr (5, mF b (va_up i 10 (nI (recN rc))) j)), (b 1, .inl (1, 111, .inr (.inl r))), (b 6, .inl (1, 1110, .inr (.inl (recH hy r rc))))]) (fun _ _ => False) := by
  by_cases hlt : rc < 10
  · have := metX6_records l G hG b i j r hy rc hlt hi
    rw [recH, recN, if_pos hlt, if_pos hlt]
    exact this
  · have he : rc = 10 := by omega
    subst he
    have := metX6_recordsF l G hG b i j r hy hi
    rw [recH, recN, if_neg hlt, if_neg hlt]
    exact this
set_option maxHeartbeats 4000000 in
set_option maxRecDepth 100000 in
theorem metX6_begins (l : Launch) (G : xG) (hG : xGood G) (b : Nat → Nat) (i : Nat → Int32) (j : Nat → Int64) (r hy : Nat → Int64) (rc : Nat) (hrc : rc ≤ 10) (hi : i 10 = nI rc) : xWm l G yX6_begins (Cond.code yX6_begins cX6_begins 1 none) { frames := 1, locals := 21, cells := 0, slots := 0 } [.ref (b 0)] [(b 0, .inr (5, mF b i j)), (b 1, .inl (1, 111, .inr (.inl r))), (b 6, .inl (1, 1110, .inr (.inl hy)))] (fun v w' => v = none ∧ w' = [(b 0, .inr (5, mF b (va_up (va_up i 10 (nI (recN rc))) 11 0) j)), (b 1, .inl (1, 111, .inr (.inl r))), (b 6, .inl (1, 1110, .inr (.inl (recH hy r rc))))]) (fun _ _ => False) := by
  intro V hV
  refine xMet_of RX6 hG rfl (by decide) (Nat.le_of_ble_eq_true rfl) fun C hC hQ hX hl hg _ => ?_
  subst hl hg
  obtain ⟨V0, hV0⟩ : ∃ V0, V0 = V := ⟨_, rfl⟩
  obtain ⟨F, hF⟩ : ∃ F, F = xF [(b 0, .inr (5, mF b i j)), (b 1, .inl (1, 111, .inr (.inl r))), (b 6, .inl (1, 1110, .inr (.inl hy)))] := ⟨_, rfl⟩
  refine rn.mono (J := xSt F V0 [(b 0, .inr (5, mF b i j)), (b 1, .inl (1, 111, .inr (.inl r))), (b 6, .inl (1, 1110, .inr (.inl hy)))]) (fun V9 h => by rw [h, hV0, hF]; exact hV.st) ?_
  show rn C (xSt F V0 [(b 0, .inr (5, mF b i j)), (b 1, .inl (1, 111, .inr (.inl r))), (b 6, .inl (1, 1110, .inr (.inl hy)))]) 0 0 0 [(0, .ref (b 0))] []
  refine r_aload_n hC 0 dX6_begins_0 rfl 1 rfl ?_
  refine r_invVw hC kX6 (b 0) [] [] mVX6_records q3066 0 rfl (metX6_rec _ _ hG b i _ _ _ rc hrc (hi)) [0, 1, 2] [] rfl rfl rfl rfl (by decide) ⟨rfl, rfl⟩ 0 0 rfl rfl (Nat.le_of_ble_eq_true rfl) (Nat.le_of_ble_eq_true rfl) rfl (Nat.le_of_ble_eq_true rfl) dX6_begins_1 4 rfl (fun v1 w2 h3 => ?_) (fun _ _ h => h.elim)
  obtain ⟨rfl, rfl⟩ := h3
  show rn C (xSt F V0 [(b 0, .inr (5, mF b (va_up i 10 (nI (recN rc))) j)), (b 1, .inl (1, 111, .inr (.inl r))), (b 6, .inl (1, 1110, .inr (.inl (recH hy r rc))))]) 0 0 4 [(0, .ref (b 0))] []
  refine r_aload_n hC 0 dX6_begins_4 rfl 5 rfl ?_
  refine r_iconst hC 0 dX6_begins_5 ic_0 6 rfl ?_
  refine r_put (J := xSt F V0 [(b 0, .inr (5, mF b (va_up (va_up i 10 (nI (recN rc))) 11 0) j)), (b 1, .inl (1, 111, .inr (.inl r))), (b 6, .inl (1, 1110, .inr (.inl (recH hy r rc))))]) hC kX6 11 rfl q2764 rfl (fun _ h => h.get 0 rfl) (Nat.le_of_ble_eq_true rfl) rfl rfl dX6_begins_6 (fun _ h => h.set 0 _ rfl) 9 rfl ?_
  exact r_vret hC (Nat.le_of_ble_eq_true rfl) (Nat.le_of_ble_eq_true rfl) (fun V9 h => hQ _ _ ⟨[(b 0, .inr (5, mF b (va_up (va_up i 10 (nI (recN rc))) 11 0) j)), (b 1, .inl (1, 111, .inr (.inl r))), (b 6, .inl (1, 1110, .inr (.inl (recH hy r rc))))], ⟨rfl, rfl⟩, by rw [← hV0, ← hF]; exact h⟩) dX6_begins_9
set_option maxHeartbeats 4000000 in
set_option maxRecDepth 100000 in
theorem metX6_setSchemeG (l : Launch) (G : xG) (hG : xGood G) (b : Nat → Nat) (i : Nat → Int32) (j : Nat → Int64) (r hy : Nat → Int64) (rc : Nat) (hrc : rc ≤ 10) (hi : i 10 = nI rc) (p : Nat) (hp : p < 3) : xWm l G yX6_setScheme (Cond.code yX6_setScheme cX6_setScheme 3 (some .int)) { frames := 2, locals := 41, cells := 0, slots := 0 } [.ref (b 0), .int (nI p)] [(b 0, .inr (5, mF b i j)), (b 1, .inl (1, 111, .inr (.inl r))), (b 6, .inl (1, 1110, .inr (.inl hy)))] (fun v w' => v = some (.int ((r 1).toInt32)) ∧ w' = [(b 0, .inr (5, mF b (va_up (va_up (va_up i 0 0) 10 (nI (recN rc))) 11 0) j)), (b 1, .inl (1, 111, .inr (.inl (va_up r 1 (nI p).toInt64)))), (b 6, .inl (1, 1110, .inr (.inl (recH hy r rc))))]) (fun _ _ => False) := by
  intro V hV
  refine xMet_of RX6 hG rfl (by decide) (Nat.le_of_ble_eq_true rfl) fun C hC hQ hX hl hg _ => ?_
  subst hl hg
  obtain ⟨V0, hV0⟩ : ∃ V0, V0 = V := ⟨_, rfl⟩
  obtain ⟨F, hF⟩ : ∃ F, F = xF [(b 0, .inr (5, mF b i j)), (b 1, .inl (1, 111, .inr (.inl r))), (b 6, .inl (1, 1110, .inr (.inl hy)))] := ⟨_, rfl⟩
  refine rn.mono (J := xSt F V0 [(b 0, .inr (5, mF b i j)), (b 1, .inl (1, 111, .inr (.inl r))), (b 6, .inl (1, 1110, .inr (.inl hy)))]) (fun V9 h => by rw [h, hV0, hF]; exact hV.st) ?_
  show rn C (xSt F V0 [(b 0, .inr (5, mF b i j)), (b 1, .inl (1, 111, .inr (.inl r))), (b 6, .inl (1, 1110, .inr (.inl hy)))]) 0 0 0 [(0, .ref (b 0)), (1, .int (nI p))] []
  refine r_aload_n hC 0 dX6_setScheme_0 rfl 1 rfl ?_
  refine r_iconst hC 0 dX6_setScheme_1 ic_0 2 rfl ?_
  refine r_put (J := xSt F V0 [(b 0, .inr (5, mF b (va_up i 0 0) j)), (b 1, .inl (1, 111, .inr (.inl r))), (b 6, .inl (1, 1110, .inr (.inl hy)))]) hC kX6 0 rfl q2753 rfl (fun _ h => h.get 0 rfl) (Nat.le_of_ble_eq_true rfl) rfl rfl dX6_setScheme_2 (fun _ h => h.set 0 _ rfl) 5 rfl ?_
  refine r_aload_n hC 0 dX6_setScheme_5 rfl 6 rfl ?_
  refine r_iload_n hC 1 dX6_setScheme_6 rfl 7 rfl ?_
  refine r_i2l hC ((nI p).toInt64) dX6_setScheme_7 (rfl) 8 rfl ?_
  refine r_lconst hC 0 dX6_setScheme_8 lc_0 9 rfl ?_
  refine r_ldc2 hC q2728 dX6_setScheme_9 12 rfl ?_
  refine r_invSr hC [.long ((nI p).toInt64), .long 0, .long 2] (.int 1) mSX6_in q2891 (metX6_inB _ _ hG ((nI p).toInt64) 0 2 1 (in_n (N := 2) (by omega) rfl (by decide))) (fun _ _ => xIn.nil) ⟨rfl, rfl⟩ 0 0 rfl rfl (Nat.le_of_ble_eq_true rfl) (Nat.le_of_ble_eq_true rfl) rfl (Nat.le_of_ble_eq_true rfl) dX6_setScheme_12 15 rfl ?_
  refine r_iconst hC 1 dX6_setScheme_15 ic_1 16 rfl ?_
  refine r_invVr hC kX6 (b 0) [.int 1, .int 1] (.int 0) mVX6_fails q2894 (fun _ h => h.get 0 rfl) (metX6_fails1 _ _ hG b _ _ 1) (fun _ h => h.in.sub [0] rfl rfl) ⟨rfl, rfl⟩ 0 0 rfl rfl (Nat.le_of_ble_eq_true rfl) (Nat.le_of_ble_eq_true rfl) rfl (Nat.le_of_ble_eq_true rfl) dX6_setScheme_16 19 rfl ?_
  refine r_ifeq hC 24 dX6_setScheme_19 (by decide) 22 rfl (fun _ => ?_) (fun h => absurd h (by decide))
  refine r_aload_n hC 0 dX6_setScheme_24 rfl 25 rfl ?_
  refine r_invVw hC kX6 (b 0) [] [] mVX6_begins q3114 0 rfl (metX6_begins _ _ hG b (va_up i 0 0) _ _ _ rc hrc (show (va_up i 0 0) 10 = nI rc from hi)) [0, 1, 2] [] rfl rfl rfl rfl (by decide) ⟨rfl, rfl⟩ 0 0 rfl rfl (Nat.le_of_ble_eq_true rfl) (Nat.le_of_ble_eq_true rfl) rfl (Nat.le_of_ble_eq_true rfl) dX6_setScheme_25 28 rfl (fun v1 w2 h3 => ?_) (fun _ _ h => h.elim)
  obtain ⟨rfl, rfl⟩ := h3
  show rn C (xSt F V0 [(b 0, .inr (5, mF b (va_up (va_up (va_up i 0 0) 10 (nI (recN rc))) 11 0) j)), (b 1, .inl (1, 111, .inr (.inl r))), (b 6, .inl (1, 1110, .inr (.inl (recH hy r rc))))]) 0 0 28 [(0, .ref (b 0)), (1, .int (nI p))] []
  refine r_aload_n hC 0 dX6_setScheme_28 rfl 29 rfl ?_
  refine r_get (v := .ref (b 1)) hC kX6 1 rfl q2754 (fun _ h => h.get 0 rfl) rfl dX6_setScheme_29 32 rfl ?_
  refine r_iconst hC 1 dX6_setScheme_32 ic_1 33 rfl ?_
  refine r_lald hC 1 (xix_n 1 (Nat.le_of_ble_eq_true rfl) (Nat.le_of_ble_eq_true rfl)) (fun _ h => h.get 1 rfl) (r 1) (rfl) dX6_setScheme_33 34 rfl ?_
  refine r_l2i hC ((r 1).toInt32) dX6_setScheme_34 (rfl) 35 rfl ?_
  refine r_istore_n hC 2 [(2, .int ((r 1).toInt32)), (0, .ref (b 0)), (1, .int (nI p))] dX6_setScheme_35 rfl (Nat.le_of_ble_eq_true rfl) rfl 36 rfl ?_
  refine r_aload_n hC 1 dX6_setScheme_36 rfl 37 rfl ?_
  refine r_get (v := .ref (b 1)) hC kX6 1 rfl q2754 (fun _ h => h.get 0 rfl) rfl dX6_setScheme_37 40 rfl ?_
  refine r_iconst hC 1 dX6_setScheme_40 ic_1 41 rfl ?_
  refine r_iload_n hC 2 dX6_setScheme_41 rfl 42 rfl ?_
  refine r_i2l hC ((nI p).toInt64) dX6_setScheme_42 (rfl) 43 rfl ?_
  refine r_last (J := xSt F V0 [(b 0, .inr (5, mF b (va_up (va_up (va_up i 0 0) 10 (nI (recN rc))) 11 0) j)), (b 1, .inl (1, 111, .inr (.inl (va_up r 1 ((nI p).toInt64))))), (b 6, .inl (1, 1110, .inr (.inl (recH hy r rc))))]) hC 1 (xix_n 1 (Nat.le_of_ble_eq_true rfl) (Nat.le_of_ble_eq_true rfl)) (fun _ h => h.get 1 rfl) dX6_setScheme_43 (fun _ h => h.set 1 _ rfl) 44 rfl ?_
  generalize hu4 : va_up r 1 ((nI p).toInt64) = u4
  refine r_iload_n hC 0 dX6_setScheme_44 rfl 45 rfl ?_
  subst hu4
  exact r_iret hC (Nat.le_of_ble_eq_true rfl) (Nat.le_of_ble_eq_true rfl) (fun V9 h => hQ _ _ ⟨[(b 0, .inr (5, mF b (va_up (va_up (va_up i 0 0) 10 (nI (recN rc))) 11 0) j)), (b 1, .inl (1, 111, .inr (.inl (va_up r 1 ((nI p).toInt64))))), (b 6, .inl (1, 1110, .inr (.inl (recH hy r rc))))], ⟨rfl, by simp only [bx_uu]⟩, by rw [← hV0, ← hF]; exact h⟩) dX6_setScheme_45
set_option maxHeartbeats 4000000 in
set_option maxRecDepth 100000 in
theorem metX6_setSchemeB (l : Launch) (G : xG) (hG : xGood G) (b : Nat → Nat) (i : Nat → Int32) (j : Nat → Int64) (r hy : Nat → Int64) (x : Int32) (hx : bI (m_in x.toInt64 0 2) = 0) : xWm l G yX6_setScheme (Cond.code yX6_setScheme cX6_setScheme 3 (some .int)) { frames := 1, locals := 25, cells := 0, slots := 0 } [.ref (b 0), .int x] [(b 0, .inr (5, mF b i j)), (b 1, .inl (1, 111, .inr (.inl r))), (b 6, .inl (1, 1110, .inr (.inl hy)))] (fun v w' => v = some (.int 0) ∧ w' = [(b 0, .inr (5, mF b (va_up i 0 1) j)), (b 1, .inl (1, 111, .inr (.inl r))), (b 6, .inl (1, 1110, .inr (.inl hy)))]) (fun _ _ => False) := by
  intro V hV
  refine xMet_of RX6 hG rfl (by decide) (Nat.le_of_ble_eq_true rfl) fun C hC hQ hX hl hg _ => ?_
  subst hl hg
  obtain ⟨V0, hV0⟩ : ∃ V0, V0 = V := ⟨_, rfl⟩
  obtain ⟨F, hF⟩ : ∃ F, F = xF [(b 0, .inr (5, mF b i j)), (b 1, .inl (1, 111, .inr (.inl r))), (b 6, .inl (1, 1110, .inr (.inl hy)))] := ⟨_, rfl⟩
  refine rn.mono (J := xSt F V0 [(b 0, .inr (5, mF b i j)), (b 1, .inl (1, 111, .inr (.inl r))), (b 6, .inl (1, 1110, .inr (.inl hy)))]) (fun V9 h => by rw [h, hV0, hF]; exact hV.st) ?_
  show rn C (xSt F V0 [(b 0, .inr (5, mF b i j)), (b 1, .inl (1, 111, .inr (.inl r))), (b 6, .inl (1, 1110, .inr (.inl hy)))]) 0 0 0 [(0, .ref (b 0)), (1, .int x)] []
  refine r_aload_n hC 0 dX6_setScheme_0 rfl 1 rfl ?_
  refine r_iconst hC 0 dX6_setScheme_1 ic_0 2 rfl ?_
  refine r_put (J := xSt F V0 [(b 0, .inr (5, mF b (va_up i 0 0) j)), (b 1, .inl (1, 111, .inr (.inl r))), (b 6, .inl (1, 1110, .inr (.inl hy)))]) hC kX6 0 rfl q2753 rfl (fun _ h => h.get 0 rfl) (Nat.le_of_ble_eq_true rfl) rfl rfl dX6_setScheme_2 (fun _ h => h.set 0 _ rfl) 5 rfl ?_
  refine r_aload_n hC 0 dX6_setScheme_5 rfl 6 rfl ?_
  refine r_iload_n hC 1 dX6_setScheme_6 rfl 7 rfl ?_
  refine r_i2l hC x.toInt64 dX6_setScheme_7 (rfl) 8 rfl ?_
  refine r_lconst hC 0 dX6_setScheme_8 lc_0 9 rfl ?_
  refine r_ldc2 hC q2728 dX6_setScheme_9 12 rfl ?_
  refine r_invSr hC [.long x.toInt64, .long 0, .long 2] (.int 0) mSX6_in q2891 (metX6_inB _ _ hG x.toInt64 0 2 0 (hx)) (fun _ _ => xIn.nil) ⟨rfl, rfl⟩ 0 0 rfl rfl (Nat.le_of_ble_eq_true rfl) (Nat.le_of_ble_eq_true rfl) rfl (Nat.le_of_ble_eq_true rfl) dX6_setScheme_12 15 rfl ?_
  refine r_iconst hC 1 dX6_setScheme_15 ic_1 16 rfl ?_
  refine r_invVw hC kX6 (b 0) [.int 0, .int 1] [(b 1, .inl (1, 111, .inr (.inl r))), (b 6, .inl (1, 1110, .inr (.inl hy)))] mVX6_fails q2894 0 rfl (metX6_fails0 _ _ hG b _ _ 1) [0] [1, 2] rfl rfl rfl rfl (by decide) ⟨rfl, rfl⟩ 0 0 rfl rfl (Nat.le_of_ble_eq_true rfl) (Nat.le_of_ble_eq_true rfl) rfl (Nat.le_of_ble_eq_true rfl) dX6_setScheme_16 19 rfl (fun v1 w2 h3 => ?_) (fun _ _ h => h.elim)
  obtain ⟨rfl, rfl⟩ := h3
  show rn C (xSt F V0 [(b 1, .inl (1, 111, .inr (.inl r))), (b 6, .inl (1, 1110, .inr (.inl hy))), (b 0, .inr (5, mF b (va_up (va_up i 0 0) 0 1) j))]) 0 0 19 [(0, .ref (b 0)), (1, .int x)] [.int 1]
  refine r_ifeq hC 24 dX6_setScheme_19 (by decide) 22 rfl (fun h => absurd h (by decide)) (fun _ => ?_)
  refine r_iconst hC 0 dX6_setScheme_22 ic_0 23 rfl ?_
  exact r_iret hC (Nat.le_of_ble_eq_true rfl) (Nat.le_of_ble_eq_true rfl) (fun V9 h => hQ _ _ ⟨[(b 0, .inr (5, mF b (va_up (va_up i 0 0) 0 1) j)), (b 1, .inl (1, 111, .inr (.inl r))), (b 6, .inl (1, 1110, .inr (.inl hy)))], ⟨rfl, by simp only [bx_uu]⟩, by rw [← hV0, ← hF]; exact (h.sub [2, 0, 1] rfl rfl)⟩) dX6_setScheme_23
set_option maxHeartbeats 4000000 in
set_option maxRecDepth 100000 in
theorem metX6_reverse (l : Launch) (G : xG) (hG : xGood G) (b : Nat → Nat) (i : Nat → Int32) (j : Nat → Int64) (r hy : Nat → Int64) (rc : Nat) (hrc : rc ≤ 10) (hi : i 10 = nI rc) : xWm l G yX6_reverse (Cond.code yX6_reverse cX6_reverse 2 none) { frames := 2, locals := 41, cells := 0, slots := 0 } [.ref (b 0)] [(b 0, .inr (5, mF b i j)), (b 1, .inl (1, 111, .inr (.inl r))), (b 6, .inl (1, 1110, .inr (.inl hy)))] (fun v w' => v = none ∧ w' = [(b 0, .inr (5, mF b (va_up (va_up (va_up i 0 0) 10 (nI (recN rc))) 11 0) j)), (b 1, .inl (1, 111, .inr (.inl (va_up (va_up (va_up (va_up (va_up (va_up r 9 (-r 9)) 10 (-r 10)) 14 (-r 14)) 15 (-r 15)) 19 (-r 19)) 20 (-r 20))))), (b 6, .inl (1, 1110, .inr (.inl (recH hy r rc))))]) (fun _ _ => False) := by
  intro V hV
  refine xMet_of RX6 hG rfl (by decide) (Nat.le_of_ble_eq_true rfl) fun C hC hQ hX hl hg _ => ?_
  subst hl hg
  obtain ⟨V0, hV0⟩ : ∃ V0, V0 = V := ⟨_, rfl⟩
  obtain ⟨F, hF⟩ : ∃ F, F = xF [(b 0, .inr (5, mF b i j)), (b 1, .inl (1, 111, .inr (.inl r))), (b 6, .inl (1, 1110, .inr (.inl hy)))] := ⟨_, rfl⟩
  refine rn.mono (J := xSt F V0 [(b 0, .inr (5, mF b i j)), (b 1, .inl (1, 111, .inr (.inl r))), (b 6, .inl (1, 1110, .inr (.inl hy)))]) (fun V9 h => by rw [h, hV0, hF]; exact hV.st) ?_
  show rn C (xSt F V0 [(b 0, .inr (5, mF b i j)), (b 1, .inl (1, 111, .inr (.inl r))), (b 6, .inl (1, 1110, .inr (.inl hy)))]) 0 0 0 [(0, .ref (b 0))] []
  refine r_aload_n hC 0 dX6_reverse_0 rfl 1 rfl ?_
  refine r_iconst hC 0 dX6_reverse_1 ic_0 2 rfl ?_
  refine r_put (J := xSt F V0 [(b 0, .inr (5, mF b (va_up i 0 0) j)), (b 1, .inl (1, 111, .inr (.inl r))), (b 6, .inl (1, 1110, .inr (.inl hy)))]) hC kX6 0 rfl q2753 rfl (fun _ h => h.get 0 rfl) (Nat.le_of_ble_eq_true rfl) rfl rfl dX6_reverse_2 (fun _ h => h.set 0 _ rfl) 5 rfl ?_
  refine r_aload_n hC 0 dX6_reverse_5 rfl 6 rfl ?_
  refine r_invVw hC kX6 (b 0) [] [] mVX6_begins q3114 0 rfl (metX6_begins _ _ hG b (va_up i 0 0) _ _ _ rc hrc (show (va_up i 0 0) 10 = nI rc from hi)) [0, 1, 2] [] rfl rfl rfl rfl (by decide) ⟨rfl, rfl⟩ 0 0 rfl rfl (Nat.le_of_ble_eq_true rfl) (Nat.le_of_ble_eq_true rfl) rfl (Nat.le_of_ble_eq_true rfl) dX6_reverse_6 9 rfl (fun v1 w2 h3 => ?_) (fun _ _ h => h.elim)
  obtain ⟨rfl, rfl⟩ := h3
  show rn C (xSt F V0 [(b 0, .inr (5, mF b (va_up (va_up (va_up i 0 0) 10 (nI (recN rc))) 11 0) j)), (b 1, .inl (1, 111, .inr (.inl r))), (b 6, .inl (1, 1110, .inr (.inl (recH hy r rc))))]) 0 0 9 [(0, .ref (b 0))] []
  refine r_iconst hC 0 dX6_reverse_9 ic_0 10 rfl ?_
  refine r_istore_n hC 1 [(1, .int 0), (0, .ref (b 0))] dX6_reverse_10 rfl (Nat.le_of_ble_eq_true rfl) rfl 11 rfl ?_
  refine r_iload_n hC 0 dX6_reverse_11 rfl 12 rfl ?_
  refine r_iconst hC 3 dX6_reverse_12 ic_3 13 rfl ?_
  refine r_icge hC 64 dX6_reverse_13 (by decide) 16 rfl (fun h => absurd h (by decide)) (fun _ => ?_)
  refine r_aload_n hC 1 dX6_reverse_16 rfl 17 rfl ?_
  refine r_get (v := .ref (b 1)) hC kX6 1 rfl q2754 (fun _ h => h.get 0 rfl) rfl dX6_reverse_17 20 rfl ?_
  refine r_iload_n hC 0 dX6_reverse_20 rfl 21 rfl ?_
  refine r_iconst hC 3 dX6_reverse_21 ic_3 22 rfl ?_
  refine r_invSr hC [.int 0, .int 3] (.int 9) mSX6_at q2711 (metX6_at _ _ hG 0 3) (fun _ _ => xIn.nil) ⟨rfl, rfl⟩ 0 0 rfl rfl (Nat.le_of_ble_eq_true rfl) (Nat.le_of_ble_eq_true rfl) rfl (Nat.le_of_ble_eq_true rfl) dX6_reverse_22 25 rfl ?_
  refine r_aload_n hC 1 dX6_reverse_25 rfl 26 rfl ?_
  refine r_get (v := .ref (b 1)) hC kX6 1 rfl q2754 (fun _ h => h.get 0 rfl) rfl dX6_reverse_26 29 rfl ?_
  refine r_iload_n hC 0 dX6_reverse_29 rfl 30 rfl ?_
  refine r_iconst hC 3 dX6_reverse_30 ic_3 31 rfl ?_
  refine r_invSr hC [.int 0, .int 3] (.int 9) mSX6_at q2711 (metX6_at _ _ hG 0 3) (fun _ _ => xIn.nil) ⟨rfl, rfl⟩ 0 0 rfl rfl (Nat.le_of_ble_eq_true rfl) (Nat.le_of_ble_eq_true rfl) rfl (Nat.le_of_ble_eq_true rfl) dX6_reverse_31 34 rfl ?_
  refine r_lald hC 9 (xix_n 9 (Nat.le_of_ble_eq_true rfl) (Nat.le_of_ble_eq_true rfl)) (fun _ h => h.get 1 rfl) (r 9) (rfl) dX6_reverse_34 35 rfl ?_
  refine r_lneg hC (-(r 9)) dX6_reverse_35 (rfl) 36 rfl ?_
  refine r_last (J := xSt F V0 [(b 0, .inr (5, mF b (va_up (va_up (va_up i 0 0) 10 (nI (recN rc))) 11 0) j)), (b 1, .inl (1, 111, .inr (.inl (va_up r 9 (-(r 9)))))), (b 6, .inl (1, 1110, .inr (.inl (recH hy r rc))))]) hC 9 (xix_n 9 (Nat.le_of_ble_eq_true rfl) (Nat.le_of_ble_eq_true rfl)) (fun _ h => h.get 1 rfl) dX6_reverse_36 (fun _ h => h.set 1 _ rfl) 37 rfl ?_
  generalize hu4 : va_up r 9 (-(r 9)) = u4
  refine r_aload_n hC 1 dX6_reverse_37 rfl 38 rfl ?_
  refine r_get (v := .ref (b 1)) hC kX6 1 rfl q2754 (fun _ h => h.get 0 rfl) rfl dX6_reverse_38 41 rfl ?_
  refine r_iload_n hC 0 dX6_reverse_41 rfl 42 rfl ?_
  refine r_iconst hC 4 dX6_reverse_42 ic_4 43 rfl ?_
  refine r_invSr hC [.int 0, .int 4] (.int 10) mSX6_at q2711 (metX6_at _ _ hG 0 4) (fun _ _ => xIn.nil) ⟨rfl, rfl⟩ 0 0 rfl rfl (Nat.le_of_ble_eq_true rfl) (Nat.le_of_ble_eq_true rfl) rfl (Nat.le_of_ble_eq_true rfl) dX6_reverse_43 46 rfl ?_
  refine r_aload_n hC 1 dX6_reverse_46 rfl 47 rfl ?_
  refine r_get (v := .ref (b 1)) hC kX6 1 rfl q2754 (fun _ h => h.get 0 rfl) rfl dX6_reverse_47 50 rfl ?_
  refine r_iload_n hC 0 dX6_reverse_50 rfl 51 rfl ?_
  refine r_iconst hC 4 dX6_reverse_51 ic_4 52 rfl ?_
  refine r_invSr hC [.int 0, .int 4] (.int 10) mSX6_at q2711 (metX6_at _ _ hG 0 4) (fun _ _ => xIn.nil) ⟨rfl, rfl⟩ 0 0 rfl rfl (Nat.le_of_ble_eq_true rfl) (Nat.le_of_ble_eq_true rfl) rfl (Nat.le_of_ble_eq_true rfl) dX6_reverse_52 55 rfl ?_
  refine r_lald hC 10 (xix_n 10 (Nat.le_of_ble_eq_true rfl) (Nat.le_of_ble_eq_true rfl)) (fun _ h => h.get 1 rfl) (r 10) (by rw [← hu4]; rfl) dX6_reverse_55 56 rfl ?_
  refine r_lneg hC (-(r 10)) dX6_reverse_56 (rfl) 57 rfl ?_
  refine r_last (J := xSt F V0 [(b 0, .inr (5, mF b (va_up (va_up (va_up i 0 0) 10 (nI (recN rc))) 11 0) j)), (b 1, .inl (1, 111, .inr (.inl (va_up u4 10 (-(r 10)))))), (b 6, .inl (1, 1110, .inr (.inl (recH hy r rc))))]) hC 10 (xix_n 10 (Nat.le_of_ble_eq_true rfl) (Nat.le_of_ble_eq_true rfl)) (fun _ h => h.get 1 rfl) dX6_reverse_57 (fun _ h => h.set 1 _ rfl) 58 rfl ?_
  generalize hu5 : va_up u4 10 (-(r 10)) = u5
  refine r_iinc hC 1 1 0 [(1, .int 1), (0, .ref (b 0))] dX6_reverse_58 rfl (by decide) (Nat.le_of_ble_eq_true rfl) rfl 61 rfl ?_
  refine r_goto hC 11 dX6_reverse_61 (by decide) ?_
  refine r_iload_n hC 0 dX6_reverse_11 rfl 12 rfl ?_
  refine r_iconst hC 3 dX6_reverse_12 ic_3 13 rfl ?_
  refine r_icge hC 64 dX6_reverse_13 (by decide) 16 rfl (fun h => absurd h (by decide)) (fun _ => ?_)
  refine r_aload_n hC 1 dX6_reverse_16 rfl 17 rfl ?_
  refine r_get (v := .ref (b 1)) hC kX6 1 rfl q2754 (fun _ h => h.get 0 rfl) rfl dX6_reverse_17 20 rfl ?_
  refine r_iload_n hC 0 dX6_reverse_20 rfl 21 rfl ?_
  refine r_iconst hC 3 dX6_reverse_21 ic_3 22 rfl ?_
  refine r_invSr hC [.int 1, .int 3] (.int 14) mSX6_at q2711 (metX6_at _ _ hG 1 3) (fun _ _ => xIn.nil) ⟨rfl, rfl⟩ 0 0 rfl rfl (Nat.le_of_ble_eq_true rfl) (Nat.le_of_ble_eq_true rfl) rfl (Nat.le_of_ble_eq_true rfl) dX6_reverse_22 25 rfl ?_
  refine r_aload_n hC 1 dX6_reverse_25 rfl 26 rfl ?_
  refine r_get (v := .ref (b 1)) hC kX6 1 rfl q2754 (fun _ h => h.get 0 rfl) rfl dX6_reverse_26 29 rfl ?_
  refine r_iload_n hC 0 dX6_reverse_29 rfl 30 rfl ?_
  refine r_iconst hC 3 dX6_reverse_30 ic_3 31 rfl ?_
  refine r_invSr hC [.int 1, .int 3] (.int 14) mSX6_at q2711 (metX6_at _ _ hG 1 3) (fun _ _ => xIn.nil) ⟨rfl, rfl⟩ 0 0 rfl rfl (Nat.le_of_ble_eq_true rfl) (Nat.le_of_ble_eq_true rfl) rfl (Nat.le_of_ble_eq_true rfl) dX6_reverse_31 34 rfl ?_
  refine r_lald hC 14 (xix_n 14 (Nat.le_of_ble_eq_true rfl) (Nat.le_of_ble_eq_true rfl)) (fun _ h => h.get 1 rfl) (r 14) (by rw [← hu5, ← hu4]; rfl) dX6_reverse_34 35 rfl ?_
  refine r_lneg hC (-(r 14)) dX6_reverse_35 (rfl) 36 rfl ?_
  refine r_last (J := xSt F V0 [(b 0, .inr (5, mF b (va_up (va_up (va_up i 0 0) 10 (nI (recN rc))) 11 0) j)), (b 1, .inl (1, 111, .inr (.inl (va_up u5 14 (-(r 14)))))), (b 6, .inl (1, 1110, .inr (.inl (recH hy r rc))))]) hC 14 (xix_n 14 (Nat.le_of_ble_eq_true rfl) (Nat.le_of_ble_eq_true rfl)) (fun _ h => h.get 1 rfl) dX6_reverse_36 (fun _ h => h.set 1 _ rfl) 37 rfl ?_
  generalize hu6 : va_up u5 14 (-(r 14)) = u6
  refine r_aload_n hC 1 dX6_reverse_37 rfl 38 rfl ?_
  refine r_get (v := .ref (b 1)) hC kX6 1 rfl q2754 (fun _ h => h.get 0 rfl) rfl dX6_reverse_38 41 rfl ?_
  refine r_iload_n hC 0 dX6_reverse_41 rfl 42 rfl ?_
  refine r_iconst hC 4 dX6_reverse_42 ic_4 43 rfl ?_
  refine r_invSr hC [.int 1, .int 4] (.int 15) mSX6_at q2711 (metX6_at _ _ hG 1 4) (fun _ _ => xIn.nil) ⟨rfl, rfl⟩ 0 0 rfl rfl (Nat.le_of_ble_eq_true rfl) (Nat.le_of_ble_eq_true rfl) rfl (Nat.le_of_ble_eq_true rfl) dX6_reverse_43 46 rfl ?_
  refine r_aload_n hC 1 dX6_reverse_46 rfl 47 rfl ?_
  refine r_get (v := .ref (b 1)) hC kX6 1 rfl q2754 (fun _ h => h.get 0 rfl) rfl dX6_reverse_47 50 rfl ?_
  refine r_iload_n hC 0 dX6_reverse_50 rfl 51 rfl ?_
  refine r_iconst hC 4 dX6_reverse_51 ic_4 52 rfl ?_
  refine r_invSr hC [.int 1, .int 4] (.int 15) mSX6_at q2711 (metX6_at _ _ hG 1 4) (fun _ _ => xIn.nil) ⟨rfl, rfl⟩ 0 0 rfl rfl (Nat.le_of_ble_eq_true rfl) (Nat.le_of_ble_eq_true rfl) rfl (Nat.le_of_ble_eq_true rfl) dX6_reverse_52 55 rfl ?_
  refine r_lald hC 15 (xix_n 15 (Nat.le_of_ble_eq_true rfl) (Nat.le_of_ble_eq_true rfl)) (fun _ h => h.get 1 rfl) (r 15) (by rw [← hu6, ← hu5, ← hu4]; rfl) dX6_reverse_55 56 rfl ?_
  refine r_lneg hC (-(r 15)) dX6_reverse_56 (rfl) 57 rfl ?_
  refine r_last (J := xSt F V0 [(b 0, .inr (5, mF b (va_up (va_up (va_up i 0 0) 10 (nI (recN rc))) 11 0) j)), (b 1, .inl (1, 111, .inr (.inl (va_up u6 15 (-(r 15)))))), (b 6, .inl (1, 1110, .inr (.inl (recH hy r rc))))]) hC 15 (xix_n 15 (Nat.le_of_ble_eq_true rfl) (Nat.le_of_ble_eq_true rfl)) (fun _ h => h.get 1 rfl) dX6_reverse_57 (fun _ h => h.set 1 _ rfl) 58 rfl ?_
  generalize hu7 : va_up u6 15 (-(r 15)) = u7
  refine r_iinc hC 2 1 0 [(1, .int 2), (0, .ref (b 0))] dX6_reverse_58 rfl (by decide) (Nat.le_of_ble_eq_true rfl) rfl 61 rfl ?_
  refine r_goto hC 11 dX6_reverse_61 (by decide) ?_
  refine r_iload_n hC 0 dX6_reverse_11 rfl 12 rfl ?_
  refine r_iconst hC 3 dX6_reverse_12 ic_3 13 rfl ?_
  refine r_icge hC 64 dX6_reverse_13 (by decide) 16 rfl (fun h => absurd h (by decide)) (fun _ => ?_)
  refine r_aload_n hC 1 dX6_reverse_16 rfl 17 rfl ?_
  refine r_get (v := .ref (b 1)) hC kX6 1 rfl q2754 (fun _ h => h.get 0 rfl) rfl dX6_reverse_17 20 rfl ?_
  refine r_iload_n hC 0 dX6_reverse_20 rfl 21 rfl ?_
  refine r_iconst hC 3 dX6_reverse_21 ic_3 22 rfl ?_
  refine r_invSr hC [.int 2, .int 3] (.int 19) mSX6_at q2711 (metX6_at _ _ hG 2 3) (fun _ _ => xIn.nil) ⟨rfl, rfl⟩ 0 0 rfl rfl (Nat.le_of_ble_eq_true rfl) (Nat.le_of_ble_eq_true rfl) rfl (Nat.le_of_ble_eq_true rfl) dX6_reverse_22 25 rfl ?_
  refine r_aload_n hC 1 dX6_reverse_25 rfl 26 rfl ?_
  refine r_get (v := .ref (b 1)) hC kX6 1 rfl q2754 (fun _ h => h.get 0 rfl) rfl dX6_reverse_26 29 rfl ?_
  refine r_iload_n hC 0 dX6_reverse_29 rfl 30 rfl ?_
  refine r_iconst hC 3 dX6_reverse_30 ic_3 31 rfl ?_
  refine r_invSr hC [.int 2, .int 3] (.int 19) mSX6_at q2711 (metX6_at _ _ hG 2 3) (fun _ _ => xIn.nil) ⟨rfl, rfl⟩ 0 0 rfl rfl (Nat.le_of_ble_eq_true rfl) (Nat.le_of_ble_eq_true rfl) rfl (Nat.le_of_ble_eq_true rfl) dX6_reverse_31 34 rfl ?_
  refine r_lald hC 19 (xix_n 19 (Nat.le_of_ble_eq_true rfl) (Nat.le_of_ble_eq_true rfl)) (fun _ h => h.get 1 rfl) (r 19) (by rw [← hu7, ← hu6, ← hu5, ← hu4]; rfl) dX6_reverse_34 35 rfl ?_
  refine r_lneg hC (-(r 19)) dX6_reverse_35 (rfl) 36 rfl ?_
  refine r_last (J := xSt F V0 [(b 0, .inr (5, mF b (va_up (va_up (va_up i 0 0) 10 (nI (recN rc))) 11 0) j)), (b 1, .inl (1, 111, .inr (.inl (va_up u7 19 (-(r 19)))))), (b 6, .inl (1, 1110, .inr (.inl (recH hy r rc))))]) hC 19 (xix_n 19 (Nat.le_of_ble_eq_true rfl) (Nat.le_of_ble_eq_true rfl)) (fun _ h => h.get 1 rfl) dX6_reverse_36 (fun _ h => h.set 1 _ rfl) 37 rfl ?_
  generalize hu8 : va_up u7 19 (-(r 19)) = u8
  refine r_aload_n hC 1 dX6_reverse_37 rfl 38 rfl ?_
  refine r_get (v := .ref (b 1)) hC kX6 1 rfl q2754 (fun _ h => h.get 0 rfl) rfl dX6_reverse_38 41 rfl ?_
  refine r_iload_n hC 0 dX6_reverse_41 rfl 42 rfl ?_
  refine r_iconst hC 4 dX6_reverse_42 ic_4 43 rfl ?_
  refine r_invSr hC [.int 2, .int 4] (.int 20) mSX6_at q2711 (metX6_at _ _ hG 2 4) (fun _ _ => xIn.nil) ⟨rfl, rfl⟩ 0 0 rfl rfl (Nat.le_of_ble_eq_true rfl) (Nat.le_of_ble_eq_true rfl) rfl (Nat.le_of_ble_eq_true rfl) dX6_reverse_43 46 rfl ?_
  refine r_aload_n hC 1 dX6_reverse_46 rfl 47 rfl ?_
  refine r_get (v := .ref (b 1)) hC kX6 1 rfl q2754 (fun _ h => h.get 0 rfl) rfl dX6_reverse_47 50 rfl ?_
  refine r_iload_n hC 0 dX6_reverse_50 rfl 51 rfl ?_
  refine r_iconst hC 4 dX6_reverse_51 ic_4 52 rfl ?_
  refine r_invSr hC [.int 2, .int 4] (.int 20) mSX6_at q2711 (metX6_at _ _ hG 2 4) (fun _ _ => xIn.nil) ⟨rfl, rfl⟩ 0 0 rfl rfl (Nat.le_of_ble_eq_true rfl) (Nat.le_of_ble_eq_true rfl) rfl (Nat.le_of_ble_eq_true rfl) dX6_reverse_52 55 rfl ?_
  refine r_lald hC 20 (xix_n 20 (Nat.le_of_ble_eq_true rfl) (Nat.le_of_ble_eq_true rfl)) (fun _ h => h.get 1 rfl) (r 20) (by rw [← hu8, ← hu7, ← hu6, ← hu5, ← hu4]; rfl) dX6_reverse_55 56 rfl ?_
  refine r_lneg hC (-(r 20)) dX6_reverse_56 (rfl) 57 rfl ?_
  refine r_last (J := xSt F V0 [(b 0, .inr (5, mF b (va_up (va_up (va_up i 0 0) 10 (nI (recN rc))) 11 0) j)), (b 1, .inl (1, 111, .inr (.inl (va_up u8 20 (-(r 20)))))), (b 6, .inl (1, 1110, .inr (.inl (recH hy r rc))))]) hC 20 (xix_n 20 (Nat.le_of_ble_eq_true rfl) (Nat.le_of_ble_eq_true rfl)) (fun _ h => h.get 1 rfl) dX6_reverse_57 (fun _ h => h.set 1 _ rfl) 58 rfl ?_
  generalize hu9 : va_up u8 20 (-(r 20)) = u9
  refine r_iinc hC 3 1 0 [(1, .int 3), (0, .ref (b 0))] dX6_reverse_58 rfl (by decide) (Nat.le_of_ble_eq_true rfl) rfl 61 rfl ?_
  refine r_goto hC 11 dX6_reverse_61 (by decide) ?_
  refine r_iload_n hC 0 dX6_reverse_11 rfl 12 rfl ?_
  refine r_iconst hC 3 dX6_reverse_12 ic_3 13 rfl ?_
  refine r_icge hC 64 dX6_reverse_13 (by decide) 16 rfl (fun _ => ?_) (fun h => absurd h (by decide))
  subst hu9
  subst hu8
  subst hu7
  subst hu6
  subst hu5
  subst hu4
  exact r_vret hC (Nat.le_of_ble_eq_true rfl) (Nat.le_of_ble_eq_true rfl) (fun V9 h => hQ _ _ ⟨[(b 0, .inr (5, mF b (va_up (va_up (va_up i 0 0) 10 (nI (recN rc))) 11 0) j)), (b 1, .inl (1, 111, .inr (.inl (va_up (va_up (va_up (va_up (va_up (va_up r 9 (-(r 9))) 10 (-(r 10))) 14 (-(r 14))) 15 (-(r 15))) 19 (-(r 19))) 20 (-(r 20)))))), (b 6, .inl (1, 1110, .inr (.inl (recH hy r rc))))], ⟨rfl, by simp only [bx_uu]⟩, by rw [← hV0, ← hF]; exact h⟩) dX6_reverse_64
set_option maxHeartbeats 4000000 in
set_option maxRecDepth 100000 in
theorem metX6_turns (l : Launch) (G : xG) (hG : xGood G) (a : Nat) (r : Nat → Int64) (k0 : Nat) (hk : k0 < 110) : xWm l G yX6_turns (Cond.code yX6_turns cX6_turns 4 none) { frames := 0, locals := 0, cells := 0, slots := 0 } [.ref a, .int (nI k0)] [(a, .inl (1, 111, .inr (.inl r)))] (fun v w' => v = none ∧ w' = [(a, .inl (1, 111, .inr (.inl (va_up (va_up r k0 (-r (k0 + 1))) (k0 + 1) (r k0)))))]) (fun _ _ => False) := by
  intro V hV
  refine xMet_of RX6 hG rfl (by decide) (Nat.le_of_ble_eq_true rfl) fun C hC hQ hX hl hg _ => ?_
  subst hl hg
  obtain ⟨V0, hV0⟩ : ∃ V0, V0 = V := ⟨_, rfl⟩
  obtain ⟨F, hF⟩ : ∃ F, F = xF [(a, .inl (1, 111, .inr (.inl r)))] := ⟨_, rfl⟩
  refine rn.mono (J := xSt F V0 [(a, .inl (1, 111, .inr (.inl r)))]) (fun V9 h => by rw [h, hV0, hF]; exact hV.st) ?_
  show rn C (xSt F V0 [(a, .inl (1, 111, .inr (.inl r)))]) 0 0 0 [(0, .ref a), (1, .int (nI k0))] []
  refine r_aload_n hC 0 dX6_turns_0 rfl 1 rfl ?_
  refine r_iload_n hC 1 dX6_turns_1 rfl 2 rfl ?_
  refine r_lald hC k0 (xix_n k0 (by omega) (Nat.le_of_ble_eq_true rfl)) (fun _ h => h.get 0 rfl) (r k0) (rfl) dX6_turns_2 3 rfl ?_
  refine r_lstore_n hC 2 [(2, .long (r k0)), (0, .ref a), (1, .int (nI k0))] dX6_turns_3 rfl (Nat.le_of_ble_eq_true rfl) rfl 4 rfl ?_
  refine r_aload_n hC 1 dX6_turns_4 rfl 5 rfl ?_
  refine r_iload_n hC 2 dX6_turns_5 rfl 6 rfl ?_
  refine r_aload_n hC 1 dX6_turns_6 rfl 7 rfl ?_
  refine r_iload_n hC 2 dX6_turns_7 rfl 8 rfl ?_
  refine r_iconst hC 1 dX6_turns_8 ic_1 9 rfl ?_
  refine r_iadd hC (nI (k0 + 1)) dX6_turns_9  (nI_add k0 1) 10 rfl ?_
  refine r_lald hC (k0 + 1) (xix_n (k0 + 1) (by omega) (Nat.le_of_ble_eq_true rfl)) (fun _ h => h.get 0 rfl) (r (k0 + 1)) (rfl) dX6_turns_10 11 rfl ?_
  refine r_lneg hC (-(r (k0 + 1))) dX6_turns_11 (rfl) 12 rfl ?_
  refine r_last (J := xSt F V0 [(a, .inl (1, 111, .inr (.inl (va_up r k0 (-(r (k0 + 1)))))))]) hC k0 (xix_n k0 (by omega) (Nat.le_of_ble_eq_true rfl)) (fun _ h => h.get 0 rfl) dX6_turns_12 (fun _ h => h.set 0 _ rfl) 13 rfl ?_
  generalize hu1 : va_up r k0 (-(r (k0 + 1))) = u1
  refine r_aload_n hC 1 dX6_turns_13 rfl 14 rfl ?_
  refine r_iload_n hC 2 dX6_turns_14 rfl 15 rfl ?_
  refine r_iconst hC 1 dX6_turns_15 ic_1 16 rfl ?_
  refine r_iadd hC (nI (k0 + 1)) dX6_turns_16  (nI_add k0 1) 17 rfl ?_
  refine r_lload_n hC 0 dX6_turns_17 rfl 18 rfl ?_
  refine r_last (J := xSt F V0 [(a, .inl (1, 111, .inr (.inl (va_up u1 (k0 + 1) (r k0)))))]) hC (k0 + 1) (xix_n (k0 + 1) (by omega) (Nat.le_of_ble_eq_true rfl)) (fun _ h => h.get 0 rfl) dX6_turns_18 (fun _ h => h.set 0 _ rfl) 19 rfl ?_
  generalize hu2 : va_up u1 (k0 + 1) (r k0) = u2
  subst hu2
  subst hu1
  exact r_vret hC (Nat.le_of_ble_eq_true rfl) (Nat.le_of_ble_eq_true rfl) (fun V9 h => hQ _ _ ⟨[(a, .inl (1, 111, .inr (.inl (va_up (va_up r k0 (-(r (k0 + 1)))) (k0 + 1) (r k0)))))], ⟨rfl, rfl⟩, by rw [← hV0, ← hF]; exact h⟩) dX6_turns_19
def turnQ (r : Nat → Int64) : Nat → Int64 := va_up (va_up (va_up (va_up (va_up (va_up (va_up (va_up (va_up (va_up (va_up (va_up r 7 (-r 8)) 8 (r 7)) 9 (-r 10)) 10 (r 9)) 12 (-r 13)) 13 (r 12)) 14 (-r 15)) 15 (r 14)) 17 (-r 18)) 18 (r 17)) 19 (-r 20)) 20 (r 19)
set_option maxHeartbeats 4000000 in
set_option maxRecDepth 100000 in
theorem metX6_turn (l : Launch) (G : xG) (hG : xGood G) (b : Nat → Nat) (i : Nat → Int32) (j : Nat → Int64) (r hy : Nat → Int64) (rc : Nat) (hrc : rc ≤ 10) (hi : i 10 = nI rc) : xWm l G yX6_turn (Cond.code yX6_turn cX6_turn 2 none) { frames := 2, locals := 41, cells := 0, slots := 0 } [.ref (b 0)] [(b 0, .inr (5, mF b i j)), (b 1, .inl (1, 111, .inr (.inl r))), (b 6, .inl (1, 1110, .inr (.inl hy)))] (fun v w' => v = none ∧ w' = [(b 0, .inr (5, mF b (va_up (va_up (va_up i 0 0) 10 (nI (recN rc))) 11 0) j)), (b 1, .inl (1, 111, .inr (.inl (turnQ r)))), (b 6, .inl (1, 1110, .inr (.inl (recH hy r rc))))]) (fun _ _ => False) := by
  intro V hV
  refine xMet_of RX6 hG rfl (by decide) (Nat.le_of_ble_eq_true rfl) fun C hC hQ hX hl hg _ => ?_
  subst hl hg
  obtain ⟨V0, hV0⟩ : ∃ V0, V0 = V := ⟨_, rfl⟩
  obtain ⟨F, hF⟩ : ∃ F, F = xF [(b 0, .inr (5, mF b i j)), (b 1, .inl (1, 111, .inr (.inl r))), (b 6, .inl (1, 1110, .inr (.inl hy)))] := ⟨_, rfl⟩
  refine rn.mono (J := xSt F V0 [(b 0, .inr (5, mF b i j)), (b 1, .inl (1, 111, .inr (.inl r))), (b 6, .inl (1, 1110, .inr (.inl hy)))]) (fun V9 h => by rw [h, hV0, hF]; exact hV.st) ?_
  show rn C (xSt F V0 [(b 0, .inr (5, mF b i j)), (b 1, .inl (1, 111, .inr (.inl r))), (b 6, .inl (1, 1110, .inr (.inl hy)))]) 0 0 0 [(0, .ref (b 0))] []
  refine r_aload_n hC 0 dX6_turn_0 rfl 1 rfl ?_
  refine r_iconst hC 0 dX6_turn_1 ic_0 2 rfl ?_
  refine r_put (J := xSt F V0 [(b 0, .inr (5, mF b (va_up i 0 0) j)), (b 1, .inl (1, 111, .inr (.inl r))), (b 6, .inl (1, 1110, .inr (.inl hy)))]) hC kX6 0 rfl q2753 rfl (fun _ h => h.get 0 rfl) (Nat.le_of_ble_eq_true rfl) rfl rfl dX6_turn_2 (fun _ h => h.set 0 _ rfl) 5 rfl ?_
  refine r_aload_n hC 0 dX6_turn_5 rfl 6 rfl ?_
  refine r_invVw hC kX6 (b 0) [] [] mVX6_begins q3114 0 rfl (metX6_begins _ _ hG b (va_up i 0 0) _ _ _ rc hrc (show (va_up i 0 0) 10 = nI rc from hi)) [0, 1, 2] [] rfl rfl rfl rfl (by decide) ⟨rfl, rfl⟩ 0 0 rfl rfl (Nat.le_of_ble_eq_true rfl) (Nat.le_of_ble_eq_true rfl) rfl (Nat.le_of_ble_eq_true rfl) dX6_turn_6 9 rfl (fun v1 w2 h3 => ?_) (fun _ _ h => h.elim)
  obtain ⟨rfl, rfl⟩ := h3
  show rn C (xSt F V0 [(b 0, .inr (5, mF b (va_up (va_up (va_up i 0 0) 10 (nI (recN rc))) 11 0) j)), (b 1, .inl (1, 111, .inr (.inl r))), (b 6, .inl (1, 1110, .inr (.inl (recH hy r rc))))]) 0 0 9 [(0, .ref (b 0))] []
  refine r_iconst hC 0 dX6_turn_9 ic_0 10 rfl ?_
  refine r_istore_n hC 1 [(1, .int 0), (0, .ref (b 0))] dX6_turn_10 rfl (Nat.le_of_ble_eq_true rfl) rfl 11 rfl ?_
  refine r_iload_n hC 0 dX6_turn_11 rfl 12 rfl ?_
  refine r_iconst hC 3 dX6_turn_12 ic_3 13 rfl ?_
  refine r_icge hC 46 dX6_turn_13 (by decide) 16 rfl (fun h => absurd h (by decide)) (fun _ => ?_)
  refine r_aload_n hC 1 dX6_turn_16 rfl 17 rfl ?_
  refine r_get (v := .ref (b 1)) hC kX6 1 rfl q2754 (fun _ h => h.get 0 rfl) rfl dX6_turn_17 20 rfl ?_
  refine r_iload_n hC 0 dX6_turn_20 rfl 21 rfl ?_
  refine r_iconst hC 1 dX6_turn_21 ic_1 22 rfl ?_
  refine r_invSr hC [.int 0, .int 1] (.int 7) mSX6_at q2711 (metX6_at _ _ hG 0 1) (fun _ _ => xIn.nil) ⟨rfl, rfl⟩ 0 0 rfl rfl (Nat.le_of_ble_eq_true rfl) (Nat.le_of_ble_eq_true rfl) rfl (Nat.le_of_ble_eq_true rfl) dX6_turn_22 25 rfl ?_
  refine r_invSw hC [.ref (b 1), .int 7] [(b 0, .inr (5, mF b (va_up (va_up (va_up i 0 0) 10 (nI (recN rc))) 11 0) j)), (b 6, .inl (1, 1110, .inr (.inl (recH hy r rc))))] mSX6_turns q3138 (metX6_turns _ _ hG (b 1) _ 7 (by omega)) [1] [0, 2] rfl rfl rfl rfl (by decide) ⟨rfl, rfl⟩ 0 0 rfl rfl (Nat.le_of_ble_eq_true rfl) (Nat.le_of_ble_eq_true rfl) rfl (Nat.le_of_ble_eq_true rfl) dX6_turn_25 28 rfl (fun v4 w5 h6 => ?_) (fun _ _ h => h.elim)
  obtain ⟨rfl, rfl⟩ := h6
  show rn C (xSt F V0 [(b 0, .inr (5, mF b (va_up (va_up (va_up i 0 0) 10 (nI (recN rc))) 11 0) j)), (b 6, .inl (1, 1110, .inr (.inl (recH hy r rc)))), (b 1, .inl (1, 111, .inr (.inl (va_up (va_up r 7 (-r 8)) 8 (r 7)))))]) 0 0 28 [(1, .int 0), (0, .ref (b 0))] []
  refine r_aload_n hC 1 dX6_turn_28 rfl 29 rfl ?_
  refine r_get (v := .ref (b 1)) hC kX6 1 rfl q2754 (fun _ h => h.get 0 rfl) rfl dX6_turn_29 32 rfl ?_
  refine r_iload_n hC 0 dX6_turn_32 rfl 33 rfl ?_
  refine r_iconst hC 3 dX6_turn_33 ic_3 34 rfl ?_
  refine r_invSr hC [.int 0, .int 3] (.int 9) mSX6_at q2711 (metX6_at _ _ hG 0 3) (fun _ _ => xIn.nil) ⟨rfl, rfl⟩ 0 0 rfl rfl (Nat.le_of_ble_eq_true rfl) (Nat.le_of_ble_eq_true rfl) rfl (Nat.le_of_ble_eq_true rfl) dX6_turn_34 37 rfl ?_
  refine r_invSw hC [.ref (b 1), .int 9] [(b 0, .inr (5, mF b (va_up (va_up (va_up i 0 0) 10 (nI (recN rc))) 11 0) j)), (b 6, .inl (1, 1110, .inr (.inl (recH hy r rc))))] mSX6_turns q3138 (metX6_turns _ _ hG (b 1) _ 9 (by omega)) [2] [0, 1] rfl rfl rfl rfl (by decide) ⟨rfl, rfl⟩ 0 0 rfl rfl (Nat.le_of_ble_eq_true rfl) (Nat.le_of_ble_eq_true rfl) rfl (Nat.le_of_ble_eq_true rfl) dX6_turn_37 40 rfl (fun v7 w8 h9 => ?_) (fun _ _ h => h.elim)
  obtain ⟨rfl, rfl⟩ := h9
  show rn C (xSt F V0 [(b 0, .inr (5, mF b (va_up (va_up (va_up i 0 0) 10 (nI (recN rc))) 11 0) j)), (b 6, .inl (1, 1110, .inr (.inl (recH hy r rc)))), (b 1, .inl (1, 111, .inr (.inl (va_up (va_up (va_up (va_up r 7 (-r 8)) 8 (r 7)) 9 (-(va_up (va_up r 7 (-r 8)) 8 (r 7)) 10)) 10 ((va_up (va_up r 7 (-r 8)) 8 (r 7)) 9)))))]) 0 0 40 [(1, .int 0), (0, .ref (b 0))] []
  refine r_iinc hC 1 1 0 [(1, .int 1), (0, .ref (b 0))] dX6_turn_40 rfl (by decide) (Nat.le_of_ble_eq_true rfl) rfl 43 rfl ?_
  refine r_goto hC 11 dX6_turn_43 (by decide) ?_
  refine r_iload_n hC 0 dX6_turn_11 rfl 12 rfl ?_
  refine r_iconst hC 3 dX6_turn_12 ic_3 13 rfl ?_
  refine r_icge hC 46 dX6_turn_13 (by decide) 16 rfl (fun h => absurd h (by decide)) (fun _ => ?_)
  refine r_aload_n hC 1 dX6_turn_16 rfl 17 rfl ?_
  refine r_get (v := .ref (b 1)) hC kX6 1 rfl q2754 (fun _ h => h.get 0 rfl) rfl dX6_turn_17 20 rfl ?_
  refine r_iload_n hC 0 dX6_turn_20 rfl 21 rfl ?_
  refine r_iconst hC 1 dX6_turn_21 ic_1 22 rfl ?_
  refine r_invSr hC [.int 1, .int 1] (.int 12) mSX6_at q2711 (metX6_at _ _ hG 1 1) (fun _ _ => xIn.nil) ⟨rfl, rfl⟩ 0 0 rfl rfl (Nat.le_of_ble_eq_true rfl) (Nat.le_of_ble_eq_true rfl) rfl (Nat.le_of_ble_eq_true rfl) dX6_turn_22 25 rfl ?_
  refine r_invSw hC [.ref (b 1), .int 12] [(b 0, .inr (5, mF b (va_up (va_up (va_up i 0 0) 10 (nI (recN rc))) 11 0) j)), (b 6, .inl (1, 1110, .inr (.inl (recH hy r rc))))] mSX6_turns q3138 (metX6_turns _ _ hG (b 1) _ 12 (by omega)) [2] [0, 1] rfl rfl rfl rfl (by decide) ⟨rfl, rfl⟩ 0 0 rfl rfl (Nat.le_of_ble_eq_true rfl) (Nat.le_of_ble_eq_true rfl) rfl (Nat.le_of_ble_eq_true rfl) dX6_turn_25 28 rfl (fun v10 w11 h12 => ?_) (fun _ _ h => h.elim)
  obtain ⟨rfl, rfl⟩ := h12
  show rn C (xSt F V0 [(b 0, .inr (5, mF b (va_up (va_up (va_up i 0 0) 10 (nI (recN rc))) 11 0) j)), (b 6, .inl (1, 1110, .inr (.inl (recH hy r rc)))), (b 1, .inl (1, 111, .inr (.inl (va_up (va_up (va_up (va_up (va_up (va_up r 7 (-r 8)) 8 (r 7)) 9 (-(va_up (va_up r 7 (-r 8)) 8 (r 7)) 10)) 10 ((va_up (va_up r 7 (-r 8)) 8 (r 7)) 9)) 12 (-(va_up (va_up (va_up (va_up r 7 (-r 8)) 8 (r 7)) 9 (-(va_up (va_up r 7 (-r 8)) 8 (r 7)) 10)) 10 ((va_up (va_up r 7 (-r 8)) 8 (r 7)) 9)) 13)) 13 ((va_up (va_up (va_up (va_up r 7 (-r 8)) 8 (r 7)) 9 (-(va_up (va_up r 7 (-r 8)) 8 (r 7)) 10)) 10 ((va_up (va_up r 7 (-r 8)) 8 (r 7)) 9)) 12)))))]) 0 0 28 [(1, .int 1), (0, .ref (b 0))] []
  refine r_aload_n hC 1 dX6_turn_28 rfl 29 rfl ?_
  refine r_get (v := .ref (b 1)) hC kX6 1 rfl q2754 (fun _ h => h.get 0 rfl) rfl dX6_turn_29 32 rfl ?_
  refine r_iload_n hC 0 dX6_turn_32 rfl 33 rfl ?_
  refine r_iconst hC 3 dX6_turn_33 ic_3 34 rfl ?_
  refine r_invSr hC [.int 1, .int 3] (.int 14) mSX6_at q2711 (metX6_at _ _ hG 1 3) (fun _ _ => xIn.nil) ⟨rfl, rfl⟩ 0 0 rfl rfl (Nat.le_of_ble_eq_true rfl) (Nat.le_of_ble_eq_true rfl) rfl (Nat.le_of_ble_eq_true rfl) dX6_turn_34 37 rfl ?_
  refine r_invSw hC [.ref (b 1), .int 14] [(b 0, .inr (5, mF b (va_up (va_up (va_up i 0 0) 10 (nI (recN rc))) 11 0) j)), (b 6, .inl (1, 1110, .inr (.inl (recH hy r rc))))] mSX6_turns q3138 (metX6_turns _ _ hG (b 1) _ 14 (by omega)) [2] [0, 1] rfl rfl rfl rfl (by decide) ⟨rfl, rfl⟩ 0 0 rfl rfl (Nat.le_of_ble_eq_true rfl) (Nat.le_of_ble_eq_true rfl) rfl (Nat.le_of_ble_eq_true rfl) dX6_turn_37 40 rfl (fun v13 w14 h15 => ?_) (fun _ _ h => h.elim)
  obtain ⟨rfl, rfl⟩ := h15
  show rn C (xSt F V0 [(b 0, .inr (5, mF b (va_up (va_up (va_up i 0 0) 10 (nI (recN rc))) 11 0) j)), (b 6, .inl (1, 1110, .inr (.inl (recH hy r rc)))), (b 1, .inl (1, 111, .inr (.inl (va_up (va_up (va_up (va_up (va_up (va_up (va_up (va_up r 7 (-r 8)) 8 (r 7)) 9 (-(va_up (va_up r 7 (-r 8)) 8 (r 7)) 10)) 10 ((va_up (va_up r 7 (-r 8)) 8 (r 7)) 9)) 12 (-(va_up (va_up (va_up (va_up r 7 (-r 8)) 8 (r 7)) 9 (-(va_up (va_up r 7 (-r 8)) 8 (r 7)) 10)) 10 ((va_up (va_up r 7 (-r 8)) 8 (r 7)) 9)) 13)) 13 ((va_up (va_up (va_up (va_up r 7 (-r 8)) 8 (r 7)) 9 (-(va_up (va_up r 7 (-r 8)) 8 (r 7)) 10)) 10 ((va_up (va_up r 7 (-r 8)) 8 (r 7)) 9)) 12)) 14 (-(va_up (va_up (va_up (va_up (va_up (va_up r 7 (-r 8)) 8 (r 7)) 9 (-(va_up (va_up r 7 (-r 8)) 8 (r 7)) 10)) 10 ((va_up (va_up r 7 (-r 8)) 8 (r 7)) 9)) 12 (-(va_up (va_up (va_up (va_up r 7 (-r 8)) 8 (r 7)) 9 (-(va_up (va_up r 7 (-r 8)) 8 (r 7)) 10)) 10 ((va_up (va_up r 7 (-r 8)) 8 (r 7)) 9)) 13)) 13 ((va_up (va_up (va_up (va_up r 7 (-r 8)) 8 (r 7)) 9 (-(va_up (va_up r 7 (-r 8)) 8 (r 7)) 10)) 10 ((va_up (va_up r 7 (-r 8)) 8 (r 7)) 9)) 12)) 15)) 15 ((va_up (va_up (va_up (va_up (va_up (va_up r 7 (-r 8)) 8 (r 7)) 9 (-(va_up (va_up r 7 (-r 8)) 8 (r 7)) 10)) 10 ((va_up (va_up r 7 (-r 8)) 8 (r 7)) 9)) 12 (-(va_up (va_up (va_up (va_up r 7 (-r 8)) 8 (r 7)) 9 (-(va_up (va_up r 7 (-r 8)) 8 (r 7)) 10)) 10 ((va_up (va_up r 7 (-r 8)) 8 (r 7)) 9)) 13)) 13 ((va_up (va_up (va_up (va_up r 7 (-r 8)) 8 (r 7)) 9 (-(va_up (va_up r 7 (-r 8)) 8 (r 7)) 10)) 10 ((va_up (va_up r 7 (-r 8)) 8 (r 7)) 9)) 12)) 14)))))]) 0 0 40 [(1, .int 1), (0, .ref (b 0))] []
  refine r_iinc hC 2 1 0 [(1, .int 2), (0, .ref (b 0))] dX6_turn_40 rfl (by decide) (Nat.le_of_ble_eq_true rfl) rfl 43 rfl ?_
  refine r_goto hC 11 dX6_turn_43 (by decide) ?_
  refine r_iload_n hC 0 dX6_turn_11 rfl 12 rfl ?_
  refine r_iconst hC 3 dX6_turn_12 ic_3 13 rfl ?_
  refine r_icge hC 46 dX6_turn_13 (by decide) 16 rfl (fun h => absurd h (by decide)) (fun _ => ?_)
  refine r_aload_n hC 1 dX6_turn_16 rfl 17 rfl ?_
  refine r_get (v := .ref (b 1)) hC kX6 1 rfl q2754 (fun _ h => h.get 0 rfl) rfl dX6_turn_17 20 rfl ?_
  refine r_iload_n hC 0 dX6_turn_20 rfl 21 rfl ?_
  refine r_iconst hC 1 dX6_turn_21 ic_1 22 rfl ?_
  refine r_invSr hC [.int 2, .int 1] (.int 17) mSX6_at q2711 (metX6_at _ _ hG 2 1) (fun _ _ => xIn.nil) ⟨rfl, rfl⟩ 0 0 rfl rfl (Nat.le_of_ble_eq_true rfl) (Nat.le_of_ble_eq_true rfl) rfl (Nat.le_of_ble_eq_true rfl) dX6_turn_22 25 rfl ?_
  refine r_invSw hC [.ref (b 1), .int 17] [(b 0, .inr (5, mF b (va_up (va_up (va_up i 0 0) 10 (nI (recN rc))) 11 0) j)), (b 6, .inl (1, 1110, .inr (.inl (recH hy r rc))))] mSX6_turns q3138 (metX6_turns _ _ hG (b 1) _ 17 (by omega)) [2] [0, 1] rfl rfl rfl rfl (by decide) ⟨rfl, rfl⟩ 0 0 rfl rfl (Nat.le_of_ble_eq_true rfl) (Nat.le_of_ble_eq_true rfl) rfl (Nat.le_of_ble_eq_true rfl) dX6_turn_25 28 rfl (fun v16 w17 h18 => ?_) (fun _ _ h => h.elim)
  obtain ⟨rfl, rfl⟩ := h18
  show rn C (xSt F V0 [(b 0, .inr (5, mF b (va_up (va_up (va_up i 0 0) 10 (nI (recN rc))) 11 0) j)), (b 6, .inl (1, 1110, .inr (.inl (recH hy r rc)))), (b 1, .inl (1, 111, .inr (.inl (va_up (va_up (va_up (va_up (va_up (va_up (va_up (va_up (va_up (va_up r 7 (-r 8)) 8 (r 7)) 9 (-(va_up (va_up r 7 (-r 8)) 8 (r 7)) 10)) 10 ((va_up (va_up r 7 (-r 8)) 8 (r 7)) 9)) 12 (-(va_up (va_up (va_up (va_up r 7 (-r 8)) 8 (r 7)) 9 (-(va_up (va_up r 7 (-r 8)) 8 (r 7)) 10)) 10 ((va_up (va_up r 7 (-r 8)) 8 (r 7)) 9)) 13)) 13 ((va_up (va_up (va_up (va_up r 7 (-r 8)) 8 (r 7)) 9 (-(va_up (va_up r 7 (-r 8)) 8 (r 7)) 10)) 10 ((va_up (va_up r 7 (-r 8)) 8 (r 7)) 9)) 12)) 14 (-(va_up (va_up (va_up (va_up (va_up (va_up r 7 (-r 8)) 8 (r 7)) 9 (-(va_up (va_up r 7 (-r 8)) 8 (r 7)) 10)) 10 ((va_up (va_up r 7 (-r 8)) 8 (r 7)) 9)) 12 (-(va_up (va_up (va_up (va_up r 7 (-r 8)) 8 (r 7)) 9 (-(va_up (va_up r 7 (-r 8)) 8 (r 7)) 10)) 10 ((va_up (va_up r 7 (-r 8)) 8 (r 7)) 9)) 13)) 13 ((va_up (va_up (va_up (va_up r 7 (-r 8)) 8 (r 7)) 9 (-(va_up (va_up r 7 (-r 8)) 8 (r 7)) 10)) 10 ((va_up (va_up r 7 (-r 8)) 8 (r 7)) 9)) 12)) 15)) 15 ((va_up (va_up (va_up (va_up (va_up (va_up r 7 (-r 8)) 8 (r 7)) 9 (-(va_up (va_up r 7 (-r 8)) 8 (r 7)) 10)) 10 ((va_up (va_up r 7 (-r 8)) 8 (r 7)) 9)) 12 (-(va_up (va_up (va_up (va_up r 7 (-r 8)) 8 (r 7)) 9 (-(va_up (va_up r 7 (-r 8)) 8 (r 7)) 10)) 10 ((va_up (va_up r 7 (-r 8)) 8 (r 7)) 9)) 13)) 13 ((va_up (va_up (va_up (va_up r 7 (-r 8)) 8 (r 7)) 9 (-(va_up (va_up r 7 (-r 8)) 8 (r 7)) 10)) 10 ((va_up (va_up r 7 (-r 8)) 8 (r 7)) 9)) 12)) 14)) 17 (-(va_up (va_up (va_up (va_up (va_up (va_up (va_up (va_up r 7 (-r 8)) 8 (r 7)) 9 (-(va_up (va_up r 7 (-r 8)) 8 (r 7)) 10)) 10 ((va_up (va_up r 7 (-r 8)) 8 (r 7)) 9)) 12 (-(va_up (va_up (va_up (va_up r 7 (-r 8)) 8 (r 7)) 9 (-(va_up (va_up r 7 (-r 8)) 8 (r 7)) 10)) 10 ((va_up (va_up r 7 (-r 8)) 8 (r 7)) 9)) 13)) 13 ((va_up (va_up (va_up (va_up r 7 (-r 8)) 8 (r 7)) 9 (-(va_up (va_up r 7 (-r 8)) 8 (r 7)) 10)) 10 ((va_up (va_up r 7 (-r 8)) 8 (r 7)) 9)) 12)) 14 (-(va_up (va_up (va_up (va_up (va_up (va_up r 7 (-r 8)) 8 (r 7)) 9 (-(va_up (va_up r 7 (-r 8)) 8 (r 7)) 10)) 10 ((va_up (va_up r 7 (-r 8)) 8 (r 7)) 9)) 12 (-(va_up (va_up (va_up (va_up r 7 (-r 8)) 8 (r 7)) 9 (-(va_up (va_up r 7 (-r 8)) 8 (r 7)) 10)) 10 ((va_up (va_up r 7 (-r 8)) 8 (r 7)) 9)) 13)) 13 ((va_up (va_up (va_up (va_up r 7 (-r 8)) 8 (r 7)) 9 (-(va_up (va_up r 7 (-r 8)) 8 (r 7)) 10)) 10 ((va_up (va_up r 7 (-r 8)) 8 (r 7)) 9)) 12)) 15)) 15 ((va_up (va_up (va_up (va_up (va_up (va_up r 7 (-r 8)) 8 (r 7)) 9 (-(va_up (va_up r 7 (-r 8)) 8 (r 7)) 10)) 10 ((va_up (va_up r 7 (-r 8)) 8 (r 7)) 9)) 12 (-(va_up (va_up (va_up (va_up r 7 (-r 8)) 8 (r 7)) 9 (-(va_up (va_up r 7 (-r 8)) 8 (r 7)) 10)) 10 ((va_up (va_up r 7 (-r 8)) 8 (r 7)) 9)) 13)) 13 ((va_up (va_up (va_up (va_up r 7 (-r 8)) 8 (r 7)) 9 (-(va_up (va_up r 7 (-r 8)) 8 (r 7)) 10)) 10 ((va_up (va_up r 7 (-r 8)) 8 (r 7)) 9)) 12)) 14)) 18)) 18 ((va_up (va_up (va_up (va_up (va_up (va_up (va_up (va_up r 7 (-r 8)) 8 (r 7)) 9 (-(va_up (va_up r 7 (-r 8)) 8 (r 7)) 10)) 10 ((va_up (va_up r 7 (-r 8)) 8 (r 7)) 9)) 12 (-(va_up (va_up (va_up (va_up r 7 (-r 8)) 8 (r 7)) 9 (-(va_up (va_up r 7 (-r 8)) 8 (r 7)) 10)) 10 ((va_up (va_up r 7 (-r 8)) 8 (r 7)) 9)) 13)) 13 ((va_up (va_up (va_up (va_up r 7 (-r 8)) 8 (r 7)) 9 (-(va_up (va_up r 7 (-r 8)) 8 (r 7)) 10)) 10 ((va_up (va_up r 7 (-r 8)) 8 (r 7)) 9)) 12)) 14 (-(va_up (va_up (va_up (va_up (va_up (va_up r 7 (-r 8)) 8 (r 7)) 9 (-(va_up (va_up r 7 (-r 8)) 8 (r 7)) 10)) 10 ((va_up (va_up r 7 (-r 8)) 8 (r 7)) 9)) 12 (-(va_up (va_up (va_up (va_up r 7 (-r 8)) 8 (r 7)) 9 (-(va_up (va_up r 7 (-r 8)) 8 (r 7)) 10)) 10 ((va_up (va_up r 7 (-r 8)) 8 (r 7)) 9)) 13)) 13 ((va_up (va_up (va_up (va_up r 7 (-r 8)) 8 (r 7)) 9 (-(va_up (va_up r 7 (-r 8)) 8 (r 7)) 10)) 10 ((va_up (va_up r 7 (-r 8)) 8 (r 7)) 9)) 12)) 15)) 15 ((va_up (va_up (va_up (va_up (va_up (va_up r 7 (-r 8)) 8 (r 7)) 9 (-(va_up (va_up r 7 (-r 8)) 8 (r 7)) 10)) 10 ((va_up (va_up r 7 (-r 8)) 8 (r 7)) 9)) 12 (-(va_up (va_up (va_up (va_up r 7 (-r 8)) 8 (r 7)) 9 (-(va_up (va_up r 7 (-r 8)) 8 (r 7)) 10)) 10 ((va_up (va_up r 7 (-r 8)) 8 (r 7)) 9)) 13)) 13 ((va_up (va_up (va_up (va_up r 7 (-r 8)) 8 (r 7)) 9 (-(va_up (va_up r 7 (-r 8)) 8 (r 7)) 10)) 10 ((va_up (va_up r 7 (-r 8)) 8 (r 7)) 9)) 12)) 14)) 17)))))]) 0 0 28 [(1, .int 2), (0, .ref (b 0))] []
  refine r_aload_n hC 1 dX6_turn_28 rfl 29 rfl ?_
  refine r_get (v := .ref (b 1)) hC kX6 1 rfl q2754 (fun _ h => h.get 0 rfl) rfl dX6_turn_29 32 rfl ?_
  refine r_iload_n hC 0 dX6_turn_32 rfl 33 rfl ?_
  refine r_iconst hC 3 dX6_turn_33 ic_3 34 rfl ?_
  refine r_invSr hC [.int 2, .int 3] (.int 19) mSX6_at q2711 (metX6_at _ _ hG 2 3) (fun _ _ => xIn.nil) ⟨rfl, rfl⟩ 0 0 rfl rfl (Nat.le_of_ble_eq_true rfl) (Nat.le_of_ble_eq_true rfl) rfl (Nat.le_of_ble_eq_true rfl) dX6_turn_34 37 rfl ?_
  refine r_invSw hC [.ref (b 1), .int 19] [(b 0, .inr (5, mF b (va_up (va_up (va_up i 0 0) 10 (nI (recN rc))) 11 0) j)), (b 6, .inl (1, 1110, .inr (.inl (recH hy r rc))))] mSX6_turns q3138 (metX6_turns _ _ hG (b 1) _ 19 (by omega)) [2] [0, 1] rfl rfl rfl rfl (by decide) ⟨rfl, rfl⟩ 0 0 rfl rfl (Nat.le_of_ble_eq_true rfl) (Nat.le_of_ble_eq_true rfl) rfl (Nat.le_of_ble_eq_true rfl) dX6_turn_37 40 rfl (fun v19 w20 h21 => ?_) (fun _ _ h => h.elim)
  obtain ⟨rfl, rfl⟩ := h21
  show rn C (xSt F V0 [(b 0, .inr (5, mF b (va_up (va_up (va_up i 0 0) 10 (nI (recN rc))) 11 0) j)), (b 6, .inl (1, 1110, .inr (.inl (recH hy r rc)))), (b 1, .inl (1, 111, .inr (.inl (va_up (va_up (va_up (va_up (va_up (va_up (va_up (va_up (va_up (va_up (va_up (va_up r 7 (-r 8)) 8 (r 7)) 9 (-(va_up (va_up r 7 (-r 8)) 8 (r 7)) 10)) 10 ((va_up (va_up r 7 (-r 8)) 8 (r 7)) 9)) 12 (-(va_up (va_up (va_up (va_up r 7 (-r 8)) 8 (r 7)) 9 (-(va_up (va_up r 7 (-r 8)) 8 (r 7)) 10)) 10 ((va_up (va_up r 7 (-r 8)) 8 (r 7)) 9)) 13)) 13 ((va_up (va_up (va_up (va_up r 7 (-r 8)) 8 (r 7)) 9 (-(va_up (va_up r 7 (-r 8)) 8 (r 7)) 10)) 10 ((va_up (va_up r 7 (-r 8)) 8 (r 7)) 9)) 12)) 14 (-(va_up (va_up (va_up (va_up (va_up (va_up r 7 (-r 8)) 8 (r 7)) 9 (-(va_up (va_up r 7 (-r 8)) 8 (r 7)) 10)) 10 ((va_up (va_up r 7 (-r 8)) 8 (r 7)) 9)) 12 (-(va_up (va_up (va_up (va_up r 7 (-r 8)) 8 (r 7)) 9 (-(va_up (va_up r 7 (-r 8)) 8 (r 7)) 10)) 10 ((va_up (va_up r 7 (-r 8)) 8 (r 7)) 9)) 13)) 13 ((va_up (va_up (va_up (va_up r 7 (-r 8)) 8 (r 7)) 9 (-(va_up (va_up r 7 (-r 8)) 8 (r 7)) 10)) 10 ((va_up (va_up r 7 (-r 8)) 8 (r 7)) 9)) 12)) 15)) 15 ((va_up (va_up (va_up (va_up (va_up (va_up r 7 (-r 8)) 8 (r 7)) 9 (-(va_up (va_up r 7 (-r 8)) 8 (r 7)) 10)) 10 ((va_up (va_up r 7 (-r 8)) 8 (r 7)) 9)) 12 (-(va_up (va_up (va_up (va_up r 7 (-r 8)) 8 (r 7)) 9 (-(va_up (va_up r 7 (-r 8)) 8 (r 7)) 10)) 10 ((va_up (va_up r 7 (-r 8)) 8 (r 7)) 9)) 13)) 13 ((va_up (va_up (va_up (va_up r 7 (-r 8)) 8 (r 7)) 9 (-(va_up (va_up r 7 (-r 8)) 8 (r 7)) 10)) 10 ((va_up (va_up r 7 (-r 8)) 8 (r 7)) 9)) 12)) 14)) 17 (-(va_up (va_up (va_up (va_up (va_up (va_up (va_up (va_up r 7 (-r 8)) 8 (r 7)) 9 (-(va_up (va_up r 7 (-r 8)) 8 (r 7)) 10)) 10 ((va_up (va_up r 7 (-r 8)) 8 (r 7)) 9)) 12 (-(va_up (va_up (va_up (va_up r 7 (-r 8)) 8 (r 7)) 9 (-(va_up (va_up r 7 (-r 8)) 8 (r 7)) 10)) 10 ((va_up (va_up r 7 (-r 8)) 8 (r 7)) 9)) 13)) 13 ((va_up (va_up (va_up (va_up r 7 (-r 8)) 8 (r 7)) 9 (-(va_up (va_up r 7 (-r 8)) 8 (r 7)) 10)) 10 ((va_up (va_up r 7 (-r 8)) 8 (r 7)) 9)) 12)) 14 (-(va_up (va_up (va_up (va_up (va_up (va_up r 7 (-r 8)) 8 (r 7)) 9 (-(va_up (va_up r 7 (-r 8)) 8 (r 7)) 10)) 10 ((va_up (va_up r 7 (-r 8)) 8 (r 7)) 9)) 12 (-(va_up (va_up (va_up (va_up r 7 (-r 8)) 8 (r 7)) 9 (-(va_up (va_up r 7 (-r 8)) 8 (r 7)) 10)) 10 ((va_up (va_up r 7 (-r 8)) 8 (r 7)) 9)) 13)) 13 ((va_up (va_up (va_up (va_up r 7 (-r 8)) 8 (r 7)) 9 (-(va_up (va_up r 7 (-r 8)) 8 (r 7)) 10)) 10 ((va_up (va_up r 7 (-r 8)) 8 (r 7)) 9)) 12)) 15)) 15 ((va_up (va_up (va_up (va_up (va_up (va_up r 7 (-r 8)) 8 (r 7)) 9 (-(va_up (va_up r 7 (-r 8)) 8 (r 7)) 10)) 10 ((va_up (va_up r 7 (-r 8)) 8 (r 7)) 9)) 12 (-(va_up (va_up (va_up (va_up r 7 (-r 8)) 8 (r 7)) 9 (-(va_up (va_up r 7 (-r 8)) 8 (r 7)) 10)) 10 ((va_up (va_up r 7 (-r 8)) 8 (r 7)) 9)) 13)) 13 ((va_up (va_up (va_up (va_up r 7 (-r 8)) 8 (r 7)) 9 (-(va_up (va_up r 7 (-r 8)) 8 (r 7)) 10)) 10 ((va_up (va_up r 7 (-r 8)) 8 (r 7)) 9)) 12)) 14)) 18)) 18 ((va_up (va_up (va_up (va_up (va_up (va_up (va_up (va_up r 7 (-r 8)) 8 (r 7)) 9 (-(va_up (va_up r 7 (-r 8)) 8 (r 7)) 10)) 10 ((va_up (va_up r 7 (-r 8)) 8 (r 7)) 9)) 12 (-(va_up (va_up (va_up (va_up r 7 (-r 8)) 8 (r 7)) 9 (-(va_up (va_up r 7 (-r 8)) 8 (r 7)) 10)) 10 ((va_up (va_up r 7 (-r 8)) 8 (r 7)) 9)) 13)) 13 ((va_up (va_up (va_up (va_up r 7 (-r 8)) 8 (r 7)) 9 (-(va_up (va_up r 7 (-r 8)) 8 (r 7)) 10)) 10 ((va_up (va_up r 7 (-r 8)) 8 (r 7)) 9)) 12)) 14 (-(va_up (va_up (va_up (va_up (va_up (va_up r 7 (-r 8)) 8 (r 7)) 9 (-(va_up (va_up r 7 (-r 8)) 8 (r 7)) 10)) 10 ((va_up (va_up r 7 (-r 8)) 8 (r 7)) 9)) 12 (-(va_up (va_up (va_up (va_up r 7 (-r 8)) 8 (r 7)) 9 (-(va_up (va_up r 7 (-r 8)) 8 (r 7)) 10)) 10 ((va_up (va_up r 7 (-r 8)) 8 (r 7)) 9)) 13)) 13 ((va_up (va_up (va_up (va_up r 7 (-r 8)) 8 (r 7)) 9 (-(va_up (va_up r 7 (-r 8)) 8 (r 7)) 10)) 10 ((va_up (va_up r 7 (-r 8)) 8 (r 7)) 9)) 12)) 15)) 15 ((va_up (va_up (va_up (va_up (va_up (va_up r 7 (-r 8)) 8 (r 7)) 9 (-(va_up (va_up r 7 (-r 8)) 8 (r 7)) 10)) 10 ((va_up (va_up r 7 (-r 8)) 8 (r 7)) 9)) 12 (-(va_up (va_up (va_up (va_up r 7 (-r 8)) 8 (r 7)) 9 (-(va_up (va_up r 7 (-r 8)) 8 (r 7)) 10)) 10 ((va_up (va_up r 7 (-r 8)) 8 (r 7)) 9)) 13)) 13 ((va_up (va_up (va_up (va_up r 7 (-r 8)) 8 (r 7)) 9 (-(va_up (va_up r 7 (-r 8)) 8 (r 7)) 10)) 10 ((va_up (va_up r 7 (-r 8)) 8 (r 7)) 9)) 12)) 14)) 17)) 19 (-(va_up (va_up (va_up (va_up (va_up (va_up (va_up (va_up (va_up (va_up r 7 (-r 8)) 8 (r 7)) 9 (-(va_up (va_up r 7 (-r 8)) 8 (r 7)) 10)) 10 ((va_up (va_up r 7 (-r 8)) 8 (r 7)) 9)) 12 (-(va_up (va_up (va_up (va_up r 7 (-r 8)) 8 (r 7)) 9 (-(va_up (va_up r 7 (-r 8)) 8 (r 7)) 10)) 10 ((va_up (va_up r 7 (-r 8)) 8 (r 7)) 9)) 13)) 13 ((va_up (va_up (va_up (va_up r 7 (-r 8)) 8 (r 7)) 9 (-(va_up (va_up r 7 (-r 8)) 8 (r 7)) 10)) 10 ((va_up (va_up r 7 (-r 8)) 8 (r 7)) 9)) 12)) 14 (-(va_up (va_up (va_up (va_up (va_up (va_up r 7 (-r 8)) 8 (r 7)) 9 (-(va_up (va_up r 7 (-r 8)) 8 (r 7)) 10)) 10 ((va_up (va_up r 7 (-r 8)) 8 (r 7)) 9)) 12 (-(va_up (va_up (va_up (va_up r 7 (-r 8)) 8 (r 7)) 9 (-(va_up (va_up r 7 (-r 8)) 8 (r 7)) 10)) 10 ((va_up (va_up r 7 (-r 8)) 8 (r 7)) 9)) 13)) 13 ((va_up (va_up (va_up (va_up r 7 (-r 8)) 8 (r 7)) 9 (-(va_up (va_up r 7 (-r 8)) 8 (r 7)) 10)) 10 ((va_up (va_up r 7 (-r 8)) 8 (r 7)) 9)) 12)) 15)) 15 ((va_up (va_up (va_up (va_up (va_up (va_up r 7 (-r 8)) 8 (r 7)) 9 (-(va_up (va_up r 7 (-r 8)) 8 (r 7)) 10)) 10 ((va_up (va_up r 7 (-r 8)) 8 (r 7)) 9)) 12 (-(va_up (va_up (va_up (va_up r 7 (-r 8)) 8 (r 7)) 9 (-(va_up (va_up r 7 (-r 8)) 8 (r 7)) 10)) 10 ((va_up (va_up r 7 (-r 8)) 8 (r 7)) 9)) 13)) 13 ((va_up (va_up (va_up (va_up r 7 (-r 8)) 8 (r 7)) 9 (-(va_up (va_up r 7 (-r 8)) 8 (r 7)) 10)) 10 ((va_up (va_up r 7 (-r 8)) 8 (r 7)) 9)) 12)) 14)) 17 (-(va_up (va_up (va_up (va_up (va_up (va_up (va_up (va_up r 7 (-r 8)) 8 (r 7)) 9 (-(va_up (va_up r 7 (-r 8)) 8 (r 7)) 10)) 10 ((va_up (va_up r 7 (-r 8)) 8 (r 7)) 9)) 12 (-(va_up (va_up (va_up (va_up r 7 (-r 8)) 8 (r 7)) 9 (-(va_up (va_up r 7 (-r 8)) 8 (r 7)) 10)) 10 ((va_up (va_up r 7 (-r 8)) 8 (r 7)) 9)) 13)) 13 ((va_up (va_up (va_up (va_up r 7 (-r 8)) 8 (r 7)) 9 (-(va_up (va_up r 7 (-r 8)) 8 (r 7)) 10)) 10 ((va_up (va_up r 7 (-r 8)) 8 (r 7)) 9)) 12)) 14 (-(va_up (va_up (va_up (va_up (va_up (va_up r 7 (-r 8)) 8 (r 7)) 9 (-(va_up (va_up r 7 (-r 8)) 8 (r 7)) 10)) 10 ((va_up (va_up r 7 (-r 8)) 8 (r 7)) 9)) 12 (-(va_up (va_up (va_up (va_up r 7 (-r 8)) 8 (r 7)) 9 (-(va_up (va_up r 7 (-r 8)) 8 (r 7)) 10)) 10 ((va_up (va_up r 7 (-r 8)) 8 (r 7)) 9)) 13)) 13 ((va_up (va_up (va_up (va_up r 7 (-r 8)) 8 (r 7)) 9 (-(va_up (va_up r 7 (-r 8)) 8 (r 7)) 10)) 10 ((va_up (va_up r 7 (-r 8)) 8 (r 7)) 9)) 12)) 15)) 15 ((va_up (va_up (va_up (va_up (va_up (va_up r 7 (-r 8)) 8 (r 7)) 9 (-(va_up (va_up r 7 (-r 8)) 8 (r 7)) 10)) 10 ((va_up (va_up r 7 (-r 8)) 8 (r 7)) 9)) 12 (-(va_up (va_up (va_up (va_up r 7 (-r 8)) 8 (r 7)) 9 (-(va_up (va_up r 7 (-r 8)) 8 (r 7)) 10)) 10 ((va_up (va_up r 7 (-r 8)) 8 (r 7)) 9)) 13)) 13 ((va_up (va_up (va_up (va_up r 7 (-r 8)) 8 (r 7)) 9 (-(va_up (va_up r 7 (-r 8)) 8 (r 7)) 10)) 10 ((va_up (va_up r 7 (-r 8)) 8 (r 7)) 9)) 12)) 14)) 18)) 18 ((va_up (va_up (va_up (va_up (va_up (va_up (va_up (va_up r 7 (-r 8)) 8 (r 7)) 9 (-(va_up (va_up r 7 (-r 8)) 8 (r 7)) 10)) 10 ((va_up (va_up r 7 (-r 8)) 8 (r 7)) 9)) 12 (-(va_up (va_up (va_up (va_up r 7 (-r 8)) 8 (r 7)) 9 (-(va_up (va_up r 7 (-r 8)) 8 (r 7)) 10)) 10 ((va_up (va_up r 7 (-r 8)) 8 (r 7)) 9)) 13)) 13 ((va_up (va_up (va_up (va_up r 7 (-r 8)) 8 (r 7)) 9 (-(va_up (va_up r 7 (-r 8)) 8 (r 7)) 10)) 10 ((va_up (va_up r 7 (-r 8)) 8 (r 7)) 9)) 12)) 14 (-(va_up (va_up (va_up (va_up (va_up (va_up r 7 (-r 8)) 8 (r 7)) 9 (-(va_up (va_up r 7 (-r 8)) 8 (r 7)) 10)) 10 ((va_up (va_up r 7 (-r 8)) 8 (r 7)) 9)) 12 (-(va_up (va_up (va_up (va_up r 7 (-r 8)) 8 (r 7)) 9 (-(va_up (va_up r 7 (-r 8)) 8 (r 7)) 10)) 10 ((va_up (va_up r 7 (-r 8)) 8 (r 7)) 9)) 13)) 13 ((va_up (va_up (va_up (va_up r 7 (-r 8)) 8 (r 7)) 9 (-(va_up (va_up r 7 (-r 8)) 8 (r 7)) 10)) 10 ((va_up (va_up r 7 (-r 8)) 8 (r 7)) 9)) 12)) 15)) 15 ((va_up (va_up (va_up (va_up (va_up (va_up r 7 (-r 8)) 8 (r 7)) 9 (-(va_up (va_up r 7 (-r 8)) 8 (r 7)) 10)) 10 ((va_up (va_up r 7 (-r 8)) 8 (r 7)) 9)) 12 (-(va_up (va_up (va_up (va_up r 7 (-r 8)) 8 (r 7)) 9 (-(va_up (va_up r 7 (-r 8)) 8 (r 7)) 10)) 10 ((va_up (va_up r 7 (-r 8)) 8 (r 7)) 9)) 13)) 13 ((va_up (va_up (va_up (va_up r 7 (-r 8)) 8 (r 7)) 9 (-(va_up (va_up r 7 (-r 8)) 8 (r 7)) 10)) 10 ((va_up (va_up r 7 (-r 8)) 8 (r 7)) 9)) 12)) 14)) 17)) 20)) 20 ((va_up (va_up (va_up (va_up (va_up (va_up (va_up (va_up (va_up (va_up r 7 (-r 8)) 8 (r 7)) 9 (-(va_up (va_up r 7 (-r 8)) 8 (r 7)) 10)) 10 ((va_up (va_up r 7 (-r 8)) 8 (r 7)) 9)) 12 (-(va_up (va_up (va_up (va_up r 7 (-r 8)) 8 (r 7)) 9 (-(va_up (va_up r 7 (-r 8)) 8 (r 7)) 10)) 10 ((va_up (va_up r 7 (-r 8)) 8 (r 7)) 9)) 13)) 13 ((va_up (va_up (va_up (va_up r 7 (-r 8)) 8 (r 7)) 9 (-(va_up (va_up r 7 (-r 8)) 8 (r 7)) 10)) 10 ((va_up (va_up r 7 (-r 8)) 8 (r 7)) 9)) 12)) 14 (-(va_up (va_up (va_up (va_up (va_up (va_up r 7 (-r 8)) 8 (r 7)) 9 (-(va_up (va_up r 7 (-r 8)) 8 (r 7)) 10)) 10 ((va_up (va_up r 7 (-r 8)) 8 (r 7)) 9)) 12 (-(va_up (va_up (va_up (va_up r 7 (-r 8)) 8 (r 7)) 9 (-(va_up (va_up r 7 (-r 8)) 8 (r 7)) 10)) 10 ((va_up (va_up r 7 (-r 8)) 8 (r 7)) 9)) 13)) 13 ((va_up (va_up (va_up (va_up r 7 (-r 8)) 8 (r 7)) 9 (-(va_up (va_up r 7 (-r 8)) 8 (r 7)) 10)) 10 ((va_up (va_up r 7 (-r 8)) 8 (r 7)) 9)) 12)) 15)) 15 ((va_up (va_up (va_up (va_up (va_up (va_up r 7 (-r 8)) 8 (r 7)) 9 (-(va_up (va_up r 7 (-r 8)) 8 (r 7)) 10)) 10 ((va_up (va_up r 7 (-r 8)) 8 (r 7)) 9)) 12 (-(va_up (va_up (va_up (va_up r 7 (-r 8)) 8 (r 7)) 9 (-(va_up (va_up r 7 (-r 8)) 8 (r 7)) 10)) 10 ((va_up (va_up r 7 (-r 8)) 8 (r 7)) 9)) 13)) 13 ((va_up (va_up (va_up (va_up r 7 (-r 8)) 8 (r 7)) 9 (-(va_up (va_up r 7 (-r 8)) 8 (r 7)) 10)) 10 ((va_up (va_up r 7 (-r 8)) 8 (r 7)) 9)) 12)) 14)) 17 (-(va_up (va_up (va_up (va_up (va_up (va_up (va_up (va_up r 7 (-r 8)) 8 (r 7)) 9 (-(va_up (va_up r 7 (-r 8)) 8 (r 7)) 10)) 10 ((va_up (va_up r 7 (-r 8)) 8 (r 7)) 9)) 12 (-(va_up (va_up (va_up (va_up r 7 (-r 8)) 8 (r 7)) 9 (-(va_up (va_up r 7 (-r 8)) 8 (r 7)) 10)) 10 ((va_up (va_up r 7 (-r 8)) 8 (r 7)) 9)) 13)) 13 ((va_up (va_up (va_up (va_up r 7 (-r 8)) 8 (r 7)) 9 (-(va_up (va_up r 7 (-r 8)) 8 (r 7)) 10)) 10 ((va_up (va_up r 7 (-r 8)) 8 (r 7)) 9)) 12)) 14 (-(va_up (va_up (va_up (va_up (va_up (va_up r 7 (-r 8)) 8 (r 7)) 9 (-(va_up (va_up r 7 (-r 8)) 8 (r 7)) 10)) 10 ((va_up (va_up r 7 (-r 8)) 8 (r 7)) 9)) 12 (-(va_up (va_up (va_up (va_up r 7 (-r 8)) 8 (r 7)) 9 (-(va_up (va_up r 7 (-r 8)) 8 (r 7)) 10)) 10 ((va_up (va_up r 7 (-r 8)) 8 (r 7)) 9)) 13)) 13 ((va_up (va_up (va_up (va_up r 7 (-r 8)) 8 (r 7)) 9 (-(va_up (va_up r 7 (-r 8)) 8 (r 7)) 10)) 10 ((va_up (va_up r 7 (-r 8)) 8 (r 7)) 9)) 12)) 15)) 15 ((va_up (va_up (va_up (va_up (va_up (va_up r 7 (-r 8)) 8 (r 7)) 9 (-(va_up (va_up r 7 (-r 8)) 8 (r 7)) 10)) 10 ((va_up (va_up r 7 (-r 8)) 8 (r 7)) 9)) 12 (-(va_up (va_up (va_up (va_up r 7 (-r 8)) 8 (r 7)) 9 (-(va_up (va_up r 7 (-r 8)) 8 (r 7)) 10)) 10 ((va_up (va_up r 7 (-r 8)) 8 (r 7)) 9)) 13)) 13 ((va_up (va_up (va_up (va_up r 7 (-r 8)) 8 (r 7)) 9 (-(va_up (va_up r 7 (-r 8)) 8 (r 7)) 10)) 10 ((va_up (va_up r 7 (-r 8)) 8 (r 7)) 9)) 12)) 14)) 18)) 18 ((va_up (va_up (va_up (va_up (va_up (va_up (va_up (va_up r 7 (-r 8)) 8 (r 7)) 9 (-(va_up (va_up r 7 (-r 8)) 8 (r 7)) 10)) 10 ((va_up (va_up r 7 (-r 8)) 8 (r 7)) 9)) 12 (-(va_up (va_up (va_up (va_up r 7 (-r 8)) 8 (r 7)) 9 (-(va_up (va_up r 7 (-r 8)) 8 (r 7)) 10)) 10 ((va_up (va_up r 7 (-r 8)) 8 (r 7)) 9)) 13)) 13 ((va_up (va_up (va_up (va_up r 7 (-r 8)) 8 (r 7)) 9 (-(va_up (va_up r 7 (-r 8)) 8 (r 7)) 10)) 10 ((va_up (va_up r 7 (-r 8)) 8 (r 7)) 9)) 12)) 14 (-(va_up (va_up (va_up (va_up (va_up (va_up r 7 (-r 8)) 8 (r 7)) 9 (-(va_up (va_up r 7 (-r 8)) 8 (r 7)) 10)) 10 ((va_up (va_up r 7 (-r 8)) 8 (r 7)) 9)) 12 (-(va_up (va_up (va_up (va_up r 7 (-r 8)) 8 (r 7)) 9 (-(va_up (va_up r 7 (-r 8)) 8 (r 7)) 10)) 10 ((va_up (va_up r 7 (-r 8)) 8 (r 7)) 9)) 13)) 13 ((va_up (va_up (va_up (va_up r 7 (-r 8)) 8 (r 7)) 9 (-(va_up (va_up r 7 (-r 8)) 8 (r 7)) 10)) 10 ((va_up (va_up r 7 (-r 8)) 8 (r 7)) 9)) 12)) 15)) 15 ((va_up (va_up (va_up (va_up (va_up (va_up r 7 (-r 8)) 8 (r 7)) 9 (-(va_up (va_up r 7 (-r 8)) 8 (r 7)) 10)) 10 ((va_up (va_up r 7 (-r 8)) 8 (r 7)) 9)) 12 (-(va_up (va_up (va_up (va_up r 7 (-r 8)) 8 (r 7)) 9 (-(va_up (va_up r 7 (-r 8)) 8 (r 7)) 10)) 10 ((va_up (va_up r 7 (-r 8)) 8 (r 7)) 9)) 13)) 13 ((va_up (va_up (va_up (va_up r 7 (-r 8)) 8 (r 7)) 9 (-(va_up (va_up r 7 (-r 8)) 8 (r 7)) 10)) 10 ((va_up (va_up r 7 (-r 8)) 8 (r 7)) 9)) 12)) 14)) 17)) 19)))))]) 0 0 40 [(1, .int 2), (0, .ref (b 0))] []
  refine r_iinc hC 3 1 0 [(1, .int 3), (0, .ref (b 0))] dX6_turn_40 rfl (by decide) (Nat.le_of_ble_eq_true rfl) rfl 43 rfl ?_
  refine r_goto hC 11 dX6_turn_43 (by decide) ?_
  refine r_iload_n hC 0 dX6_turn_11 rfl 12 rfl ?_
  refine r_iconst hC 3 dX6_turn_12 ic_3 13 rfl ?_
  refine r_icge hC 46 dX6_turn_13 (by decide) 16 rfl (fun _ => ?_) (fun h => absurd h (by decide))
  exact r_vret hC (Nat.le_of_ble_eq_true rfl) (Nat.le_of_ble_eq_true rfl) (fun V9 h => hQ _ _ ⟨[(b 0, .inr (5, mF b (va_up (va_up (va_up i 0 0) 10 (nI (recN rc))) 11 0) j)), (b 1, .inl (1, 111, .inr (.inl (va_up (va_up (va_up (va_up (va_up (va_up (va_up (va_up (va_up (va_up (va_up (va_up r 7 (-r 8)) 8 (r 7)) 9 (-(va_up (va_up r 7 (-r 8)) 8 (r 7)) 10)) 10 ((va_up (va_up r 7 (-r 8)) 8 (r 7)) 9)) 12 (-(va_up (va_up (va_up (va_up r 7 (-r 8)) 8 (r 7)) 9 (-(va_up (va_up r 7 (-r 8)) 8 (r 7)) 10)) 10 ((va_up (va_up r 7 (-r 8)) 8 (r 7)) 9)) 13)) 13 ((va_up (va_up (va_up (va_up r 7 (-r 8)) 8 (r 7)) 9 (-(va_up (va_up r 7 (-r 8)) 8 (r 7)) 10)) 10 ((va_up (va_up r 7 (-r 8)) 8 (r 7)) 9)) 12)) 14 (-(va_up (va_up (va_up (va_up (va_up (va_up r 7 (-r 8)) 8 (r 7)) 9 (-(va_up (va_up r 7 (-r 8)) 8 (r 7)) 10)) 10 ((va_up (va_up r 7 (-r 8)) 8 (r 7)) 9)) 12 (-(va_up (va_up (va_up (va_up r 7 (-r 8)) 8 (r 7)) 9 (-(va_up (va_up r 7 (-r 8)) 8 (r 7)) 10)) 10 ((va_up (va_up r 7 (-r 8)) 8 (r 7)) 9)) 13)) 13 ((va_up (va_up (va_up (va_up r 7 (-r 8)) 8 (r 7)) 9 (-(va_up (va_up r 7 (-r 8)) 8 (r 7)) 10)) 10 ((va_up (va_up r 7 (-r 8)) 8 (r 7)) 9)) 12)) 15)) 15 ((va_up (va_up (va_up (va_up (va_up (va_up r 7 (-r 8)) 8 (r 7)) 9 (-(va_up (va_up r 7 (-r 8)) 8 (r 7)) 10)) 10 ((va_up (va_up r 7 (-r 8)) 8 (r 7)) 9)) 12 (-(va_up (va_up (va_up (va_up r 7 (-r 8)) 8 (r 7)) 9 (-(va_up (va_up r 7 (-r 8)) 8 (r 7)) 10)) 10 ((va_up (va_up r 7 (-r 8)) 8 (r 7)) 9)) 13)) 13 ((va_up (va_up (va_up (va_up r 7 (-r 8)) 8 (r 7)) 9 (-(va_up (va_up r 7 (-r 8)) 8 (r 7)) 10)) 10 ((va_up (va_up r 7 (-r 8)) 8 (r 7)) 9)) 12)) 14)) 17 (-(va_up (va_up (va_up (va_up (va_up (va_up (va_up (va_up r 7 (-r 8)) 8 (r 7)) 9 (-(va_up (va_up r 7 (-r 8)) 8 (r 7)) 10)) 10 ((va_up (va_up r 7 (-r 8)) 8 (r 7)) 9)) 12 (-(va_up (va_up (va_up (va_up r 7 (-r 8)) 8 (r 7)) 9 (-(va_up (va_up r 7 (-r 8)) 8 (r 7)) 10)) 10 ((va_up (va_up r 7 (-r 8)) 8 (r 7)) 9)) 13)) 13 ((va_up (va_up (va_up (va_up r 7 (-r 8)) 8 (r 7)) 9 (-(va_up (va_up r 7 (-r 8)) 8 (r 7)) 10)) 10 ((va_up (va_up r 7 (-r 8)) 8 (r 7)) 9)) 12)) 14 (-(va_up (va_up (va_up (va_up (va_up (va_up r 7 (-r 8)) 8 (r 7)) 9 (-(va_up (va_up r 7 (-r 8)) 8 (r 7)) 10)) 10 ((va_up (va_up r 7 (-r 8)) 8 (r 7)) 9)) 12 (-(va_up (va_up (va_up (va_up r 7 (-r 8)) 8 (r 7)) 9 (-(va_up (va_up r 7 (-r 8)) 8 (r 7)) 10)) 10 ((va_up (va_up r 7 (-r 8)) 8 (r 7)) 9)) 13)) 13 ((va_up (va_up (va_up (va_up r 7 (-r 8)) 8 (r 7)) 9 (-(va_up (va_up r 7 (-r 8)) 8 (r 7)) 10)) 10 ((va_up (va_up r 7 (-r 8)) 8 (r 7)) 9)) 12)) 15)) 15 ((va_up (va_up (va_up (va_up (va_up (va_up r 7 (-r 8)) 8 (r 7)) 9 (-(va_up (va_up r 7 (-r 8)) 8 (r 7)) 10)) 10 ((va_up (va_up r 7 (-r 8)) 8 (r 7)) 9)) 12 (-(va_up (va_up (va_up (va_up r 7 (-r 8)) 8 (r 7)) 9 (-(va_up (va_up r 7 (-r 8)) 8 (r 7)) 10)) 10 ((va_up (va_up r 7 (-r 8)) 8 (r 7)) 9)) 13)) 13 ((va_up (va_up (va_up (va_up r 7 (-r 8)) 8 (r 7)) 9 (-(va_up (va_up r 7 (-r 8)) 8 (r 7)) 10)) 10 ((va_up (va_up r 7 (-r 8)) 8 (r 7)) 9)) 12)) 14)) 18)) 18 ((va_up (va_up (va_up (va_up (va_up (va_up (va_up (va_up r 7 (-r 8)) 8 (r 7)) 9 (-(va_up (va_up r 7 (-r 8)) 8 (r 7)) 10)) 10 ((va_up (va_up r 7 (-r 8)) 8 (r 7)) 9)) 12 (-(va_up (va_up (va_up (va_up r 7 (-r 8)) 8 (r 7)) 9 (-(va_up (va_up r 7 (-r 8)) 8 (r 7)) 10)) 10 ((va_up (va_up r 7 (-r 8)) 8 (r 7)) 9)) 13)) 13 ((va_up (va_up (va_up (va_up r 7 (-r 8)) 8 (r 7)) 9 (-(va_up (va_up r 7 (-r 8)) 8 (r 7)) 10)) 10 ((va_up (va_up r 7 (-r 8)) 8 (r 7)) 9)) 12)) 14 (-(va_up (va_up (va_up (va_up (va_up (va_up r 7 (-r 8)) 8 (r 7)) 9 (-(va_up (va_up r 7 (-r 8)) 8 (r 7)) 10)) 10 ((va_up (va_up r 7 (-r 8)) 8 (r 7)) 9)) 12 (-(va_up (va_up (va_up (va_up r 7 (-r 8)) 8 (r 7)) 9 (-(va_up (va_up r 7 (-r 8)) 8 (r 7)) 10)) 10 ((va_up (va_up r 7 (-r 8)) 8 (r 7)) 9)) 13)) 13 ((va_up (va_up (va_up (va_up r 7 (-r 8)) 8 (r 7)) 9 (-(va_up (va_up r 7 (-r 8)) 8 (r 7)) 10)) 10 ((va_up (va_up r 7 (-r 8)) 8 (r 7)) 9)) 12)) 15)) 15 ((va_up (va_up (va_up (va_up (va_up (va_up r 7 (-r 8)) 8 (r 7)) 9 (-(va_up (va_up r 7 (-r 8)) 8 (r 7)) 10)) 10 ((va_up (va_up r 7 (-r 8)) 8 (r 7)) 9)) 12 (-(va_up (va_up (va_up (va_up r 7 (-r 8)) 8 (r 7)) 9 (-(va_up (va_up r 7 (-r 8)) 8 (r 7)) 10)) 10 ((va_up (va_up r 7 (-r 8)) 8 (r 7)) 9)) 13)) 13 ((va_up (va_up (va_up (va_up r 7 (-r 8)) 8 (r 7)) 9 (-(va_up (va_up r 7 (-r 8)) 8 (r 7)) 10)) 10 ((va_up (va_up r 7 (-r 8)) 8 (r 7)) 9)) 12)) 14)) 17)) 19 (-(va_up (va_up (va_up (va_up (va_up (va_up (va_up (va_up (va_up (va_up r 7 (-r 8)) 8 (r 7)) 9 (-(va_up (va_up r 7 (-r 8)) 8 (r 7)) 10)) 10 ((va_up (va_up r 7 (-r 8)) 8 (r 7)) 9)) 12 (-(va_up (va_up (va_up (va_up r 7 (-r 8)) 8 (r 7)) 9 (-(va_up (va_up r 7 (-r 8)) 8 (r 7)) 10)) 10 ((va_up (va_up r 7 (-r 8)) 8 (r 7)) 9)) 13)) 13 ((va_up (va_up (va_up (va_up r 7 (-r 8)) 8 (r 7)) 9 (-(va_up (va_up r 7 (-r 8)) 8 (r 7)) 10)) 10 ((va_up (va_up r 7 (-r 8)) 8 (r 7)) 9)) 12)) 14 (-(va_up (va_up (va_up (va_up (va_up (va_up r 7 (-r 8)) 8 (r 7)) 9 (-(va_up (va_up r 7 (-r 8)) 8 (r 7)) 10)) 10 ((va_up (va_up r 7 (-r 8)) 8 (r 7)) 9)) 12 (-(va_up (va_up (va_up (va_up r 7 (-r 8)) 8 (r 7)) 9 (-(va_up (va_up r 7 (-r 8)) 8 (r 7)) 10)) 10 ((va_up (va_up r 7 (-r 8)) 8 (r 7)) 9)) 13)) 13 ((va_up (va_up (va_up (va_up r 7 (-r 8)) 8 (r 7)) 9 (-(va_up (va_up r 7 (-r 8)) 8 (r 7)) 10)) 10 ((va_up (va_up r 7 (-r 8)) 8 (r 7)) 9)) 12)) 15)) 15 ((va_up (va_up (va_up (va_up (va_up (va_up r 7 (-r 8)) 8 (r 7)) 9 (-(va_up (va_up r 7 (-r 8)) 8 (r 7)) 10)) 10 ((va_up (va_up r 7 (-r 8)) 8 (r 7)) 9)) 12 (-(va_up (va_up (va_up (va_up r 7 (-r 8)) 8 (r 7)) 9 (-(va_up (va_up r 7 (-r 8)) 8 (r 7)) 10)) 10 ((va_up (va_up r 7 (-r 8)) 8 (r 7)) 9)) 13)) 13 ((va_up (va_up (va_up (va_up r 7 (-r 8)) 8 (r 7)) 9 (-(va_up (va_up r 7 (-r 8)) 8 (r 7)) 10)) 10 ((va_up (va_up r 7 (-r 8)) 8 (r 7)) 9)) 12)) 14)) 17 (-(va_up (va_up (va_up (va_up (va_up (va_up (va_up (va_up r 7 (-r 8)) 8 (r 7)) 9 (-(va_up (va_up r 7 (-r 8)) 8 (r 7)) 10)) 10 ((va_up (va_up r 7 (-r 8)) 8 (r 7)) 9)) 12 (-(va_up (va_up (va_up (va_up r 7 (-r 8)) 8 (r 7)) 9 (-(va_up (va_up r 7 (-r 8)) 8 (r 7)) 10)) 10 ((va_up (va_up r 7 (-r 8)) 8 (r 7)) 9)) 13)) 13 ((va_up (va_up (va_up (va_up r 7 (-r 8)) 8 (r 7)) 9 (-(va_up (va_up r 7 (-r 8)) 8 (r 7)) 10)) 10 ((va_up (va_up r 7 (-r 8)) 8 (r 7)) 9)) 12)) 14 (-(va_up (va_up (va_up (va_up (va_up (va_up r 7 (-r 8)) 8 (r 7)) 9 (-(va_up (va_up r 7 (-r 8)) 8 (r 7)) 10)) 10 ((va_up (va_up r 7 (-r 8)) 8 (r 7)) 9)) 12 (-(va_up (va_up (va_up (va_up r 7 (-r 8)) 8 (r 7)) 9 (-(va_up (va_up r 7 (-r 8)) 8 (r 7)) 10)) 10 ((va_up (va_up r 7 (-r 8)) 8 (r 7)) 9)) 13)) 13 ((va_up (va_up (va_up (va_up r 7 (-r 8)) 8 (r 7)) 9 (-(va_up (va_up r 7 (-r 8)) 8 (r 7)) 10)) 10 ((va_up (va_up r 7 (-r 8)) 8 (r 7)) 9)) 12)) 15)) 15 ((va_up (va_up (va_up (va_up (va_up (va_up r 7 (-r 8)) 8 (r 7)) 9 (-(va_up (va_up r 7 (-r 8)) 8 (r 7)) 10)) 10 ((va_up (va_up r 7 (-r 8)) 8 (r 7)) 9)) 12 (-(va_up (va_up (va_up (va_up r 7 (-r 8)) 8 (r 7)) 9 (-(va_up (va_up r 7 (-r 8)) 8 (r 7)) 10)) 10 ((va_up (va_up r 7 (-r 8)) 8 (r 7)) 9)) 13)) 13 ((va_up (va_up (va_up (va_up r 7 (-r 8)) 8 (r 7)) 9 (-(va_up (va_up r 7 (-r 8)) 8 (r 7)) 10)) 10 ((va_up (va_up r 7 (-r 8)) 8 (r 7)) 9)) 12)) 14)) 18)) 18 ((va_up (va_up (va_up (va_up (va_up (va_up (va_up (va_up r 7 (-r 8)) 8 (r 7)) 9 (-(va_up (va_up r 7 (-r 8)) 8 (r 7)) 10)) 10 ((va_up (va_up r 7 (-r 8)) 8 (r 7)) 9)) 12 (-(va_up (va_up (va_up (va_up r 7 (-r 8)) 8 (r 7)) 9 (-(va_up (va_up r 7 (-r 8)) 8 (r 7)) 10)) 10 ((va_up (va_up r 7 (-r 8)) 8 (r 7)) 9)) 13)) 13 ((va_up (va_up (va_up (va_up r 7 (-r 8)) 8 (r 7)) 9 (-(va_up (va_up r 7 (-r 8)) 8 (r 7)) 10)) 10 ((va_up (va_up r 7 (-r 8)) 8 (r 7)) 9)) 12)) 14 (-(va_up (va_up (va_up (va_up (va_up (va_up r 7 (-r 8)) 8 (r 7)) 9 (-(va_up (va_up r 7 (-r 8)) 8 (r 7)) 10)) 10 ((va_up (va_up r 7 (-r 8)) 8 (r 7)) 9)) 12 (-(va_up (va_up (va_up (va_up r 7 (-r 8)) 8 (r 7)) 9 (-(va_up (va_up r 7 (-r 8)) 8 (r 7)) 10)) 10 ((va_up (va_up r 7 (-r 8)) 8 (r 7)) 9)) 13)) 13 ((va_up (va_up (va_up (va_up r 7 (-r 8)) 8 (r 7)) 9 (-(va_up (va_up r 7 (-r 8)) 8 (r 7)) 10)) 10 ((va_up (va_up r 7 (-r 8)) 8 (r 7)) 9)) 12)) 15)) 15 ((va_up (va_up (va_up (va_up (va_up (va_up r 7 (-r 8)) 8 (r 7)) 9 (-(va_up (va_up r 7 (-r 8)) 8 (r 7)) 10)) 10 ((va_up (va_up r 7 (-r 8)) 8 (r 7)) 9)) 12 (-(va_up (va_up (va_up (va_up r 7 (-r 8)) 8 (r 7)) 9 (-(va_up (va_up r 7 (-r 8)) 8 (r 7)) 10)) 10 ((va_up (va_up r 7 (-r 8)) 8 (r 7)) 9)) 13)) 13 ((va_up (va_up (va_up (va_up r 7 (-r 8)) 8 (r 7)) 9 (-(va_up (va_up r 7 (-r 8)) 8 (r 7)) 10)) 10 ((va_up (va_up r 7 (-r 8)) 8 (r 7)) 9)) 12)) 14)) 17)) 20)) 20 ((va_up (va_up (va_up (va_up (va_up (va_up (va_up (va_up (va_up (va_up r 7 (-r 8)) 8 (r 7)) 9 (-(va_up (va_up r 7 (-r 8)) 8 (r 7)) 10)) 10 ((va_up (va_up r 7 (-r 8)) 8 (r 7)) 9)) 12 (-(va_up (va_up (va_up (va_up r 7 (-r 8)) 8 (r 7)) 9 (-(va_up (va_up r 7 (-r 8)) 8 (r 7)) 10)) 10 ((va_up (va_up r 7 (-r 8)) 8 (r 7)) 9)) 13)) 13 ((va_up (va_up (va_up (va_up r 7 (-r 8)) 8 (r 7)) 9 (-(va_up (va_up r 7 (-r 8)) 8 (r 7)) 10)) 10 ((va_up (va_up r 7 (-r 8)) 8 (r 7)) 9)) 12)) 14 (-(va_up (va_up (va_up (va_up (va_up (va_up r 7 (-r 8)) 8 (r 7)) 9 (-(va_up (va_up r 7 (-r 8)) 8 (r 7)) 10)) 10 ((va_up (va_up r 7 (-r 8)) 8 (r 7)) 9)) 12 (-(va_up (va_up (va_up (va_up r 7 (-r 8)) 8 (r 7)) 9 (-(va_up (va_up r 7 (-r 8)) 8 (r 7)) 10)) 10 ((va_up (va_up r 7 (-r 8)) 8 (r 7)) 9)) 13)) 13 ((va_up (va_up (va_up (va_up r 7 (-r 8)) 8 (r 7)) 9 (-(va_up (va_up r 7 (-r 8)) 8 (r 7)) 10)) 10 ((va_up (va_up r 7 (-r 8)) 8 (r 7)) 9)) 12)) 15)) 15 ((va_up (va_up (va_up (va_up (va_up (va_up r 7 (-r 8)) 8 (r 7)) 9 (-(va_up (va_up r 7 (-r 8)) 8 (r 7)) 10)) 10 ((va_up (va_up r 7 (-r 8)) 8 (r 7)) 9)) 12 (-(va_up (va_up (va_up (va_up r 7 (-r 8)) 8 (r 7)) 9 (-(va_up (va_up r 7 (-r 8)) 8 (r 7)) 10)) 10 ((va_up (va_up r 7 (-r 8)) 8 (r 7)) 9)) 13)) 13 ((va_up (va_up (va_up (va_up r 7 (-r 8)) 8 (r 7)) 9 (-(va_up (va_up r 7 (-r 8)) 8 (r 7)) 10)) 10 ((va_up (va_up r 7 (-r 8)) 8 (r 7)) 9)) 12)) 14)) 17 (-(va_up (va_up (va_up (va_up (va_up (va_up (va_up (va_up r 7 (-r 8)) 8 (r 7)) 9 (-(va_up (va_up r 7 (-r 8)) 8 (r 7)) 10)) 10 ((va_up (va_up r 7 (-r 8)) 8 (r 7)) 9)) 12 (-(va_up (va_up (va_up (va_up r 7 (-r 8)) 8 (r 7)) 9 (-(va_up (va_up r 7 (-r 8)) 8 (r 7)) 10)) 10 ((va_up (va_up r 7 (-r 8)) 8 (r 7)) 9)) 13)) 13 ((va_up (va_up (va_up (va_up r 7 (-r 8)) 8 (r 7)) 9 (-(va_up (va_up r 7 (-r 8)) 8 (r 7)) 10)) 10 ((va_up (va_up r 7 (-r 8)) 8 (r 7)) 9)) 12)) 14 (-(va_up (va_up (va_up (va_up (va_up (va_up r 7 (-r 8)) 8 (r 7)) 9 (-(va_up (va_up r 7 (-r 8)) 8 (r 7)) 10)) 10 ((va_up (va_up r 7 (-r 8)) 8 (r 7)) 9)) 12 (-(va_up (va_up (va_up (va_up r 7 (-r 8)) 8 (r 7)) 9 (-(va_up (va_up r 7 (-r 8)) 8 (r 7)) 10)) 10 ((va_up (va_up r 7 (-r 8)) 8 (r 7)) 9)) 13)) 13 ((va_up (va_up (va_up (va_up r 7 (-r 8)) 8 (r 7)) 9 (-(va_up (va_up r 7 (-r 8)) 8 (r 7)) 10)) 10 ((va_up (va_up r 7 (-r 8)) 8 (r 7)) 9)) 12)) 15)) 15 ((va_up (va_up (va_up (va_up (va_up (va_up r 7 (-r 8)) 8 (r 7)) 9 (-(va_up (va_up r 7 (-r 8)) 8 (r 7)) 10)) 10 ((va_up (va_up r 7 (-r 8)) 8 (r 7)) 9)) 12 (-(va_up (va_up (va_up (va_up r 7 (-r 8)) 8 (r 7)) 9 (-(va_up (va_up r 7 (-r 8)) 8 (r 7)) 10)) 10 ((va_up (va_up r 7 (-r 8)) 8 (r 7)) 9)) 13)) 13 ((va_up (va_up (va_up (va_up r 7 (-r 8)) 8 (r 7)) 9 (-(va_up (va_up r 7 (-r 8)) 8 (r 7)) 10)) 10 ((va_up (va_up r 7 (-r 8)) 8 (r 7)) 9)) 12)) 14)) 18)) 18 ((va_up (va_up (va_up (va_up (va_up (va_up (va_up (va_up r 7 (-r 8)) 8 (r 7)) 9 (-(va_up (va_up r 7 (-r 8)) 8 (r 7)) 10)) 10 ((va_up (va_up r 7 (-r 8)) 8 (r 7)) 9)) 12 (-(va_up (va_up (va_up (va_up r 7 (-r 8)) 8 (r 7)) 9 (-(va_up (va_up r 7 (-r 8)) 8 (r 7)) 10)) 10 ((va_up (va_up r 7 (-r 8)) 8 (r 7)) 9)) 13)) 13 ((va_up (va_up (va_up (va_up r 7 (-r 8)) 8 (r 7)) 9 (-(va_up (va_up r 7 (-r 8)) 8 (r 7)) 10)) 10 ((va_up (va_up r 7 (-r 8)) 8 (r 7)) 9)) 12)) 14 (-(va_up (va_up (va_up (va_up (va_up (va_up r 7 (-r 8)) 8 (r 7)) 9 (-(va_up (va_up r 7 (-r 8)) 8 (r 7)) 10)) 10 ((va_up (va_up r 7 (-r 8)) 8 (r 7)) 9)) 12 (-(va_up (va_up (va_up (va_up r 7 (-r 8)) 8 (r 7)) 9 (-(va_up (va_up r 7 (-r 8)) 8 (r 7)) 10)) 10 ((va_up (va_up r 7 (-r 8)) 8 (r 7)) 9)) 13)) 13 ((va_up (va_up (va_up (va_up r 7 (-r 8)) 8 (r 7)) 9 (-(va_up (va_up r 7 (-r 8)) 8 (r 7)) 10)) 10 ((va_up (va_up r 7 (-r 8)) 8 (r 7)) 9)) 12)) 15)) 15 ((va_up (va_up (va_up (va_up (va_up (va_up r 7 (-r 8)) 8 (r 7)) 9 (-(va_up (va_up r 7 (-r 8)) 8 (r 7)) 10)) 10 ((va_up (va_up r 7 (-r 8)) 8 (r 7)) 9)) 12 (-(va_up (va_up (va_up (va_up r 7 (-r 8)) 8 (r 7)) 9 (-(va_up (va_up r 7 (-r 8)) 8 (r 7)) 10)) 10 ((va_up (va_up r 7 (-r 8)) 8 (r 7)) 9)) 13)) 13 ((va_up (va_up (va_up (va_up r 7 (-r 8)) 8 (r 7)) 9 (-(va_up (va_up r 7 (-r 8)) 8 (r 7)) 10)) 10 ((va_up (va_up r 7 (-r 8)) 8 (r 7)) 9)) 12)) 14)) 17)) 19))))), (b 6, .inl (1, 1110, .inr (.inl (recH hy r rc))))], ⟨rfl, rfl⟩, by rw [← hV0, ← hF]; exact (h.sub [0, 2, 1] rfl rfl)⟩) dX6_turn_46
set_option maxHeartbeats 4000000 in
set_option maxRecDepth 100000 in
theorem metX6_undo0 (l : Launch) (G : xG) (hG : xGood G) (b : Nat → Nat) (i : Nat → Int32) (j : Nat → Int64) (r hy : Nat → Int64) (hi : i 10 = 0) : xWm l G yX6_undo (Cond.code yX6_undo cX6_undo 2 (some .int)) { frames := 0, locals := 0, cells := 0, slots := 0 } [.ref (b 0)] [(b 0, .inr (5, mF b i j)), (b 1, .inl (1, 111, .inr (.inl r))), (b 6, .inl (1, 1110, .inr (.inl hy)))] (fun v w' => v = some (.int (-1)) ∧ w' = [(b 0, .inr (5, mF b (va_up i 0 0) j)), (b 1, .inl (1, 111, .inr (.inl r))), (b 6, .inl (1, 1110, .inr (.inl hy)))]) (fun _ _ => False) := by
  intro V hV
  refine xMet_of RX6 hG rfl (by decide) (Nat.le_of_ble_eq_true rfl) fun C hC hQ hX hl hg _ => ?_
  subst hl hg
  obtain ⟨V0, hV0⟩ : ∃ V0, V0 = V := ⟨_, rfl⟩
  obtain ⟨F, hF⟩ : ∃ F, F = xF [(b 0, .inr (5, mF b i j)), (b 1, .inl (1, 111, .inr (.inl r))), (b 6, .inl (1, 1110, .inr (.inl hy)))] := ⟨_, rfl⟩
  refine rn.mono (J := xSt F V0 [(b 0, .inr (5, mF b i j)), (b 1, .inl (1, 111, .inr (.inl r))), (b 6, .inl (1, 1110, .inr (.inl hy)))]) (fun V9 h => by rw [h, hV0, hF]; exact hV.st) ?_
  show rn C (xSt F V0 [(b 0, .inr (5, mF b i j)), (b 1, .inl (1, 111, .inr (.inl r))), (b 6, .inl (1, 1110, .inr (.inl hy)))]) 0 0 0 [(0, .ref (b 0))] []
  refine r_aload_n hC 0 dX6_undo_0 rfl 1 rfl ?_
  refine r_iconst hC 0 dX6_undo_1 ic_0 2 rfl ?_
  refine r_put (J := xSt F V0 [(b 0, .inr (5, mF b (va_up i 0 0) j)), (b 1, .inl (1, 111, .inr (.inl r))), (b 6, .inl (1, 1110, .inr (.inl hy)))]) hC kX6 0 rfl q2753 rfl (fun _ h => h.get 0 rfl) (Nat.le_of_ble_eq_true rfl) rfl rfl dX6_undo_2 (fun _ h => h.set 0 _ rfl) 5 rfl ?_
  refine r_aload_n hC 0 dX6_undo_5 rfl 6 rfl ?_
  refine r_get (v := .int (i 10)) hC kX6 10 rfl q2763 (fun _ h => h.get 0 rfl) rfl dX6_undo_6 9 rfl ?_
  refine r_eqi (y := 0) (hi) ?_
  refine r_ifne hC 14 dX6_undo_9 (by decide) 12 rfl (fun h => absurd h (by decide)) (fun _ => ?_)
  refine r_iconst hC (-1) dX6_undo_12 ic_m1 13 rfl ?_
  exact r_iret hC (Nat.le_of_ble_eq_true rfl) (Nat.le_of_ble_eq_true rfl) (fun V9 h => hQ _ _ ⟨[(b 0, .inr (5, mF b (va_up i 0 0) j)), (b 1, .inl (1, 111, .inr (.inl r))), (b 6, .inl (1, 1110, .inr (.inl hy)))], ⟨rfl, by simp only [bx_uu]⟩, by rw [← hV0, ← hF]; exact h⟩) dX6_undo_13
set_option maxHeartbeats 4000000 in
set_option maxRecDepth 100000 in
theorem lpX6_undo {C : xC} {F : Nat → Prop} {V0 : xV} {k n : Nat} {rm : Room} (hC : xCtx C RX6 cX6_undo 2 (some .int) rm) (b : Nat → Nat) (i : Nat → Int32) (j : Nat → Int64) (r hy : Nat → Int64) (rc : Nat) (hrc : rc < 10) (kx : rn C (xSt F V0 [(b 0, .inr (5, mF b (va_up (va_up (va_up i 0 0) 10 (nI rc)) 11 0) j)), (b 1, .inl (1, 111, .inr (.inl (va_cpy hy r (111 * rc) 0 111)))), (b 6, .inl (1, 1110, .inr (.inl hy)))]) k n 63 [(0, .ref (b 0))] []) : ∀ m c : Nat, c + m = 111 → rn C (xSt F V0 [(b 0, .inr (5, mF b (va_up (va_up (va_up i 0 0) 10 (nI rc)) 11 0) j)), (b 1, .inl (1, 111, .inr (.inl (va_cpy hy r (111 * rc) 0 c)))), (b 6, .inl (1, 1110, .inr (.inl hy)))]) k n 31 [(1, .int (nI c)), (0, .ref (b 0))] [] := by
  intro m
  induction m with
  | zero =>
    intro c hc
    have hc : c = 111 := by omega
    subst hc
    refine r_iload_n hC 0 dX6_undo_31 rfl 32 rfl ?_
    refine r_bipush hC 111 dX6_undo_32 bp_111 34 rfl ?_
    refine r_icge hC 63 dX6_undo_34 (by decide) 37 rfl (fun _ => ?_) (fun h => absurd (Int32.le_refl _) h)
    refine rn.sub (lv' := [(0, .ref (b 0))]) [1] rfl ?_
    exact kx
  | succ m ih =>
    intro c hc
    refine r_iload_n hC 0 dX6_undo_31 rfl 32 rfl ?_
    refine r_bipush hC 111 dX6_undo_32 bp_111 34 rfl ?_
    refine r_icge hC 63 dX6_undo_34 (by decide) 37 rfl (fun h => absurd h (nI_ge (a := c) (b := 111) (by omega) (by decide))) (fun _ => ?_)
    refine r_aload_n hC 1 dX6_undo_37 rfl 38 rfl ?_
    refine r_get (v := .ref (b 1)) hC kX6 1 rfl q2754 (fun _ h => h.get 0 rfl) rfl dX6_undo_38 41 rfl ?_
    refine r_iload_n hC 0 dX6_undo_41 rfl 42 rfl ?_
    refine r_aload_n hC 1 dX6_undo_42 rfl 43 rfl ?_
    refine r_get (v := .ref (b 6)) hC kX6 6 rfl q2759 (fun _ h => h.get 0 rfl) rfl dX6_undo_43 46 rfl ?_
    refine r_bipush hC 111 dX6_undo_46 bp_111 48 rfl ?_
    refine r_aload_n hC 1 dX6_undo_48 rfl 49 rfl ?_
    refine r_get (v := .int (nI rc)) hC kX6 10 rfl q2763 (fun _ h => h.get 0 rfl) rfl dX6_undo_49 52 rfl ?_
    refine r_imul hC (nI (111 * rc)) dX6_undo_52  (pk_mul 111 rc) 53 rfl ?_
    refine r_iload_n hC 0 dX6_undo_53 rfl 54 rfl ?_
    refine r_iadd hC (nI (111 * rc + c)) dX6_undo_54  (nI_add (111 * rc) c) 55 rfl ?_
    refine r_lald hC (111 * rc + c) (xix_n (111 * rc + c) (by omega) (Nat.le_of_ble_eq_true rfl)) (fun _ h => h.get 2 rfl) (hy (111 * rc + c)) (rfl) dX6_undo_55 56 rfl ?_
    refine r_last (J := xSt F V0 [(b 0, .inr (5, mF b (va_up (va_up (va_up i 0 0) 10 (nI rc)) 11 0) j)), (b 1, .inl (1, 111, .inr (.inl (va_up (va_cpy hy r (111 * rc) 0 c) c (hy (111 * rc + c)))))), (b 6, .inl (1, 1110, .inr (.inl hy)))]) hC c (xix_n c (by omega) (Nat.le_of_ble_eq_true rfl)) (fun _ h => h.get 1 rfl) dX6_undo_56 (fun _ h => h.set 1 _ rfl) 57 rfl ?_
    refine r_iinc hC (nI (c + 1)) 1 0 [(1, .int (nI (c + 1))), (0, .ref (b 0))] dX6_undo_57 rfl (nI_add c 1) (Nat.le_of_ble_eq_true rfl) rfl 60 rfl ?_
    refine r_goto hC 31 dX6_undo_60 (by decide) ?_
    rw [show va_up (va_cpy hy r (111 * rc) 0 c) c (hy (111 * rc + c)) = va_cpy hy r (111 * rc) 0 (c + 1) from cpy_step (by omega) (rfl)]
    refine rn.sub (lv' := [(1, .int (nI (c + 1))), (0, .ref (b 0))]) [0, 1] rfl ?_
    exact ih (c + 1) (by omega)
def rowAt (hy : Nat → Int64) (rc : Nat) : Nat → Int64 := fun x => hy (111 * rc + x)
set_option maxHeartbeats 4000000 in
set_option maxRecDepth 100000 in
theorem metX6_undo1 (l : Launch) (G : xG) (hG : xGood G) (b : Nat → Nat) (i : Nat → Int32) (j : Nat → Int64) (r hy : Nat → Int64) (rc : Nat) (hrc : rc < 10) (hi : i 10 = nI (rc + 1)) : xWm l G yX6_undo (Cond.code yX6_undo cX6_undo 2 (some .int)) { frames := 0, locals := 0, cells := 0, slots := 0 } [.ref (b 0)] [(b 0, .inr (5, mF b i j)), (b 1, .inl (1, 111, .inr (.inl r))), (b 6, .inl (1, 1110, .inr (.inl hy)))] (fun v w' => v = some (.int (nI rc)) ∧ w' = [(b 0, .inr (5, mF b (va_up (va_up (va_up i 0 0) 10 (nI rc)) 11 0) j)), (b 1, .inl (1, 111, .inr (.inl (rowAt hy rc)))), (b 6, .inl (1, 1110, .inr (.inl hy)))]) (fun _ _ => False) := by
  intro V hV
  refine xMet_of RX6 hG rfl (by decide) (Nat.le_of_ble_eq_true rfl) fun C hC hQ hX hl hg _ => ?_
  subst hl hg
  obtain ⟨V0, hV0⟩ : ∃ V0, V0 = V := ⟨_, rfl⟩
  obtain ⟨F, hF⟩ : ∃ F, F = xF [(b 0, .inr (5, mF b i j)), (b 1, .inl (1, 111, .inr (.inl r))), (b 6, .inl (1, 1110, .inr (.inl hy)))] := ⟨_, rfl⟩
  refine rn.mono (J := xSt F V0 [(b 0, .inr (5, mF b i j)), (b 1, .inl (1, 111, .inr (.inl r))), (b 6, .inl (1, 1110, .inr (.inl hy)))]) (fun V9 h => by rw [h, hV0, hF]; exact hV.st) ?_
  show rn C (xSt F V0 [(b 0, .inr (5, mF b i j)), (b 1, .inl (1, 111, .inr (.inl r))), (b 6, .inl (1, 1110, .inr (.inl hy)))]) 0 0 0 [(0, .ref (b 0))] []
  refine r_aload_n hC 0 dX6_undo_0 rfl 1 rfl ?_
  refine r_iconst hC 0 dX6_undo_1 ic_0 2 rfl ?_
  refine r_put (J := xSt F V0 [(b 0, .inr (5, mF b (va_up i 0 0) j)), (b 1, .inl (1, 111, .inr (.inl r))), (b 6, .inl (1, 1110, .inr (.inl hy)))]) hC kX6 0 rfl q2753 rfl (fun _ h => h.get 0 rfl) (Nat.le_of_ble_eq_true rfl) rfl rfl dX6_undo_2 (fun _ h => h.set 0 _ rfl) 5 rfl ?_
  refine r_aload_n hC 0 dX6_undo_5 rfl 6 rfl ?_
  refine r_get (v := .int (i 10)) hC kX6 10 rfl q2763 (fun _ h => h.get 0 rfl) rfl dX6_undo_6 9 rfl ?_
  refine r_eqi (y := nI (rc + 1)) (hi) ?_
  refine r_ifne hC 14 dX6_undo_9 (by decide) 12 rfl (fun _ => ?_) (fun h => absurd h (nI_ne0 (by omega) (by omega)))
  refine r_aload_n hC 0 dX6_undo_14 rfl 15 rfl ?_
  refine r_dup hC dX6_undo_15 rfl 16 rfl ?_
  refine r_get (v := .int (i 10)) hC kX6 10 rfl q2763 (fun _ h => h.get 0 rfl) rfl dX6_undo_16 19 rfl ?_
  refine r_eqi (y := nI (rc + 1)) (hi) ?_
  refine r_iconst hC 1 dX6_undo_19 ic_1 20 rfl ?_
  refine r_isub hC (nI rc) dX6_undo_20  (nI_pred rc) 21 rfl ?_
  refine r_put (J := xSt F V0 [(b 0, .inr (5, mF b (va_up (va_up i 0 0) 10 (nI rc)) j)), (b 1, .inl (1, 111, .inr (.inl r))), (b 6, .inl (1, 1110, .inr (.inl hy)))]) hC kX6 10 rfl q2763 rfl (fun _ h => h.get 0 rfl) (Nat.le_of_ble_eq_true rfl) rfl rfl dX6_undo_21 (fun _ h => h.set 0 _ rfl) 24 rfl ?_
  refine r_aload_n hC 0 dX6_undo_24 rfl 25 rfl ?_
  refine r_iconst hC 0 dX6_undo_25 ic_0 26 rfl ?_
  refine r_put (J := xSt F V0 [(b 0, .inr (5, mF b (va_up (va_up (va_up i 0 0) 10 (nI rc)) 11 0) j)), (b 1, .inl (1, 111, .inr (.inl r))), (b 6, .inl (1, 1110, .inr (.inl hy)))]) hC kX6 11 rfl q2764 rfl (fun _ h => h.get 0 rfl) (Nat.le_of_ble_eq_true rfl) rfl rfl dX6_undo_26 (fun _ h => h.set 0 _ rfl) 29 rfl ?_
  refine r_iconst hC 0 dX6_undo_29 ic_0 30 rfl ?_
  refine r_istore_n hC 1 [(1, .int 0), (0, .ref (b 0))] dX6_undo_30 rfl (Nat.le_of_ble_eq_true rfl) rfl 31 rfl ?_
  refine rn.sub (lv' := [(1, .int 0), (0, .ref (b 0))]) [0, 1] rfl ?_
  refine rn.mono (J := xSt F V0 [(b 0, .inr (5, mF b (va_up (va_up (va_up i 0 0) 10 (nI rc)) 11 0) j)), (b 1, .inl (1, 111, .inr (.inl (va_cpy hy r (111 * rc) 0 0)))), (b 6, .inl (1, 1110, .inr (.inl hy)))]) (fun _ h => by rw [cpy_0]; exact h) ?_
  refine lpX6_undo hC b i j r hy rc hrc ?_ 111 0 rfl
  refine rn_cellJ (J := xSt F V0 [(b 0, .inr (5, mF b (va_up (va_up (va_up i 0 0) 10 (nI rc)) 11 0) j)), (b 1, .inl (1, 111, .inr (.inl (rowAt hy rc)))), (b 6, .inl (1, 1110, .inr (.inl hy)))]) (fun _ h => h.get 1 rfl) (fun x hx => (cpy_in (by omega) (by omega)).trans (by unfold rowAt; congr 1)) (fun _ h => h.set 1 _ rfl) ?_
  refine r_aload_n hC 0 dX6_undo_63 rfl 64 rfl ?_
  refine r_get (v := .int (nI rc)) hC kX6 10 rfl q2763 (fun _ h => h.get 0 rfl) rfl dX6_undo_64 67 rfl ?_
  exact r_iret hC (Nat.le_of_ble_eq_true rfl) (Nat.le_of_ble_eq_true rfl) (fun V9 h => hQ _ _ ⟨[(b 0, .inr (5, mF b (va_up (va_up (va_up i 0 0) 10 (nI rc)) 11 0) j)), (b 1, .inl (1, 111, .inr (.inl (rowAt hy rc)))), (b 6, .inl (1, 1110, .inr (.inl hy)))], ⟨rfl, rfl⟩, by rw [← hV0, ← hF]; exact h⟩) dX6_undo_67
set_option maxHeartbeats 4000000 in
set_option maxRecDepth 100000 in
theorem metX6_saveSnapshot (l : Launch) (G : xG) (hG : xGood G) (b : Nat → Nat) (i : Nat → Int32) (j : Nat → Int64) (r sv : Nat → Int64) : xWm l G yX6_saveSnapshot (Cond.code yX6_saveSnapshot cX6_saveSnapshot 1 none) { frames := 1, locals := 22, cells := 0, slots := 0 } [.ref (b 0)] [(b 0, .inr (5, mF b i j)), (b 1, .inl (1, 111, .inr (.inl r))), (b 5, .inl (1, 111, .inr (.inl sv)))] (fun v w' => v = none ∧ w' = [(b 0, .inr (5, mF b (va_up (va_up i 0 0) 9 1) j)), (b 1, .inl (1, 111, .inr (.inl r))), (b 5, .inl (1, 111, .inr (.inl r)))]) (fun _ _ => False) := by
  intro V hV
  refine xMet_of RX6 hG rfl (by decide) (Nat.le_of_ble_eq_true rfl) fun C hC hQ hX hl hg _ => ?_
  subst hl hg
  obtain ⟨V0, hV0⟩ : ∃ V0, V0 = V := ⟨_, rfl⟩
  obtain ⟨F, hF⟩ : ∃ F, F = xF [(b 0, .inr (5, mF b i j)), (b 1, .inl (1, 111, .inr (.inl r))), (b 5, .inl (1, 111, .inr (.inl sv)))] := ⟨_, rfl⟩
  refine rn.mono (J := xSt F V0 [(b 0, .inr (5, mF b i j)), (b 1, .inl (1, 111, .inr (.inl r))), (b 5, .inl (1, 111, .inr (.inl sv)))]) (fun V9 h => by rw [h, hV0, hF]; exact hV.st) ?_
  show rn C (xSt F V0 [(b 0, .inr (5, mF b i j)), (b 1, .inl (1, 111, .inr (.inl r))), (b 5, .inl (1, 111, .inr (.inl sv)))]) 0 0 0 [(0, .ref (b 0))] []
  refine r_aload_n hC 0 dX6_saveSnapshot_0 rfl 1 rfl ?_
  refine r_iconst hC 0 dX6_saveSnapshot_1 ic_0 2 rfl ?_
  refine r_put (J := xSt F V0 [(b 0, .inr (5, mF b (va_up i 0 0) j)), (b 1, .inl (1, 111, .inr (.inl r))), (b 5, .inl (1, 111, .inr (.inl sv)))]) hC kX6 0 rfl q2753 rfl (fun _ h => h.get 0 rfl) (Nat.le_of_ble_eq_true rfl) rfl rfl dX6_saveSnapshot_2 (fun _ h => h.set 0 _ rfl) 5 rfl ?_
  refine r_aload_n hC 0 dX6_saveSnapshot_5 rfl 6 rfl ?_
  refine r_get (v := .ref (b 1)) hC kX6 1 rfl q2754 (fun _ h => h.get 0 rfl) rfl dX6_saveSnapshot_6 9 rfl ?_
  refine r_aload_n hC 0 dX6_saveSnapshot_9 rfl 10 rfl ?_
  refine r_get (v := .ref (b 5)) hC kX6 5 rfl q2758 (fun _ h => h.get 0 rfl) rfl dX6_saveSnapshot_10 13 rfl ?_
  refine r_invSw hC [.ref (b 1), .ref (b 5)] [(b 0, .inr (5, mF b (va_up i 0 0) j))] mSX6_copy q2718 (metX6_copy _ _ hG (b 1) (b 5) _ _) [1, 2] [0] rfl rfl rfl rfl (by decide) ⟨rfl, rfl⟩ 0 0 rfl rfl (Nat.le_of_ble_eq_true rfl) (Nat.le_of_ble_eq_true rfl) rfl (Nat.le_of_ble_eq_true rfl) dX6_saveSnapshot_13 16 rfl (fun v1 w2 h3 => ?_) (fun _ _ h => h.elim)
  obtain ⟨rfl, rfl⟩ := h3
  show rn C (xSt F V0 [(b 0, .inr (5, mF b (va_up i 0 0) j)), (b 1, .inl (1, 111, .inr (.inl r))), (b 5, .inl (1, 111, .inr (.inl r)))]) 0 0 16 [(0, .ref (b 0))] []
  refine r_aload_n hC 0 dX6_saveSnapshot_16 rfl 17 rfl ?_
  refine r_iconst hC 1 dX6_saveSnapshot_17 ic_1 18 rfl ?_
  refine r_put (J := xSt F V0 [(b 0, .inr (5, mF b (va_up (va_up i 0 0) 9 1) j)), (b 1, .inl (1, 111, .inr (.inl r))), (b 5, .inl (1, 111, .inr (.inl r)))]) hC kX6 9 rfl q2762 rfl (fun _ h => h.get 0 rfl) (Nat.le_of_ble_eq_true rfl) rfl rfl dX6_saveSnapshot_18 (fun _ h => h.set 0 _ rfl) 21 rfl ?_
  exact r_vret hC (Nat.le_of_ble_eq_true rfl) (Nat.le_of_ble_eq_true rfl) (fun V9 h => hQ _ _ ⟨[(b 0, .inr (5, mF b (va_up (va_up i 0 0) 9 1) j)), (b 1, .inl (1, 111, .inr (.inl r))), (b 5, .inl (1, 111, .inr (.inl r)))], ⟨rfl, by simp only [bx_uu]⟩, by rw [← hV0, ← hF]; exact h⟩) dX6_saveSnapshot_21
set_option maxHeartbeats 4000000 in
set_option maxRecDepth 100000 in
theorem metX6_restoreSnapshot0 (l : Launch) (G : xG) (hG : xGood G) (b : Nat → Nat) (i : Nat → Int32) (j : Nat → Int64) (r sv : Nat → Int64) (hi : i 9 = 0) : xWm l G yX6_restoreSnapshot (Cond.code yX6_restoreSnapshot cX6_restoreSnapshot 1 (some .boolean)) { frames := 0, locals := 0, cells := 0, slots := 0 } [.ref (b 0)] [(b 0, .inr (5, mF b i j)), (b 1, .inl (1, 111, .inr (.inl r))), (b 5, .inl (1, 111, .inr (.inl sv)))] (fun v w' => v = some (.int 0) ∧ w' = [(b 0, .inr (5, mF b (va_up i 0 0) j)), (b 1, .inl (1, 111, .inr (.inl r))), (b 5, .inl (1, 111, .inr (.inl sv)))]) (fun _ _ => False) := by
  intro V hV
  refine xMet_of RX6 hG rfl (by decide) (Nat.le_of_ble_eq_true rfl) fun C hC hQ hX hl hg _ => ?_
  subst hl hg
  obtain ⟨V0, hV0⟩ : ∃ V0, V0 = V := ⟨_, rfl⟩
  obtain ⟨F, hF⟩ : ∃ F, F = xF [(b 0, .inr (5, mF b i j)), (b 1, .inl (1, 111, .inr (.inl r))), (b 5, .inl (1, 111, .inr (.inl sv)))] := ⟨_, rfl⟩
  refine rn.mono (J := xSt F V0 [(b 0, .inr (5, mF b i j)), (b 1, .inl (1, 111, .inr (.inl r))), (b 5, .inl (1, 111, .inr (.inl sv)))]) (fun V9 h => by rw [h, hV0, hF]; exact hV.st) ?_
  show rn C (xSt F V0 [(b 0, .inr (5, mF b i j)), (b 1, .inl (1, 111, .inr (.inl r))), (b 5, .inl (1, 111, .inr (.inl sv)))]) 0 0 0 [(0, .ref (b 0))] []
  refine r_aload_n hC 0 dX6_restoreSnapshot_0 rfl 1 rfl ?_
  refine r_iconst hC 0 dX6_restoreSnapshot_1 ic_0 2 rfl ?_
  refine r_put (J := xSt F V0 [(b 0, .inr (5, mF b (va_up i 0 0) j)), (b 1, .inl (1, 111, .inr (.inl r))), (b 5, .inl (1, 111, .inr (.inl sv)))]) hC kX6 0 rfl q2753 rfl (fun _ h => h.get 0 rfl) (Nat.le_of_ble_eq_true rfl) rfl rfl dX6_restoreSnapshot_2 (fun _ h => h.set 0 _ rfl) 5 rfl ?_
  refine r_aload_n hC 0 dX6_restoreSnapshot_5 rfl 6 rfl ?_
  refine r_get (v := .int (i 9)) hC kX6 9 rfl q2762 (fun _ h => h.get 0 rfl) rfl dX6_restoreSnapshot_6 9 rfl ?_
  refine r_eqi (y := 0) (hi) ?_
  refine r_ifne hC 14 dX6_restoreSnapshot_9 (by decide) 12 rfl (fun h => absurd h (by decide)) (fun _ => ?_)
  refine r_iconst hC 0 dX6_restoreSnapshot_12 ic_0 13 rfl ?_
  exact r_zret hC (by decide) (Nat.le_of_ble_eq_true rfl) (Nat.le_of_ble_eq_true rfl) (fun V9 h => hQ _ _ ⟨[(b 0, .inr (5, mF b (va_up i 0 0) j)), (b 1, .inl (1, 111, .inr (.inl r))), (b 5, .inl (1, 111, .inr (.inl sv)))], ⟨rfl, by simp only [bx_uu]⟩, by rw [← hV0, ← hF]; exact h⟩) dX6_restoreSnapshot_13
set_option maxHeartbeats 4000000 in
set_option maxRecDepth 100000 in
theorem metX6_restoreSnapshot1 (l : Launch) (G : xG) (hG : xGood G) (b : Nat → Nat) (i : Nat → Int32) (j : Nat → Int64) (r sv : Nat → Int64) (hi : i 9 = 1) : xWm l G yX6_restoreSnapshot (Cond.code yX6_restoreSnapshot cX6_restoreSnapshot 1 (some .boolean)) { frames := 1, locals := 22, cells := 0, slots := 0 } [.ref (b 0)] [(b 0, .inr (5, mF b i j)), (b 1, .inl (1, 111, .inr (.inl r))), (b 5, .inl (1, 111, .inr (.inl sv)))] (fun v w' => v = some (.int 1) ∧ w' = [(b 0, .inr (5, mF b (va_up (va_up (va_up i 0 0) 10 0) 11 0) j)), (b 1, .inl (1, 111, .inr (.inl sv))), (b 5, .inl (1, 111, .inr (.inl sv)))]) (fun _ _ => False) := by
  intro V hV
  refine xMet_of RX6 hG rfl (by decide) (Nat.le_of_ble_eq_true rfl) fun C hC hQ hX hl hg _ => ?_
  subst hl hg
  obtain ⟨V0, hV0⟩ : ∃ V0, V0 = V := ⟨_, rfl⟩
  obtain ⟨F, hF⟩ : ∃ F, F = xF [(b 0, .inr (5, mF b i j)), (b 1, .inl (1, 111, .inr (.inl r))), (b 5, .inl (1, 111, .inr (.inl sv)))] := ⟨_, rfl⟩
  refine rn.mono (J := xSt F V0 [(b 0, .inr (5, mF b i j)), (b 1, .inl (1, 111, .inr (.inl r))), (b 5, .inl (1, 111, .inr (.inl sv)))]) (fun V9 h => by rw [h, hV0, hF]; exact hV.st) ?_
  show rn C (xSt F V0 [(b 0, .inr (5, mF b i j)), (b 1, .inl (1, 111, .inr (.inl r))), (b 5, .inl (1, 111, .inr (.inl sv)))]) 0 0 0 [(0, .ref (b 0))] []
  refine r_aload_n hC 0 dX6_restoreSnapshot_0 rfl 1 rfl ?_
  refine r_iconst hC 0 dX6_restoreSnapshot_1 ic_0 2 rfl ?_
  refine r_put (J := xSt F V0 [(b 0, .inr (5, mF b (va_up i 0 0) j)), (b 1, .inl (1, 111, .inr (.inl r))), (b 5, .inl (1, 111, .inr (.inl sv)))]) hC kX6 0 rfl q2753 rfl (fun _ h => h.get 0 rfl) (Nat.le_of_ble_eq_true rfl) rfl rfl dX6_restoreSnapshot_2 (fun _ h => h.set 0 _ rfl) 5 rfl ?_
  refine r_aload_n hC 0 dX6_restoreSnapshot_5 rfl 6 rfl ?_
  refine r_get (v := .int (i 9)) hC kX6 9 rfl q2762 (fun _ h => h.get 0 rfl) rfl dX6_restoreSnapshot_6 9 rfl ?_
  refine r_eqi (y := 1) (hi) ?_
  refine r_ifne hC 14 dX6_restoreSnapshot_9 (by decide) 12 rfl (fun _ => ?_) (fun h => absurd h (by decide))
  refine r_aload_n hC 0 dX6_restoreSnapshot_14 rfl 15 rfl ?_
  refine r_get (v := .ref (b 5)) hC kX6 5 rfl q2758 (fun _ h => h.get 0 rfl) rfl dX6_restoreSnapshot_15 18 rfl ?_
  refine r_aload_n hC 0 dX6_restoreSnapshot_18 rfl 19 rfl ?_
  refine r_get (v := .ref (b 1)) hC kX6 1 rfl q2754 (fun _ h => h.get 0 rfl) rfl dX6_restoreSnapshot_19 22 rfl ?_
  refine r_invSw hC [.ref (b 5), .ref (b 1)] [(b 0, .inr (5, mF b (va_up i 0 0) j))] mSX6_copy q2718 (metX6_copy _ _ hG (b 5) (b 1) _ _) [2, 1] [0] rfl rfl rfl rfl (by decide) ⟨rfl, rfl⟩ 0 0 rfl rfl (Nat.le_of_ble_eq_true rfl) (Nat.le_of_ble_eq_true rfl) rfl (Nat.le_of_ble_eq_true rfl) dX6_restoreSnapshot_22 25 rfl (fun v1 w2 h3 => ?_) (fun _ _ h => h.elim)
  obtain ⟨rfl, rfl⟩ := h3
  show rn C (xSt F V0 [(b 0, .inr (5, mF b (va_up i 0 0) j)), (b 5, .inl (1, 111, .inr (.inl sv))), (b 1, .inl (1, 111, .inr (.inl sv)))]) 0 0 25 [(0, .ref (b 0))] []
  refine r_aload_n hC 0 dX6_restoreSnapshot_25 rfl 26 rfl ?_
  refine r_iconst hC 0 dX6_restoreSnapshot_26 ic_0 27 rfl ?_
  refine r_put (J := xSt F V0 [(b 0, .inr (5, mF b (va_up (va_up i 0 0) 10 0) j)), (b 5, .inl (1, 111, .inr (.inl sv))), (b 1, .inl (1, 111, .inr (.inl sv)))]) hC kX6 10 rfl q2763 rfl (fun _ h => h.get 0 rfl) (Nat.le_of_ble_eq_true rfl) rfl rfl dX6_restoreSnapshot_27 (fun _ h => h.set 0 _ rfl) 30 rfl ?_
  refine r_aload_n hC 0 dX6_restoreSnapshot_30 rfl 31 rfl ?_
  refine r_iconst hC 0 dX6_restoreSnapshot_31 ic_0 32 rfl ?_
  refine r_put (J := xSt F V0 [(b 0, .inr (5, mF b (va_up (va_up (va_up i 0 0) 10 0) 11 0) j)), (b 5, .inl (1, 111, .inr (.inl sv))), (b 1, .inl (1, 111, .inr (.inl sv)))]) hC kX6 11 rfl q2764 rfl (fun _ h => h.get 0 rfl) (Nat.le_of_ble_eq_true rfl) rfl rfl dX6_restoreSnapshot_32 (fun _ h => h.set 0 _ rfl) 35 rfl ?_
  refine r_iconst hC 1 dX6_restoreSnapshot_35 ic_1 36 rfl ?_
  exact r_zret hC (by decide) (Nat.le_of_ble_eq_true rfl) (Nat.le_of_ble_eq_true rfl) (fun V9 h => hQ _ _ ⟨[(b 0, .inr (5, mF b (va_up (va_up (va_up i 0 0) 10 0) 11 0) j)), (b 1, .inl (1, 111, .inr (.inl sv))), (b 5, .inl (1, 111, .inr (.inl sv)))], ⟨rfl, by simp only [bx_uu]⟩, by rw [← hV0, ← hF]; exact (h.sub [0, 2, 1] rfl rfl)⟩) dX6_restoreSnapshot_36
set_option maxHeartbeats 4000000 in
set_option maxRecDepth 100000 in
theorem metX6_pushG (l : Launch) (G : xG) (hG : xGood G) (b : Nat → Nat) (i : Nat → Int32) (j : Nat → Int64) (r hy : Nat → Int64) (rc : Nat) (hrc : rc ≤ 10) (hi : i 10 = nI rc) (p : Nat) (hp : p < 3) (x y : Int32) (hx : bI (m_in ((r (6 + 5 * p + 3)) + x.toInt64) (-1000000000) 1000000000) = 1) (hy2 : bI (m_in ((r (6 + 5 * p + 4)) + y.toInt64) (-1000000000) 1000000000) = 1) : xWm l G yX6_push (Cond.code yX6_push cX6_push 8 (some .int)) { frames := 2, locals := 46, cells := 0, slots := 0 } [.ref (b 0), .int (nI p), .int x, .int y] [(b 0, .inr (5, mF b i j)), (b 1, .inl (1, 111, .inr (.inl r))), (b 6, .inl (1, 1110, .inr (.inl hy)))] (fun v w' => v = some (.int 1) ∧ w' = [(b 0, .inr (5, mF b (va_up (va_up (va_up i 0 0) 10 (nI (recN rc))) 11 0) j)), (b 1, .inl (1, 111, .inr (.inl (va_up (va_up r (6 + 5 * p + 3) ((r (6 + 5 * p + 3)) + x.toInt64)) (6 + 5 * p + 4) ((r (6 + 5 * p + 4)) + y.toInt64))))), (b 6, .inl (1, 1110, .inr (.inl (recH hy r rc))))]) (fun _ _ => False) := by
  intro V hV
  refine xMet_of RX6 hG rfl (by decide) (Nat.le_of_ble_eq_true rfl) fun C hC hQ hX hl hg _ => ?_
  subst hl hg
  obtain ⟨V0, hV0⟩ : ∃ V0, V0 = V := ⟨_, rfl⟩
  obtain ⟨F, hF⟩ : ∃ F, F = xF [(b 0, .inr (5, mF b i j)), (b 1, .inl (1, 111, .inr (.inl r))), (b 6, .inl (1, 1110, .inr (.inl hy)))] := ⟨_, rfl⟩
  refine rn.mono (J := xSt F V0 [(b 0, .inr (5, mF b i j)), (b 1, .inl (1, 111, .inr (.inl r))), (b 6, .inl (1, 1110, .inr (.inl hy)))]) (fun V9 h => by rw [h, hV0, hF]; exact hV.st) ?_
  show rn C (xSt F V0 [(b 0, .inr (5, mF b i j)), (b 1, .inl (1, 111, .inr (.inl r))), (b 6, .inl (1, 1110, .inr (.inl hy)))]) 0 0 0 [(0, .ref (b 0)), (1, .int (nI p)), (2, .int x), (3, .int y)] []
  refine r_aload_n hC 0 dX6_push_0 rfl 1 rfl ?_
  refine r_iload_n hC 1 dX6_push_1 rfl 2 rfl ?_
  refine r_invVw hC kX6 (b 0) [.int (nI p)] [(b 1, .inl (1, 111, .inr (.inl r))), (b 6, .inl (1, 1110, .inr (.inl hy)))] mVX6_noBody q2996 0 rfl (metX6_noBody0 _ _ hG b _ _ p (by omega)) [0] [1, 2] rfl rfl rfl rfl (by decide) ⟨rfl, rfl⟩ 0 0 rfl rfl (Nat.le_of_ble_eq_true rfl) (Nat.le_of_ble_eq_true rfl) rfl (Nat.le_of_ble_eq_true rfl) dX6_push_2 5 rfl (fun v1 w2 h3 => ?_) (fun _ _ h => h.elim)
  obtain ⟨rfl, rfl⟩ := h3
  show rn C (xSt F V0 [(b 1, .inl (1, 111, .inr (.inl r))), (b 6, .inl (1, 1110, .inr (.inl hy))), (b 0, .inr (5, mF b (va_up i 0 0) j))]) 0 0 5 [(0, .ref (b 0)), (1, .int (nI p)), (2, .int x), (3, .int y)] [.int 0]
  refine r_ifeq hC 10 dX6_push_5 (by decide) 8 rfl (fun _ => ?_) (fun h => absurd h (by decide))
  refine r_aload_n hC 0 dX6_push_10 rfl 11 rfl ?_
  refine r_get (v := .ref (b 1)) hC kX6 1 rfl q2754 (fun _ h => h.get 2 rfl) rfl dX6_push_11 14 rfl ?_
  refine r_iload_n hC 1 dX6_push_14 rfl 15 rfl ?_
  refine r_iconst hC 3 dX6_push_15 ic_3 16 rfl ?_
  refine r_invSr hC [.int (nI p), .int 3] (.int (nI (6 + 5 * p + 3))) mSX6_at q2711 (metX6_at _ _ hG p 3) (fun _ _ => xIn.nil) ⟨rfl, rfl⟩ 0 0 rfl rfl (Nat.le_of_ble_eq_true rfl) (Nat.le_of_ble_eq_true rfl) rfl (Nat.le_of_ble_eq_true rfl) dX6_push_16 19 rfl ?_
  refine r_lald hC (6 + 5 * p + 3) (xix_n (6 + 5 * p + 3) (by omega) (Nat.le_of_ble_eq_true rfl)) (fun _ h => h.get 0 rfl) (r (6 + 5 * p + 3)) (rfl) dX6_push_19 20 rfl ?_
  refine r_iload_n hC 2 dX6_push_20 rfl 21 rfl ?_
  refine r_i2l hC x.toInt64 dX6_push_21 (rfl) 22 rfl ?_
  refine r_ladd hC ((r (6 + 5 * p + 3)) + x.toInt64) dX6_push_22  (rfl) 23 rfl ?_
  refine r_lstore hC 4 [(4, .long ((r (6 + 5 * p + 3)) + x.toInt64)), (0, .ref (b 0)), (1, .int (nI p)), (2, .int x), (3, .int y)] dX6_push_23 (Nat.le_of_ble_eq_true rfl) rfl 25 rfl ?_
  refine r_aload_n hC 1 dX6_push_25 rfl 26 rfl ?_
  refine r_get (v := .ref (b 1)) hC kX6 1 rfl q2754 (fun _ h => h.get 2 rfl) rfl dX6_push_26 29 rfl ?_
  refine r_iload_n hC 2 dX6_push_29 rfl 30 rfl ?_
  refine r_iconst hC 4 dX6_push_30 ic_4 31 rfl ?_
  refine r_invSr hC [.int (nI p), .int 4] (.int (nI (6 + 5 * p + 4))) mSX6_at q2711 (metX6_at _ _ hG p 4) (fun _ _ => xIn.nil) ⟨rfl, rfl⟩ 0 0 rfl rfl (Nat.le_of_ble_eq_true rfl) (Nat.le_of_ble_eq_true rfl) rfl (Nat.le_of_ble_eq_true rfl) dX6_push_31 34 rfl ?_
  refine r_lald hC (6 + 5 * p + 4) (xix_n (6 + 5 * p + 4) (by omega) (Nat.le_of_ble_eq_true rfl)) (fun _ h => h.get 0 rfl) (r (6 + 5 * p + 4)) (rfl) dX6_push_34 35 rfl ?_
  refine r_iload_n hC 4 dX6_push_35 rfl 36 rfl ?_
  refine r_i2l hC y.toInt64 dX6_push_36 (rfl) 37 rfl ?_
  refine r_ladd hC ((r (6 + 5 * p + 4)) + y.toInt64) dX6_push_37  (rfl) 38 rfl ?_
  refine r_lstore hC 6 [(6, .long ((r (6 + 5 * p + 4)) + y.toInt64)), (4, .long ((r (6 + 5 * p + 3)) + x.toInt64)), (0, .ref (b 0)), (1, .int (nI p)), (2, .int x), (3, .int y)] dX6_push_38 (Nat.le_of_ble_eq_true rfl) rfl 40 rfl ?_
  refine r_lload hC 1 dX6_push_40 rfl 42 rfl ?_
  refine r_ldc2 hC q3100 dX6_push_42 45 rfl ?_
  refine r_ldc2 hC q2926 dX6_push_45 48 rfl ?_
  refine r_invSr hC [.long ((r (6 + 5 * p + 3)) + x.toInt64), .long (-1000000000), .long 1000000000] (.int 1) mSX6_in q2891 (metX6_inB _ _ hG ((r (6 + 5 * p + 3)) + x.toInt64) (-1000000000) 1000000000 1 (hx)) (fun _ _ => xIn.nil) ⟨rfl, rfl⟩ 0 0 rfl rfl (Nat.le_of_ble_eq_true rfl) (Nat.le_of_ble_eq_true rfl) rfl (Nat.le_of_ble_eq_true rfl) dX6_push_48 51 rfl ?_
  refine r_ifeq hC 68 dX6_push_51 (by decide) 54 rfl (fun h => absurd h (by decide)) (fun _ => ?_)
  refine r_lload hC 0 dX6_push_54 rfl 56 rfl ?_
  refine r_ldc2 hC q3100 dX6_push_56 59 rfl ?_
  refine r_ldc2 hC q2926 dX6_push_59 62 rfl ?_
  refine r_invSr hC [.long ((r (6 + 5 * p + 4)) + y.toInt64), .long (-1000000000), .long 1000000000] (.int 1) mSX6_in q2891 (metX6_inB _ _ hG ((r (6 + 5 * p + 4)) + y.toInt64) (-1000000000) 1000000000 1 (hy2)) (fun _ _ => xIn.nil) ⟨rfl, rfl⟩ 0 0 rfl rfl (Nat.le_of_ble_eq_true rfl) (Nat.le_of_ble_eq_true rfl) rfl (Nat.le_of_ble_eq_true rfl) dX6_push_62 65 rfl ?_
  refine r_ifne hC 71 dX6_push_65 (by decide) 68 rfl (fun _ => ?_) (fun h => absurd h (by decide))
  refine r_aload_n hC 2 dX6_push_71 rfl 72 rfl ?_
  refine r_invVw hC kX6 (b 0) [] [] mVX6_begins q3114 2 rfl (metX6_begins _ _ hG b (va_up i 0 0) _ _ _ rc hrc (show (va_up i 0 0) 10 = nI rc from hi)) [2, 0, 1] [] rfl rfl rfl rfl (by decide) ⟨rfl, rfl⟩ 0 0 rfl rfl (Nat.le_of_ble_eq_true rfl) (Nat.le_of_ble_eq_true rfl) rfl (Nat.le_of_ble_eq_true rfl) dX6_push_72 75 rfl (fun v4 w5 h6 => ?_) (fun _ _ h => h.elim)
  obtain ⟨rfl, rfl⟩ := h6
  show rn C (xSt F V0 [(b 0, .inr (5, mF b (va_up (va_up (va_up i 0 0) 10 (nI (recN rc))) 11 0) j)), (b 1, .inl (1, 111, .inr (.inl r))), (b 6, .inl (1, 1110, .inr (.inl (recH hy r rc))))]) 0 0 75 [(6, .long ((r (6 + 5 * p + 4)) + y.toInt64)), (4, .long ((r (6 + 5 * p + 3)) + x.toInt64)), (0, .ref (b 0)), (1, .int (nI p)), (2, .int x), (3, .int y)] []
  refine r_aload_n hC 2 dX6_push_75 rfl 76 rfl ?_
  refine r_get (v := .ref (b 1)) hC kX6 1 rfl q2754 (fun _ h => h.get 0 rfl) rfl dX6_push_76 79 rfl ?_
  refine r_iload_n hC 3 dX6_push_79 rfl 80 rfl ?_
  refine r_iconst hC 3 dX6_push_80 ic_3 81 rfl ?_
  refine r_invSr hC [.int (nI p), .int 3] (.int (nI (6 + 5 * p + 3))) mSX6_at q2711 (metX6_at _ _ hG p 3) (fun _ _ => xIn.nil) ⟨rfl, rfl⟩ 0 0 rfl rfl (Nat.le_of_ble_eq_true rfl) (Nat.le_of_ble_eq_true rfl) rfl (Nat.le_of_ble_eq_true rfl) dX6_push_81 84 rfl ?_
  refine r_lload hC 1 dX6_push_84 rfl 86 rfl ?_
  refine r_last (J := xSt F V0 [(b 0, .inr (5, mF b (va_up (va_up (va_up i 0 0) 10 (nI (recN rc))) 11 0) j)), (b 1, .inl (1, 111, .inr (.inl (va_up r (6 + 5 * p + 3) ((r (6 + 5 * p + 3)) + x.toInt64))))), (b 6, .inl (1, 1110, .inr (.inl (recH hy r rc))))]) hC (6 + 5 * p + 3) (xix_n (6 + 5 * p + 3) (by omega) (Nat.le_of_ble_eq_true rfl)) (fun _ h => h.get 1 rfl) dX6_push_86 (fun _ h => h.set 1 _ rfl) 87 rfl ?_
  generalize hu7 : va_up r (6 + 5 * p + 3) ((r (6 + 5 * p + 3)) + x.toInt64) = u7
  refine r_aload_n hC 2 dX6_push_87 rfl 88 rfl ?_
  refine r_get (v := .ref (b 1)) hC kX6 1 rfl q2754 (fun _ h => h.get 0 rfl) rfl dX6_push_88 91 rfl ?_
  refine r_iload_n hC 3 dX6_push_91 rfl 92 rfl ?_
  refine r_iconst hC 4 dX6_push_92 ic_4 93 rfl ?_
  refine r_invSr hC [.int (nI p), .int 4] (.int (nI (6 + 5 * p + 4))) mSX6_at q2711 (metX6_at _ _ hG p 4) (fun _ _ => xIn.nil) ⟨rfl, rfl⟩ 0 0 rfl rfl (Nat.le_of_ble_eq_true rfl) (Nat.le_of_ble_eq_true rfl) rfl (Nat.le_of_ble_eq_true rfl) dX6_push_93 96 rfl ?_
  refine r_lload hC 0 dX6_push_96 rfl 98 rfl ?_
  refine r_last (J := xSt F V0 [(b 0, .inr (5, mF b (va_up (va_up (va_up i 0 0) 10 (nI (recN rc))) 11 0) j)), (b 1, .inl (1, 111, .inr (.inl (va_up u7 (6 + 5 * p + 4) ((r (6 + 5 * p + 4)) + y.toInt64))))), (b 6, .inl (1, 1110, .inr (.inl (recH hy r rc))))]) hC (6 + 5 * p + 4) (xix_n (6 + 5 * p + 4) (by omega) (Nat.le_of_ble_eq_true rfl)) (fun _ h => h.get 1 rfl) dX6_push_98 (fun _ h => h.set 1 _ rfl) 99 rfl ?_
  generalize hu8 : va_up u7 (6 + 5 * p + 4) ((r (6 + 5 * p + 4)) + y.toInt64) = u8
  refine r_iconst hC 1 dX6_push_99 ic_1 100 rfl ?_
  subst hu8
  subst hu7
  exact r_iret hC (Nat.le_of_ble_eq_true rfl) (Nat.le_of_ble_eq_true rfl) (fun V9 h => hQ _ _ ⟨[(b 0, .inr (5, mF b (va_up (va_up (va_up i 0 0) 10 (nI (recN rc))) 11 0) j)), (b 1, .inl (1, 111, .inr (.inl (va_up (va_up r (6 + 5 * p + 3) ((r (6 + 5 * p + 3)) + x.toInt64)) (6 + 5 * p + 4) ((r (6 + 5 * p + 4)) + y.toInt64))))), (b 6, .inl (1, 1110, .inr (.inl (recH hy r rc))))], ⟨rfl, by simp only [bx_uu]⟩, by rw [← hV0, ← hF]; exact h⟩) dX6_push_100
set_option maxHeartbeats 4000000 in
set_option maxRecDepth 100000 in
theorem metX6_pushB (l : Launch) (G : xG) (hG : xGood G) (b : Nat → Nat) (i : Nat → Int32) (j : Nat → Int64) (r hy : Nat → Int64) (x y z : Int32) (hx : bI (m_in x.toInt64 0 2) = 0) : xWm l G yX6_push (Cond.code yX6_push cX6_push 8 (some .int)) { frames := 2, locals := 46, cells := 0, slots := 0 } [.ref (b 0), .int x, .int y, .int z] [(b 0, .inr (5, mF b i j)), (b 1, .inl (1, 111, .inr (.inl r))), (b 6, .inl (1, 1110, .inr (.inl hy)))] (fun v w' => v = some (.int 0) ∧ w' = [(b 0, .inr (5, mF b (va_up i 0 1) j)), (b 1, .inl (1, 111, .inr (.inl r))), (b 6, .inl (1, 1110, .inr (.inl hy)))]) (fun _ _ => False) := by
  intro V hV
  refine xMet_of RX6 hG rfl (by decide) (Nat.le_of_ble_eq_true rfl) fun C hC hQ hX hl hg _ => ?_
  subst hl hg
  obtain ⟨V0, hV0⟩ : ∃ V0, V0 = V := ⟨_, rfl⟩
  obtain ⟨F, hF⟩ : ∃ F, F = xF [(b 0, .inr (5, mF b i j)), (b 1, .inl (1, 111, .inr (.inl r))), (b 6, .inl (1, 1110, .inr (.inl hy)))] := ⟨_, rfl⟩
  refine rn.mono (J := xSt F V0 [(b 0, .inr (5, mF b i j)), (b 1, .inl (1, 111, .inr (.inl r))), (b 6, .inl (1, 1110, .inr (.inl hy)))]) (fun V9 h => by rw [h, hV0, hF]; exact hV.st) ?_
  show rn C (xSt F V0 [(b 0, .inr (5, mF b i j)), (b 1, .inl (1, 111, .inr (.inl r))), (b 6, .inl (1, 1110, .inr (.inl hy)))]) 0 0 0 [(0, .ref (b 0)), (1, .int x), (2, .int y), (3, .int z)] []
  refine r_aload_n hC 0 dX6_push_0 rfl 1 rfl ?_
  refine r_iload_n hC 1 dX6_push_1 rfl 2 rfl ?_
  refine r_invVw hC kX6 (b 0) [.int x] [(b 1, .inl (1, 111, .inr (.inl r))), (b 6, .inl (1, 1110, .inr (.inl hy)))] mVX6_noBody q2996 0 rfl (metX6_noBody1 _ _ hG b _ _ x (hx)) [0] [1, 2] rfl rfl rfl rfl (by decide) ⟨rfl, rfl⟩ 0 0 rfl rfl (Nat.le_of_ble_eq_true rfl) (Nat.le_of_ble_eq_true rfl) rfl (Nat.le_of_ble_eq_true rfl) dX6_push_2 5 rfl (fun v1 w2 h3 => ?_) (fun _ _ h => h.elim)
  obtain ⟨rfl, rfl⟩ := h3
  show rn C (xSt F V0 [(b 1, .inl (1, 111, .inr (.inl r))), (b 6, .inl (1, 1110, .inr (.inl hy))), (b 0, .inr (5, mF b (va_up i 0 1) j))]) 0 0 5 [(0, .ref (b 0)), (1, .int x), (2, .int y), (3, .int z)] [.int 1]
  refine r_ifeq hC 10 dX6_push_5 (by decide) 8 rfl (fun h => absurd h (by decide)) (fun _ => ?_)
  refine r_iconst hC 0 dX6_push_8 ic_0 9 rfl ?_
  exact r_iret hC (Nat.le_of_ble_eq_true rfl) (Nat.le_of_ble_eq_true rfl) (fun V9 h => hQ _ _ ⟨[(b 0, .inr (5, mF b (va_up i 0 1) j)), (b 1, .inl (1, 111, .inr (.inl r))), (b 6, .inl (1, 1110, .inr (.inl hy)))], ⟨rfl, by simp only [bx_uu]⟩, by rw [← hV0, ← hF]; exact (h.sub [2, 0, 1] rfl rfl)⟩) dX6_push_9
set_option maxHeartbeats 4000000 in
set_option maxRecDepth 100000 in
theorem metX6_pushN1 (l : Launch) (G : xG) (hG : xGood G) (b : Nat → Nat) (i : Nat → Int32) (j : Nat → Int64) (r hy : Nat → Int64) (p : Nat) (hp : p < 3) (x y : Int32) (hx : bI (m_in ((r (6 + 5 * p + 3)) + x.toInt64) (-1000000000) 1000000000) = 0) : xWm l G yX6_push (Cond.code yX6_push cX6_push 8 (some .int)) { frames := 2, locals := 46, cells := 0, slots := 0 } [.ref (b 0), .int (nI p), .int x, .int y] [(b 0, .inr (5, mF b i j)), (b 1, .inl (1, 111, .inr (.inl r))), (b 6, .inl (1, 1110, .inr (.inl hy)))] (fun v w' => v = some (.int (-2)) ∧ w' = [(b 0, .inr (5, mF b (va_up i 0 0) j)), (b 1, .inl (1, 111, .inr (.inl r))), (b 6, .inl (1, 1110, .inr (.inl hy)))]) (fun _ _ => False) := by
  intro V hV
  refine xMet_of RX6 hG rfl (by decide) (Nat.le_of_ble_eq_true rfl) fun C hC hQ hX hl hg _ => ?_
  subst hl hg
  obtain ⟨V0, hV0⟩ : ∃ V0, V0 = V := ⟨_, rfl⟩
  obtain ⟨F, hF⟩ : ∃ F, F = xF [(b 0, .inr (5, mF b i j)), (b 1, .inl (1, 111, .inr (.inl r))), (b 6, .inl (1, 1110, .inr (.inl hy)))] := ⟨_, rfl⟩
  refine rn.mono (J := xSt F V0 [(b 0, .inr (5, mF b i j)), (b 1, .inl (1, 111, .inr (.inl r))), (b 6, .inl (1, 1110, .inr (.inl hy)))]) (fun V9 h => by rw [h, hV0, hF]; exact hV.st) ?_
  show rn C (xSt F V0 [(b 0, .inr (5, mF b i j)), (b 1, .inl (1, 111, .inr (.inl r))), (b 6, .inl (1, 1110, .inr (.inl hy)))]) 0 0 0 [(0, .ref (b 0)), (1, .int (nI p)), (2, .int x), (3, .int y)] []
  refine r_aload_n hC 0 dX6_push_0 rfl 1 rfl ?_
  refine r_iload_n hC 1 dX6_push_1 rfl 2 rfl ?_
  refine r_invVw hC kX6 (b 0) [.int (nI p)] [(b 1, .inl (1, 111, .inr (.inl r))), (b 6, .inl (1, 1110, .inr (.inl hy)))] mVX6_noBody q2996 0 rfl (metX6_noBody0 _ _ hG b _ _ p (by omega)) [0] [1, 2] rfl rfl rfl rfl (by decide) ⟨rfl, rfl⟩ 0 0 rfl rfl (Nat.le_of_ble_eq_true rfl) (Nat.le_of_ble_eq_true rfl) rfl (Nat.le_of_ble_eq_true rfl) dX6_push_2 5 rfl (fun v1 w2 h3 => ?_) (fun _ _ h => h.elim)
  obtain ⟨rfl, rfl⟩ := h3
  show rn C (xSt F V0 [(b 1, .inl (1, 111, .inr (.inl r))), (b 6, .inl (1, 1110, .inr (.inl hy))), (b 0, .inr (5, mF b (va_up i 0 0) j))]) 0 0 5 [(0, .ref (b 0)), (1, .int (nI p)), (2, .int x), (3, .int y)] [.int 0]
  refine r_ifeq hC 10 dX6_push_5 (by decide) 8 rfl (fun _ => ?_) (fun h => absurd h (by decide))
  refine r_aload_n hC 0 dX6_push_10 rfl 11 rfl ?_
  refine r_get (v := .ref (b 1)) hC kX6 1 rfl q2754 (fun _ h => h.get 2 rfl) rfl dX6_push_11 14 rfl ?_
  refine r_iload_n hC 1 dX6_push_14 rfl 15 rfl ?_
  refine r_iconst hC 3 dX6_push_15 ic_3 16 rfl ?_
  refine r_invSr hC [.int (nI p), .int 3] (.int (nI (6 + 5 * p + 3))) mSX6_at q2711 (metX6_at _ _ hG p 3) (fun _ _ => xIn.nil) ⟨rfl, rfl⟩ 0 0 rfl rfl (Nat.le_of_ble_eq_true rfl) (Nat.le_of_ble_eq_true rfl) rfl (Nat.le_of_ble_eq_true rfl) dX6_push_16 19 rfl ?_
  refine r_lald hC (6 + 5 * p + 3) (xix_n (6 + 5 * p + 3) (by omega) (Nat.le_of_ble_eq_true rfl)) (fun _ h => h.get 0 rfl) (r (6 + 5 * p + 3)) (rfl) dX6_push_19 20 rfl ?_
  refine r_iload_n hC 2 dX6_push_20 rfl 21 rfl ?_
  refine r_i2l hC x.toInt64 dX6_push_21 (rfl) 22 rfl ?_
  refine r_ladd hC ((r (6 + 5 * p + 3)) + x.toInt64) dX6_push_22  (rfl) 23 rfl ?_
  refine r_lstore hC 4 [(4, .long ((r (6 + 5 * p + 3)) + x.toInt64)), (0, .ref (b 0)), (1, .int (nI p)), (2, .int x), (3, .int y)] dX6_push_23 (Nat.le_of_ble_eq_true rfl) rfl 25 rfl ?_
  refine r_aload_n hC 1 dX6_push_25 rfl 26 rfl ?_
  refine r_get (v := .ref (b 1)) hC kX6 1 rfl q2754 (fun _ h => h.get 2 rfl) rfl dX6_push_26 29 rfl ?_
  refine r_iload_n hC 2 dX6_push_29 rfl 30 rfl ?_
  refine r_iconst hC 4 dX6_push_30 ic_4 31 rfl ?_
  refine r_invSr hC [.int (nI p), .int 4] (.int (nI (6 + 5 * p + 4))) mSX6_at q2711 (metX6_at _ _ hG p 4) (fun _ _ => xIn.nil) ⟨rfl, rfl⟩ 0 0 rfl rfl (Nat.le_of_ble_eq_true rfl) (Nat.le_of_ble_eq_true rfl) rfl (Nat.le_of_ble_eq_true rfl) dX6_push_31 34 rfl ?_
  refine r_lald hC (6 + 5 * p + 4) (xix_n (6 + 5 * p + 4) (by omega) (Nat.le_of_ble_eq_true rfl)) (fun _ h => h.get 0 rfl) (r (6 + 5 * p + 4)) (rfl) dX6_push_34 35 rfl ?_
  refine r_iload_n hC 4 dX6_push_35 rfl 36 rfl ?_
  refine r_i2l hC y.toInt64 dX6_push_36 (rfl) 37 rfl ?_
  refine r_ladd hC ((r (6 + 5 * p + 4)) + y.toInt64) dX6_push_37  (rfl) 38 rfl ?_
  refine r_lstore hC 6 [(6, .long ((r (6 + 5 * p + 4)) + y.toInt64)), (4, .long ((r (6 + 5 * p + 3)) + x.toInt64)), (0, .ref (b 0)), (1, .int (nI p)), (2, .int x), (3, .int y)] dX6_push_38 (Nat.le_of_ble_eq_true rfl) rfl 40 rfl ?_
  refine r_lload hC 1 dX6_push_40 rfl 42 rfl ?_
  refine r_ldc2 hC q3100 dX6_push_42 45 rfl ?_
  refine r_ldc2 hC q2926 dX6_push_45 48 rfl ?_
  refine r_invSr hC [.long ((r (6 + 5 * p + 3)) + x.toInt64), .long (-1000000000), .long 1000000000] (.int 0) mSX6_in q2891 (metX6_inB _ _ hG ((r (6 + 5 * p + 3)) + x.toInt64) (-1000000000) 1000000000 0 (hx)) (fun _ _ => xIn.nil) ⟨rfl, rfl⟩ 0 0 rfl rfl (Nat.le_of_ble_eq_true rfl) (Nat.le_of_ble_eq_true rfl) rfl (Nat.le_of_ble_eq_true rfl) dX6_push_48 51 rfl ?_
  refine r_ifeq hC 68 dX6_push_51 (by decide) 54 rfl (fun _ => ?_) (fun h => absurd h (by decide))
  refine r_bipush hC (-2) dX6_push_68 bp_m2 70 rfl ?_
  exact r_iret hC (Nat.le_of_ble_eq_true rfl) (Nat.le_of_ble_eq_true rfl) (fun V9 h => hQ _ _ ⟨[(b 0, .inr (5, mF b (va_up i 0 0) j)), (b 1, .inl (1, 111, .inr (.inl r))), (b 6, .inl (1, 1110, .inr (.inl hy)))], ⟨rfl, by simp only [bx_uu]⟩, by rw [← hV0, ← hF]; exact (h.sub [2, 0, 1] rfl rfl)⟩) dX6_push_70
set_option maxHeartbeats 4000000 in
set_option maxRecDepth 100000 in
theorem metX6_pushN2 (l : Launch) (G : xG) (hG : xGood G) (b : Nat → Nat) (i : Nat → Int32) (j : Nat → Int64) (r hy : Nat → Int64) (p : Nat) (hp : p < 3) (x y : Int32) (hx : bI (m_in ((r (6 + 5 * p + 3)) + x.toInt64) (-1000000000) 1000000000) = 1) (hy2 : bI (m_in ((r (6 + 5 * p + 4)) + y.toInt64) (-1000000000) 1000000000) = 0) : xWm l G yX6_push (Cond.code yX6_push cX6_push 8 (some .int)) { frames := 2, locals := 46, cells := 0, slots := 0 } [.ref (b 0), .int (nI p), .int x, .int y] [(b 0, .inr (5, mF b i j)), (b 1, .inl (1, 111, .inr (.inl r))), (b 6, .inl (1, 1110, .inr (.inl hy)))] (fun v w' => v = some (.int (-2)) ∧ w' = [(b 0, .inr (5, mF b (va_up i 0 0) j)), (b 1, .inl (1, 111, .inr (.inl r))), (b 6, .inl (1, 1110, .inr (.inl hy)))]) (fun _ _ => False) := by
  intro V hV
  refine xMet_of RX6 hG rfl (by decide) (Nat.le_of_ble_eq_true rfl) fun C hC hQ hX hl hg _ => ?_
  subst hl hg
  obtain ⟨V0, hV0⟩ : ∃ V0, V0 = V := ⟨_, rfl⟩
  obtain ⟨F, hF⟩ : ∃ F, F = xF [(b 0, .inr (5, mF b i j)), (b 1, .inl (1, 111, .inr (.inl r))), (b 6, .inl (1, 1110, .inr (.inl hy)))] := ⟨_, rfl⟩
  refine rn.mono (J := xSt F V0 [(b 0, .inr (5, mF b i j)), (b 1, .inl (1, 111, .inr (.inl r))), (b 6, .inl (1, 1110, .inr (.inl hy)))]) (fun V9 h => by rw [h, hV0, hF]; exact hV.st) ?_
  show rn C (xSt F V0 [(b 0, .inr (5, mF b i j)), (b 1, .inl (1, 111, .inr (.inl r))), (b 6, .inl (1, 1110, .inr (.inl hy)))]) 0 0 0 [(0, .ref (b 0)), (1, .int (nI p)), (2, .int x), (3, .int y)] []
  refine r_aload_n hC 0 dX6_push_0 rfl 1 rfl ?_
  refine r_iload_n hC 1 dX6_push_1 rfl 2 rfl ?_
  refine r_invVw hC kX6 (b 0) [.int (nI p)] [(b 1, .inl (1, 111, .inr (.inl r))), (b 6, .inl (1, 1110, .inr (.inl hy)))] mVX6_noBody q2996 0 rfl (metX6_noBody0 _ _ hG b _ _ p (by omega)) [0] [1, 2] rfl rfl rfl rfl (by decide) ⟨rfl, rfl⟩ 0 0 rfl rfl (Nat.le_of_ble_eq_true rfl) (Nat.le_of_ble_eq_true rfl) rfl (Nat.le_of_ble_eq_true rfl) dX6_push_2 5 rfl (fun v1 w2 h3 => ?_) (fun _ _ h => h.elim)
  obtain ⟨rfl, rfl⟩ := h3
  show rn C (xSt F V0 [(b 1, .inl (1, 111, .inr (.inl r))), (b 6, .inl (1, 1110, .inr (.inl hy))), (b 0, .inr (5, mF b (va_up i 0 0) j))]) 0 0 5 [(0, .ref (b 0)), (1, .int (nI p)), (2, .int x), (3, .int y)] [.int 0]
  refine r_ifeq hC 10 dX6_push_5 (by decide) 8 rfl (fun _ => ?_) (fun h => absurd h (by decide))
  refine r_aload_n hC 0 dX6_push_10 rfl 11 rfl ?_
  refine r_get (v := .ref (b 1)) hC kX6 1 rfl q2754 (fun _ h => h.get 2 rfl) rfl dX6_push_11 14 rfl ?_
  refine r_iload_n hC 1 dX6_push_14 rfl 15 rfl ?_
  refine r_iconst hC 3 dX6_push_15 ic_3 16 rfl ?_
  refine r_invSr hC [.int (nI p), .int 3] (.int (nI (6 + 5 * p + 3))) mSX6_at q2711 (metX6_at _ _ hG p 3) (fun _ _ => xIn.nil) ⟨rfl, rfl⟩ 0 0 rfl rfl (Nat.le_of_ble_eq_true rfl) (Nat.le_of_ble_eq_true rfl) rfl (Nat.le_of_ble_eq_true rfl) dX6_push_16 19 rfl ?_
  refine r_lald hC (6 + 5 * p + 3) (xix_n (6 + 5 * p + 3) (by omega) (Nat.le_of_ble_eq_true rfl)) (fun _ h => h.get 0 rfl) (r (6 + 5 * p + 3)) (rfl) dX6_push_19 20 rfl ?_
  refine r_iload_n hC 2 dX6_push_20 rfl 21 rfl ?_
  refine r_i2l hC x.toInt64 dX6_push_21 (rfl) 22 rfl ?_
  refine r_ladd hC ((r (6 + 5 * p + 3)) + x.toInt64) dX6_push_22  (rfl) 23 rfl ?_
  refine r_lstore hC 4 [(4, .long ((r (6 + 5 * p + 3)) + x.toInt64)), (0, .ref (b 0)), (1, .int (nI p)), (2, .int x), (3, .int y)] dX6_push_23 (Nat.le_of_ble_eq_true rfl) rfl 25 rfl ?_
  refine r_aload_n hC 1 dX6_push_25 rfl 26 rfl ?_
  refine r_get (v := .ref (b 1)) hC kX6 1 rfl q2754 (fun _ h => h.get 2 rfl) rfl dX6_push_26 29 rfl ?_
  refine r_iload_n hC 2 dX6_push_29 rfl 30 rfl ?_
  refine r_iconst hC 4 dX6_push_30 ic_4 31 rfl ?_
  refine r_invSr hC [.int (nI p), .int 4] (.int (nI (6 + 5 * p + 4))) mSX6_at q2711 (metX6_at _ _ hG p 4) (fun _ _ => xIn.nil) ⟨rfl, rfl⟩ 0 0 rfl rfl (Nat.le_of_ble_eq_true rfl) (Nat.le_of_ble_eq_true rfl) rfl (Nat.le_of_ble_eq_true rfl) dX6_push_31 34 rfl ?_
  refine r_lald hC (6 + 5 * p + 4) (xix_n (6 + 5 * p + 4) (by omega) (Nat.le_of_ble_eq_true rfl)) (fun _ h => h.get 0 rfl) (r (6 + 5 * p + 4)) (rfl) dX6_push_34 35 rfl ?_
  refine r_iload_n hC 4 dX6_push_35 rfl 36 rfl ?_
  refine r_i2l hC y.toInt64 dX6_push_36 (rfl) 37 rfl ?_
  refine r_ladd hC ((r (6 + 5 * p + 4)) + y.toInt64) dX6_push_37  (rfl) 38 rfl ?_
  refine r_lstore hC 6 [(6, .long ((r (6 + 5 * p + 4)) + y.toInt64)), (4, .long ((r (6 + 5 * p + 3)) + x.toInt64)), (0, .ref (b 0)), (1, .int (nI p)), (2, .int x), (3, .int y)] dX6_push_38 (Nat.le_of_ble_eq_true rfl) rfl 40 rfl ?_
  refine r_lload hC 1 dX6_push_40 rfl 42 rfl ?_
  refine r_ldc2 hC q3100 dX6_push_42 45 rfl ?_
  refine r_ldc2 hC q2926 dX6_push_45 48 rfl ?_
  refine r_invSr hC [.long ((r (6 + 5 * p + 3)) + x.toInt64), .long (-1000000000), .long 1000000000] (.int 1) mSX6_in q2891 (metX6_inB _ _ hG ((r (6 + 5 * p + 3)) + x.toInt64) (-1000000000) 1000000000 1 (hx)) (fun _ _ => xIn.nil) ⟨rfl, rfl⟩ 0 0 rfl rfl (Nat.le_of_ble_eq_true rfl) (Nat.le_of_ble_eq_true rfl) rfl (Nat.le_of_ble_eq_true rfl) dX6_push_48 51 rfl ?_
  refine r_ifeq hC 68 dX6_push_51 (by decide) 54 rfl (fun h => absurd h (by decide)) (fun _ => ?_)
  refine r_lload hC 0 dX6_push_54 rfl 56 rfl ?_
  refine r_ldc2 hC q3100 dX6_push_56 59 rfl ?_
  refine r_ldc2 hC q2926 dX6_push_59 62 rfl ?_
  refine r_invSr hC [.long ((r (6 + 5 * p + 4)) + y.toInt64), .long (-1000000000), .long 1000000000] (.int 0) mSX6_in q2891 (metX6_inB _ _ hG ((r (6 + 5 * p + 4)) + y.toInt64) (-1000000000) 1000000000 0 (hy2)) (fun _ _ => xIn.nil) ⟨rfl, rfl⟩ 0 0 rfl rfl (Nat.le_of_ble_eq_true rfl) (Nat.le_of_ble_eq_true rfl) rfl (Nat.le_of_ble_eq_true rfl) dX6_push_62 65 rfl ?_
  refine r_ifne hC 71 dX6_push_65 (by decide) 68 rfl (fun h => absurd h (by decide)) (fun _ => ?_)
  refine r_bipush hC (-2) dX6_push_68 bp_m2 70 rfl ?_
  exact r_iret hC (Nat.le_of_ble_eq_true rfl) (Nat.le_of_ble_eq_true rfl) (fun V9 h => hQ _ _ ⟨[(b 0, .inr (5, mF b (va_up i 0 0) j)), (b 1, .inl (1, 111, .inr (.inl r))), (b 6, .inl (1, 1110, .inr (.inl hy)))], ⟨rfl, by simp only [bx_uu]⟩, by rw [← hV0, ← hF]; exact (h.sub [2, 0, 1] rfl rfl)⟩) dX6_push_70
