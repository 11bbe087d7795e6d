/-! ===== the reference: query ===== -/
set_option maxRecDepth 100000
def qryF (bf : Nat → Int32) (e : Nat) : Bool := isW bf e 3379448 (.ok (tBeg bf e 0))
def qryP (bf : Nat → Int32) (e : Nat) : PS := if isW bf e 3379448 (.ok (tBeg bf e 0)) = true then nxP bf e (.ok (tBeg bf e 0)) else if isW bf e 257011 (.ok (tBeg bf e 0)) = true then nxP bf e (.ok (tBeg bf e 0)) else wrP 1 (.ok (tBeg bf e 0))
def qryR (bf : Nat → Int32) (e : Nat) : List Int32 × PS := mch bf e true [] [] (qryP bf e)
def evB (pv : Nat → Int32) (L : List Int32) : Bool := match evO pv L [] with
  | some [v] => decide (v = 1)
  | _ => false
theorem evB_of {pv : Nat → Int32} {L : List Int32} {v : Int32} (h : evO pv L [] = some [v]) : evB pv L = decide (v = 1) := by rw [evB, h]
def fstL (P : Nat → Bool) : Nat → Nat → Int32
  | 0, _ => -1
  | f + 1, a => if P a = true then nI a else fstL P f (a + 1)
def cntL (P : Nat → Bool) : Nat → Nat → Nat → Nat
  | 0, _, n => n
  | f + 1, a, n => cntL P f (a + 1) (if P a = true then n + 1 else n)
def qryV (bf : Nat → Int32) (e : Nat) (r : Nat → Int64) (mn : Nat) : Int32 := if qryF bf e = true then fstL (fun a => evB (pvQ r a) (qryR bf e).1) mn 0 else nI (cntL (fun a => evB (pvQ r a) (qryR bf e).1) mn 0 0)
theorem qryV_1 {bf : Nat → Int32} {e : Nat} {r : Nat → Int64} {mn : Nat} (h : qryF bf e = true) : qryV bf e r mn = fstL (fun a => evB (pvQ r a) (qryR bf e).1) mn 0 := if_pos h
theorem qryV_0 {bf : Nat → Int32} {e : Nat} {r : Nat → Int64} {mn : Nat} (h : qryF bf e = false) : qryV bf e r mn = nI (cntL (fun a => evB (pvQ r a) (qryR bf e).1) mn 0 0) := if_neg (nt h)
def qF (i i' : Nat → Int32) : Prop := ∀ k, k ≠ 0 → k ≠ 14 → k ≠ 15 → k ≠ 16 → k ≠ 17 → k ≠ 18 → k ≠ 21 → k ≠ 22 → k ≠ 36 → k ≠ 37 → k ≠ 38 → i' k = i k
theorem qF_of {i i8 i9 : Nat → Int32} (h8 : ∀ k, k ≠ 14 → k ≠ 15 → k ≠ 16 → k ≠ 17 → k ≠ 18 → k ≠ 21 → k ≠ 22 → i8 k = (va_up i 0 0) k) (h9 : qI i8 i9) : qF i i9 := fun k a0 a1 a2 a3 a4 a5 a6 a7 a8 a9 a10 => by
  rw [h9 k a3 a4 a5 a6 a7 a8 a9 a10, h8 k a1 a2 a3 a4 a5 a6 a7, up_ne a0]
theorem xWm_v {l : Launch} {G : xG} {y : MethodName} {w : Cond} {rm : Room} {As : List Value} {wc : xW} {u : Bool} {b9 : Bool} {P : (Nat → Int32) → xW → Prop} {X : Nat → xW → Prop} (h : xWm l G y w rm As wc (fun v w' => ∃ s, v = some (.int (bI u)) ∧ P s w') X) (e : u = b9) : xWm l G y w rm As wc (fun v w' => ∃ s, v = some (.int (bI b9)) ∧ P s w') X := e ▸ h
set_option maxHeartbeats 4000000 in
set_option maxRecDepth 100000 in
theorem lpX6_query1 {CC : xC} {F : Nat → Prop} {V0 : xV} (hG : xGood (xGG CC)) (hC : xCtx CC RX6 cX6_query 5 (some .int) { frames := 7, locals := 151, cells := 0, slots := 0 }) (b : Nat → Nat) (i : Nat → Int32) (j : Nat → Int64) (bf co wt : Nat → Int32) (r : Nat → Int64) (L : List Int32) (mn : Nat) (hmn : mn ≤ 30) (h5 : r 5 = lN mn) (hL : L.length ≤ 200) (h36 : i 36 = nI L.length) (hl : lsR L co) (hev : ∀ a, a < mn → ∃ v, evO (pvQ r a) L [] = some [v]) (R : Int32) (kF : ∀ (d : Nat) (sk : Nat → Int32), R = nI d → rn CC (xSt F V0 [(b 0, .inr (5, mF b i j)), (b 13, .inl (0, 600, .inl bf)), (b 33, .inl (0, 200, .inl co)), (b 34, .inl (0, 200, .inl wt)), (b 35, .inl (0, 200, .inl sk)), (b 1, .inl (1, 111, .inr (.inl r)))]) 0 0 129 [(4, .int (nI d))] []) (kx : ∀ sk : Nat → Int32, R = -1 → rn CC (xSt F V0 [(b 0, .inr (5, mF b i j)), (b 13, .inl (0, 600, .inl bf)), (b 33, .inl (0, 200, .inl co)), (b 34, .inl (0, 200, .inl wt)), (b 35, .inl (0, 200, .inl sk)), (b 1, .inl (1, 111, .inr (.inl r)))]) 0 0 141 [(3, .int 0), (2, .int 1)] []) : ∀ (f c : Nat) (sk : Nat → Int32), c + f = mn → R = fstL (fun a => evB (pvQ r a) L) f c → rn CC (xSt F V0 [(b 0, .inr (5, mF b i j)), (b 13, .inl (0, 600, .inl bf)), (b 33, .inl (0, 200, .inl co)), (b 34, .inl (0, 200, .inl wt)), (b 35, .inl (0, 200, .inl sk)), (b 1, .inl (1, 111, .inr (.inl r)))]) 0 0 100 [(4, .int (nI c)), (3, .int 0), (2, .int 1), (0, .ref (b 0))] [] := by
  intro f
  induction f with
  | zero =>
    intro c sk hc hR
    refine r_iload hC 0 dX6_query_100 rfl 102 rfl ?_
    refine r_i2l hC (lN c) dX6_query_102 (nI_l (by omega)) 103 rfl ?_
    refine r_aload_n hC 3 dX6_query_103 rfl 104 rfl ?_
    refine r_get (v := .ref (b 1)) hC kX6 1 rfl q2754 (fun _ h => h.get 0 rfl) rfl dX6_query_104 107 rfl ?_
    refine r_iconst hC 5 dX6_query_107 ic_5 108 rfl ?_
    refine r_lald hC 5 (xix_n 5 (Nat.le_of_ble_eq_true rfl) (Nat.le_of_ble_eq_true rfl)) (fun _ h => h.get 5 rfl) (r 5) (rfl) dX6_query_108 109 rfl ?_
    refine r_eql (y := lN mn) (h5) ?_
    refine r_lcge hC 141 dX6_query_109 dX6_query_110 (by decide) 113 rfl (fun _ => ?_) (fun h => absurd ((lN_le (by omega) (by omega)).mpr (by omega)) h)
    refine rn.sub (lv' := [(3, .int 0), (2, .int 1)]) [1, 2] rfl ?_
    exact kx sk (by rw [hR, fstL])
  | succ f ih =>
    intro c sk hc hR
    refine r_iload hC 0 dX6_query_100 rfl 102 rfl ?_
    refine r_i2l hC (lN c) dX6_query_102 (nI_l (by omega)) 103 rfl ?_
    refine r_aload_n hC 3 dX6_query_103 rfl 104 rfl ?_
    refine r_get (v := .ref (b 1)) hC kX6 1 rfl q2754 (fun _ h => h.get 0 rfl) rfl dX6_query_104 107 rfl ?_
    refine r_iconst hC 5 dX6_query_107 ic_5 108 rfl ?_
    refine r_lald hC 5 (xix_n 5 (Nat.le_of_ble_eq_true rfl) (Nat.le_of_ble_eq_true rfl)) (fun _ h => h.get 5 rfl) (r 5) (rfl) dX6_query_108 109 rfl ?_
    refine r_eql (y := lN mn) (h5) ?_
    refine r_lcge hC 141 dX6_query_109 dX6_query_110 (by decide) 113 rfl (fun h => absurd h (fun h => by have := (lN_le (by omega) (by omega)).mp h; omega)) (fun _ => ?_)
    obtain ⟨v, hv⟩ := hev c (by omega)
    refine r_aload_n hC 3 dX6_query_113 rfl 114 rfl ?_
    refine r_iload hC 0 dX6_query_114 rfl 116 rfl ?_
    rcases Bool.eq_false_or_eq_true (decide (v = 1)) with hk1 | hk1
    · skip
      refine r_invVw hC kX6 (b 0) [.int (nI c)] [(b 13, .inl (0, 600, .inl bf)), (b 34, .inl (0, 200, .inl wt))] mVX6_holds q3353 0 rfl (xWm_v (metX6_holds _ _ hG b i j co sk r L L.length c hL (by omega) h36 rfl hl v hv) hk1) [0, 2, 4, 5] [1, 3] rfl rfl rfl rfl (by decide) ⟨rfl, rfl⟩ 0 0 rfl rfl (Nat.le_of_ble_eq_true rfl) (Nat.le_of_ble_eq_true rfl) rfl (Nat.le_of_ble_eq_true rfl) dX6_query_116 119 rfl (fun v3 w4 h5 => ?_) (fun _ _ h => h.elim)
      obtain ⟨sk2, rfl, rfl⟩ := h5
      show rn CC (xSt F V0 [(b 13, .inl (0, 600, .inl bf)), (b 34, .inl (0, 200, .inl wt)), (b 0, .inr (5, mF b i j)), (b 33, .inl (0, 200, .inl co)), (b 35, .inl (0, 200, .inl sk2)), (b 1, .inl (1, 111, .inr (.inl r)))]) 0 0 119 [(4, .int (nI c)), (3, .int 0), (2, .int 1), (0, .ref (b 0))] [.int 1]
      refine r_ifne hC 125 dX6_query_119 (by decide) 122 rfl (fun _ => ?_) (fun h => absurd h (by decide))
      refine r_iload_n hC 2 dX6_query_125 rfl 126 rfl ?_
      refine r_ifeq hC 132 dX6_query_126 (by decide) 129 rfl (fun h => absurd h (by decide)) (fun _ => ?_)
      refine rn.sub (lv' := [(4, .int (nI c))]) [0] rfl ?_
      refine rn.mono (J := xSt F V0 [(b 0, .inr (5, mF b i j)), (b 13, .inl (0, 600, .inl bf)), (b 33, .inl (0, 200, .inl co)), (b 34, .inl (0, 200, .inl wt)), (b 35, .inl (0, 200, .inl sk2)), (b 1, .inl (1, 111, .inr (.inl r)))]) (fun _ h => h.sub [2, 0, 3, 1, 4, 5] rfl rfl) ?_
      exact kF c sk2 (by rw [hR, fstL]; exact if_pos ((evB_of hv).trans hk1))
    · skip
      refine r_invVw hC kX6 (b 0) [.int (nI c)] [(b 13, .inl (0, 600, .inl bf)), (b 34, .inl (0, 200, .inl wt))] mVX6_holds q3353 0 rfl (xWm_v (metX6_holds _ _ hG b i j co sk r L L.length c hL (by omega) h36 rfl hl v hv) hk1) [0, 2, 4, 5] [1, 3] rfl rfl rfl rfl (by decide) ⟨rfl, rfl⟩ 0 0 rfl rfl (Nat.le_of_ble_eq_true rfl) (Nat.le_of_ble_eq_true rfl) rfl (Nat.le_of_ble_eq_true rfl) dX6_query_116 119 rfl (fun v7 w8 h9 => ?_) (fun _ _ h => h.elim)
      obtain ⟨sk6, rfl, rfl⟩ := h9
      show rn CC (xSt F V0 [(b 13, .inl (0, 600, .inl bf)), (b 34, .inl (0, 200, .inl wt)), (b 0, .inr (5, mF b i j)), (b 33, .inl (0, 200, .inl co)), (b 35, .inl (0, 200, .inl sk6)), (b 1, .inl (1, 111, .inr (.inl r)))]) 0 0 119 [(4, .int (nI c)), (3, .int 0), (2, .int 1), (0, .ref (b 0))] [.int 0]
      refine r_ifne hC 125 dX6_query_119 (by decide) 122 rfl (fun h => absurd h (by decide)) (fun _ => ?_)
      refine r_goto hC 135 dX6_query_122 (by decide) ?_
      refine r_iinc hC (nI (c + 1)) 4 0 [(4, .int (nI (c + 1))), (3, .int 0), (2, .int 1), (0, .ref (b 0))] dX6_query_135 rfl (nI_add c 1) (Nat.le_of_ble_eq_true rfl) rfl 138 rfl ?_
      refine r_goto hC 100 dX6_query_138 (by decide) ?_
      refine rn.sub (lv' := [(4, .int (nI (c + 1))), (3, .int 0), (2, .int 1), (0, .ref (b 0))]) [0, 1, 2, 3] rfl ?_
      refine rn.mono (J := xSt F V0 [(b 0, .inr (5, mF b i j)), (b 13, .inl (0, 600, .inl bf)), (b 33, .inl (0, 200, .inl co)), (b 34, .inl (0, 200, .inl wt)), (b 35, .inl (0, 200, .inl sk6)), (b 1, .inl (1, 111, .inr (.inl r)))]) (fun _ h => h.sub [2, 0, 3, 1, 4, 5] rfl rfl) ?_
      exact ih (c + 1) sk6 (by omega) (by rw [hR, fstL]; exact if_neg (nt ((evB_of hv).trans hk1)))
set_option maxHeartbeats 4000000 in
set_option maxRecDepth 100000 in
theorem lpX6_query0 {CC : xC} {F : Nat → Prop} {V0 : xV} (hG : xGood (xGG CC)) (hC : xCtx CC RX6 cX6_query 5 (some .int) { frames := 7, locals := 151, cells := 0, slots := 0 }) (b : Nat → Nat) (i : Nat → Int32) (j : Nat → Int64) (bf co wt : Nat → Int32) (r : Nat → Int64) (L : List Int32) (mn : Nat) (hmn : mn ≤ 30) (h5 : r 5 = lN mn) (hL : L.length ≤ 200) (h36 : i 36 = nI L.length) (hl : lsR L co) (hev : ∀ a, a < mn → ∃ v, evO (pvQ r a) L [] = some [v]) (R : Nat) (kx : ∀ (sk : Nat → Int32) (n : Nat), R = n → rn CC (xSt F V0 [(b 0, .inr (5, mF b i j)), (b 13, .inl (0, 600, .inl bf)), (b 33, .inl (0, 200, .inl co)), (b 34, .inl (0, 200, .inl wt)), (b 35, .inl (0, 200, .inl sk)), (b 1, .inl (1, 111, .inr (.inl r)))]) 0 0 141 [(3, .int (nI n)), (2, .int 0)] []) : ∀ (f c n : Nat) (sk : Nat → Int32), c + f = mn → R = cntL (fun a => evB (pvQ r a) L) f c n → rn CC (xSt F V0 [(b 0, .inr (5, mF b i j)), (b 13, .inl (0, 600, .inl bf)), (b 33, .inl (0, 200, .inl co)), (b 34, .inl (0, 200, .inl wt)), (b 35, .inl (0, 200, .inl sk)), (b 1, .inl (1, 111, .inr (.inl r)))]) 0 0 100 [(4, .int (nI c)), (3, .int (nI n)), (2, .int 0), (0, .ref (b 0))] [] := by
  intro f
  induction f with
  | zero =>
    intro c n sk hc hR
    refine r_iload hC 0 dX6_query_100 rfl 102 rfl ?_
    refine r_i2l hC (lN c) dX6_query_102 (nI_l (by omega)) 103 rfl ?_
    refine r_aload_n hC 3 dX6_query_103 rfl 104 rfl ?_
    refine r_get (v := .ref (b 1)) hC kX6 1 rfl q2754 (fun _ h => h.get 0 rfl) rfl dX6_query_104 107 rfl ?_
    refine r_iconst hC 5 dX6_query_107 ic_5 108 rfl ?_
    refine r_lald hC 5 (xix_n 5 (Nat.le_of_ble_eq_true rfl) (Nat.le_of_ble_eq_true rfl)) (fun _ h => h.get 5 rfl) (r 5) (rfl) dX6_query_108 109 rfl ?_
    refine r_eql (y := lN mn) (h5) ?_
    refine r_lcge hC 141 dX6_query_109 dX6_query_110 (by decide) 113 rfl (fun _ => ?_) (fun h => absurd ((lN_le (by omega) (by omega)).mpr (by omega)) h)
    refine rn.sub (lv' := [(3, .int (nI n)), (2, .int 0)]) [1, 2] rfl ?_
    exact kx sk n (by rw [hR, cntL])
  | succ f ih =>
    intro c n sk hc hR
    refine r_iload hC 0 dX6_query_100 rfl 102 rfl ?_
    refine r_i2l hC (lN c) dX6_query_102 (nI_l (by omega)) 103 rfl ?_
    refine r_aload_n hC 3 dX6_query_103 rfl 104 rfl ?_
    refine r_get (v := .ref (b 1)) hC kX6 1 rfl q2754 (fun _ h => h.get 0 rfl) rfl dX6_query_104 107 rfl ?_
    refine r_iconst hC 5 dX6_query_107 ic_5 108 rfl ?_
    refine r_lald hC 5 (xix_n 5 (Nat.le_of_ble_eq_true rfl) (Nat.le_of_ble_eq_true rfl)) (fun _ h => h.get 5 rfl) (r 5) (rfl) dX6_query_108 109 rfl ?_
    refine r_eql (y := lN mn) (h5) ?_
    refine r_lcge hC 141 dX6_query_109 dX6_query_110 (by decide) 113 rfl (fun h => absurd h (fun h => by have := (lN_le (by omega) (by omega)).mp h; omega)) (fun _ => ?_)
    obtain ⟨v, hv⟩ := hev c (by omega)
    refine r_aload_n hC 3 dX6_query_113 rfl 114 rfl ?_
    refine r_iload hC 0 dX6_query_114 rfl 116 rfl ?_
    rcases Bool.eq_false_or_eq_true (decide (v = 1)) with hk1 | hk1
    · skip
      refine r_invVw hC kX6 (b 0) [.int (nI c)] [(b 13, .inl (0, 600, .inl bf)), (b 34, .inl (0, 200, .inl wt))] mVX6_holds q3353 0 rfl (xWm_v (metX6_holds _ _ hG b i j co sk r L L.length c hL (by omega) h36 rfl hl v hv) hk1) [0, 2, 4, 5] [1, 3] rfl rfl rfl rfl (by decide) ⟨rfl, rfl⟩ 0 0 rfl rfl (Nat.le_of_ble_eq_true rfl) (Nat.le_of_ble_eq_true rfl) rfl (Nat.le_of_ble_eq_true rfl) dX6_query_116 119 rfl (fun v3 w4 h5 => ?_) (fun _ _ h => h.elim)
      obtain ⟨sk2, rfl, rfl⟩ := h5
      show rn CC (xSt F V0 [(b 13, .inl (0, 600, .inl bf)), (b 34, .inl (0, 200, .inl wt)), (b 0, .inr (5, mF b i j)), (b 33, .inl (0, 200, .inl co)), (b 35, .inl (0, 200, .inl sk2)), (b 1, .inl (1, 111, .inr (.inl r)))]) 0 0 119 [(4, .int (nI c)), (3, .int (nI n)), (2, .int 0), (0, .ref (b 0))] [.int 1]
      refine r_ifne hC 125 dX6_query_119 (by decide) 122 rfl (fun _ => ?_) (fun h => absurd h (by decide))
      refine r_iload_n hC 2 dX6_query_125 rfl 126 rfl ?_
      refine r_ifeq hC 132 dX6_query_126 (by decide) 129 rfl (fun _ => ?_) (fun h => absurd h (by decide))
      refine r_iinc hC (nI (n + 1)) 3 1 [(3, .int (nI (n + 1))), (4, .int (nI c)), (2, .int 0), (0, .ref (b 0))] dX6_query_132 rfl (nI_add n 1) (Nat.le_of_ble_eq_true rfl) rfl 135 rfl ?_
      refine r_iinc hC (nI (c + 1)) 4 1 [(4, .int (nI (c + 1))), (3, .int (nI (n + 1))), (2, .int 0), (0, .ref (b 0))] dX6_query_135 rfl (nI_add c 1) (Nat.le_of_ble_eq_true rfl) rfl 138 rfl ?_
      refine r_goto hC 100 dX6_query_138 (by decide) ?_
      refine rn.sub (lv' := [(4, .int (nI (c + 1))), (3, .int (nI (n + 1))), (2, .int 0), (0, .ref (b 0))]) [0, 1, 2, 3] rfl ?_
      refine rn.mono (J := xSt F V0 [(b 0, .inr (5, mF b i j)), (b 13, .inl (0, 600, .inl bf)), (b 33, .inl (0, 200, .inl co)), (b 34, .inl (0, 200, .inl wt)), (b 35, .inl (0, 200, .inl sk2)), (b 1, .inl (1, 111, .inr (.inl r)))]) (fun _ h => h.sub [2, 0, 3, 1, 4, 5] rfl rfl) ?_
      exact ih (c + 1) (n + 1) sk2 (by omega) (by rw [hR, cntL]; exact congrArg (cntL (fun a => evB (pvQ r a) L) f (c + 1)) (if_pos ((evB_of hv).trans hk1)))
    · skip
      refine r_invVw hC kX6 (b 0) [.int (nI c)] [(b 13, .inl (0, 600, .inl bf)), (b 34, .inl (0, 200, .inl wt))] mVX6_holds q3353 0 rfl (xWm_v (metX6_holds _ _ hG b i j co sk r L L.length c hL (by omega) h36 rfl hl v hv) hk1) [0, 2, 4, 5] [1, 3] rfl rfl rfl rfl (by decide) ⟨rfl, rfl⟩ 0 0 rfl rfl (Nat.le_of_ble_eq_true rfl) (Nat.le_of_ble_eq_true rfl) rfl (Nat.le_of_ble_eq_true rfl) dX6_query_116 119 rfl (fun v7 w8 h9 => ?_) (fun _ _ h => h.elim)
      obtain ⟨sk6, rfl, rfl⟩ := h9
      show rn CC (xSt F V0 [(b 13, .inl (0, 600, .inl bf)), (b 34, .inl (0, 200, .inl wt)), (b 0, .inr (5, mF b i j)), (b 33, .inl (0, 200, .inl co)), (b 35, .inl (0, 200, .inl sk6)), (b 1, .inl (1, 111, .inr (.inl r)))]) 0 0 119 [(4, .int (nI c)), (3, .int (nI n)), (2, .int 0), (0, .ref (b 0))] [.int 0]
      refine r_ifne hC 125 dX6_query_119 (by decide) 122 rfl (fun h => absurd h (by decide)) (fun _ => ?_)
      refine r_goto hC 135 dX6_query_122 (by decide) ?_
      refine r_iinc hC (nI (c + 1)) 4 0 [(4, .int (nI (c + 1))), (3, .int (nI n)), (2, .int 0), (0, .ref (b 0))] dX6_query_135 rfl (nI_add c 1) (Nat.le_of_ble_eq_true rfl) rfl 138 rfl ?_
      refine r_goto hC 100 dX6_query_138 (by decide) ?_
      refine rn.sub (lv' := [(4, .int (nI (c + 1))), (3, .int (nI n)), (2, .int 0), (0, .ref (b 0))]) [0, 1, 2, 3] rfl ?_
      refine rn.mono (J := xSt F V0 [(b 0, .inr (5, mF b i j)), (b 13, .inl (0, 600, .inl bf)), (b 33, .inl (0, 200, .inl co)), (b 34, .inl (0, 200, .inl wt)), (b 35, .inl (0, 200, .inl sk6)), (b 1, .inl (1, 111, .inr (.inl r)))]) (fun _ h => h.sub [2, 0, 3, 1, 4, 5] rfl rfl) ?_
      exact ih (c + 1) n sk6 (by omega) (by rw [hR, cntL]; exact congrArg (cntL (fun a => evB (pvQ r a) L) f (c + 1)) (if_neg (nt ((evB_of hv).trans hk1))))
set_option maxHeartbeats 4000000 in
set_option maxRecDepth 100000 in
theorem metX6_queryG (l : Launch) (G : xG) (hG : xGood G) (b : Nat → Nat) (i : Nat → Int32) (j : Nat → Int64) (bf co wt sk : Nat → Int32) (r : Nat → Int64) (e N mn : Nat) (heN : e ≤ N) (hN : N ≤ 600) (he2 : e ≤ 200) (h14 : i 14 = nI N) (hmn : mn ≤ 30) (h5 : r 5 = lN mn) (hev : okP (qryR bf e).2 = true → ∀ a, a < mn → ∃ v, evO (pvQ r a) (qryR bf e).1 [] = some [v]) : xWm l G yX6_query (Cond.code yX6_query cX6_query 5 (some .int)) { frames := 7, locals := 151, cells := 0, slots := 0 } [.ref (b 0), .int (nI e)] [(b 0, .inr (5, mF b i j)), (b 13, .inl (0, 600, .inl bf)), (b 33, .inl (0, 200, .inl co)), (b 34, .inl (0, 200, .inl wt)), (b 35, .inl (0, 200, .inl sk)), (b 1, .inl (1, 111, .inr (.inl r)))] (fun v w' => (∃ (c : Int32) (p : Nat) (i' : Nat → Int32) (j' : Nat → Int64) (co' wt' sk' : Nat → Int32), (qryR bf e).2 = .error (c, p) ∧ v = some (.int (-1000000000 - c)) ∧ w' = [(b 0, .inr (5, mF b i' j')), (b 13, .inl (0, 600, .inl bf)), (b 33, .inl (0, 200, .inl co')), (b 34, .inl (0, 200, .inl wt')), (b 35, .inl (0, 200, .inl sk')), (b 1, .inl (1, 111, .inr (.inl r)))] ∧ i' 0 = 0 ∧ i' 14 = 0 ∧ i' 22 = nI p ∧ qF i i' ∧ fJ j j') ∨ (∃ (i' : Nat → Int32) (j' : Nat → Int64) (co' wt' sk' : Nat → Int32), okP (qryR bf e).2 = true ∧ v = some (.int (qryV bf e r mn)) ∧ w' = [(b 0, .inr (5, mF b i' j')), (b 13, .inl (0, 600, .inl bf)), (b 33, .inl (0, 200, .inl co')), (b 34, .inl (0, 200, .inl wt')), (b 35, .inl (0, 200, .inl sk')), (b 1, .inl (1, 111, .inr (.inl r)))] ∧ i' 0 = 0 ∧ i' 14 = 0 ∧ i' 22 = -1 ∧ qF i i' ∧ fJ j j')) (fun _ _ => False) := by
  intro V hV
  refine xMet_of RX6 hG rfl (by decide) (Nat.le_of_ble_eq_true rfl) fun C hC hQ hX hl hg _ => ?_
  subst hl hg
  have he : e ≤ 600 := by omega
  obtain ⟨V0, hV0⟩ : ∃ V0, V0 = V := ⟨_, rfl⟩
  obtain ⟨F, hF⟩ : ∃ F, F = xF [(b 0, .inr (5, mF b i j)), (b 13, .inl (0, 600, .inl bf)), (b 33, .inl (0, 200, .inl co)), (b 34, .inl (0, 200, .inl wt)), (b 35, .inl (0, 200, .inl sk)), (b 1, .inl (1, 111, .inr (.inl r)))] := ⟨_, rfl⟩
  refine rn.mono (J := xSt F V0 [(b 0, .inr (5, mF b i j)), (b 13, .inl (0, 600, .inl bf)), (b 33, .inl (0, 200, .inl co)), (b 34, .inl (0, 200, .inl wt)), (b 35, .inl (0, 200, .inl sk)), (b 1, .inl (1, 111, .inr (.inl r)))]) (fun V9 h => by rw [h, hV0, hF]; exact hV.st) ?_
  show rn C (xSt F V0 [(b 0, .inr (5, mF b i j)), (b 13, .inl (0, 600, .inl bf)), (b 33, .inl (0, 200, .inl co)), (b 34, .inl (0, 200, .inl wt)), (b 35, .inl (0, 200, .inl sk)), (b 1, .inl (1, 111, .inr (.inl r)))]) 0 0 0 [(0, .ref (b 0)), (1, .int (nI e))] []
  refine r_aload_n hC 0 dX6_query_0 rfl 1 rfl ?_
  refine r_iconst hC 0 dX6_query_1 ic_0 2 rfl ?_
  refine r_put (J := xSt F V0 [(b 0, .inr (5, mF b (va_up i 0 0) j)), (b 13, .inl (0, 600, .inl bf)), (b 33, .inl (0, 200, .inl co)), (b 34, .inl (0, 200, .inl wt)), (b 35, .inl (0, 200, .inl sk)), (b 1, .inl (1, 111, .inr (.inl r)))]) hC kX6 0 rfl q2753 rfl (fun _ h => h.get 0 rfl) (Nat.le_of_ble_eq_true rfl) rfl rfl dX6_query_2 (fun _ h => h.set 0 _ rfl) 5 rfl ?_
  refine r_aload_n hC 0 dX6_query_5 rfl 6 rfl ?_
  refine r_iload_n hC 1 dX6_query_6 rfl 7 rfl ?_
  refine r_i2l hC ((nI e).toInt64) dX6_query_7 (rfl) 8 rfl ?_
  refine r_lconst hC 0 dX6_query_8 lc_0 9 rfl ?_
  refine r_aload_n hC 0 dX6_query_9 rfl 10 rfl ?_
  refine r_get (v := .int (i 14)) hC kX6 14 rfl q2767 (fun _ h => h.get 0 rfl) rfl dX6_query_10 13 rfl ?_
  refine r_eqi (y := nI N) (h14) ?_
  refine r_sipush hC 200 dX6_query_13 sp_200 16 rfl ?_
  refine r_icge hC 27 dX6_query_16 (by decide) 19 rfl (fun c1 => ?_) (fun c1 => ?_)
  · skip
    refine r_ldc2 hC q3303 dX6_query_27 30 rfl ?_
    refine r_invSr hC [.long ((nI e).toInt64), .long 0, .long 200] (.int 1) mSX6_in q2891 (metX6_inB _ _ hG ((nI e).toInt64) 0 200 1 (in_n (N := 200) he2 rfl (by decide))) (fun _ _ => xIn.nil) ⟨rfl, rfl⟩ 0 0 rfl rfl (Nat.le_of_ble_eq_true rfl) (Nat.le_of_ble_eq_true rfl) rfl (Nat.le_of_ble_eq_true rfl) dX6_query_30 33 rfl ?_
    refine r_iconst hC 1 dX6_query_33 ic_1 34 rfl ?_
    refine r_invVr hC kX6 (b 0) [.int 1, .int 1] (.int 0) mVX6_fails q2894 (fun _ h => h.get 0 rfl) (metX6_fails1 _ _ hG b _ _ 1) (fun _ h => h.in.sub [0] rfl rfl) ⟨rfl, rfl⟩ 0 0 rfl rfl (Nat.le_of_ble_eq_true rfl) (Nat.le_of_ble_eq_true rfl) rfl (Nat.le_of_ble_eq_true rfl) dX6_query_34 37 rfl ?_
    refine r_ifeq hC 42 dX6_query_37 (by decide) 40 rfl (fun _ => ?_) (fun h => absurd h (by decide))
    refine r_aload_n hC 0 dX6_query_42 rfl 43 rfl ?_
    refine r_iload_n hC 1 dX6_query_43 rfl 44 rfl ?_
    refine r_invVw hC kX6 (b 0) [.int (nI e)] [(b 33, .inl (0, 200, .inl co)), (b 34, .inl (0, 200, .inl wt)), (b 35, .inl (0, 200, .inl sk)), (b 1, .inl (1, 111, .inr (.inl r)))] mVX6_starts q2898 0 rfl (metX6_starts _ _ hG b (va_up i 0 0) j bf e he) [0, 1] [2, 3, 4, 5] rfl rfl rfl rfl (by decide) ⟨rfl, rfl⟩ 0 0 rfl rfl (Nat.le_of_ble_eq_true rfl) (Nat.le_of_ble_eq_true rfl) rfl (Nat.le_of_ble_eq_true rfl) dX6_query_44 47 rfl (fun v2 w3 h4 => ?_) (fun _ _ h => h.elim)
    obtain ⟨rfl, i8, j8, rfl, h8, e14, ef8, fj8⟩ := h4
    show rn C (xSt F V0 [(b 33, .inl (0, 200, .inl co)), (b 34, .inl (0, 200, .inl wt)), (b 35, .inl (0, 200, .inl sk)), (b 1, .inl (1, 111, .inr (.inl r))), (b 0, .inr (5, mF b i8 j8)), (b 13, .inl (0, 600, .inl bf))]) 0 0 47 [(0, .ref (b 0)), (1, .int (nI e))] []
    refine r_aload_n hC 0 dX6_query_47 rfl 48 rfl ?_
    refine r_ldc2 hC q3304 dX6_query_48 51 rfl ?_
    rcases Bool.eq_false_or_eq_true (isW bf e 3379448 (.ok (tBeg bf e 0))) with hk5 | hk5
    · skip
      refine r_invVw hC kX6 (b 0) [.long 3379448] [(b 33, .inl (0, 200, .inl co)), (b 34, .inl (0, 200, .inl wt)), (b 35, .inl (0, 200, .inl sk)), (b 1, .inl (1, 111, .inr (.inl r)))] mVX6_passes q2937 4 rfl (metX6_passes1 _ _ hG b i8 j8 bf e he (.ok (tBeg bf e 0)) h8 3379448 hk5) [4, 5] [0, 1, 2, 3] rfl rfl rfl rfl (by decide) ⟨rfl, rfl⟩ 0 0 rfl rfl (Nat.le_of_ble_eq_true rfl) (Nat.le_of_ble_eq_true rfl) rfl (Nat.le_of_ble_eq_true rfl) dX6_query_51 54 rfl (fun v7 w8 h9 => ?_) (fun _ _ h => h.elim)
      obtain ⟨rfl, i6, j6, rfl, hr6, gi6, fj6⟩ := h9
      show rn C (xSt F V0 [(b 33, .inl (0, 200, .inl co)), (b 34, .inl (0, 200, .inl wt)), (b 35, .inl (0, 200, .inl sk)), (b 1, .inl (1, 111, .inr (.inl r))), (b 0, .inr (5, mF b i6 j6)), (b 13, .inl (0, 600, .inl bf))]) 0 0 54 [(0, .ref (b 0)), (1, .int (nI e))] [.int 1]
      refine r_istore_n hC 2 [(2, .int 1), (0, .ref (b 0)), (1, .int (nI e))] dX6_query_54 rfl (Nat.le_of_ble_eq_true rfl) rfl 55 rfl ?_
      refine r_iload_n hC 0 dX6_query_55 rfl 56 rfl ?_
      refine r_ifne hC 75 dX6_query_56 (by decide) 59 rfl (fun _ => ?_) (fun h => absurd h (by decide))
      have hqp : qryP bf e = nxP bf e (.ok (tBeg bf e 0)) := by rw [qryP, if_pos hk5]
      have hr75 : rdP bf e i6 j6 (qryP bf e) := by rw [hqp]; exact hr6
      refine r_aload_n hC 1 dX6_query_75 rfl 76 rfl ?_
      refine r_invVw hC kX6 (b 0) [] [(b 35, .inl (0, 200, .inl sk)), (b 1, .inl (1, 111, .inr (.inl r)))] mVX6_reads q3306 4 rfl (metX6_reads _ _ hG b i6 j6 bf co wt e he (qryP bf e) hr75 he2) [4, 5, 0, 1] [2, 3] rfl rfl rfl rfl (by decide) ⟨rfl, rfl⟩ 0 0 rfl rfl (Nat.le_of_ble_eq_true rfl) (Nat.le_of_ble_eq_true rfl) rfl (Nat.le_of_ble_eq_true rfl) dX6_query_76 79 rfl (fun v11 w12 h13 => ?_) (fun _ _ h => h.elim)
      obtain ⟨rfl, i10, j10, co10, wt10, L10, W10, p10, rfl, hr10, gi10, fj10, hO10⟩ := h13
      show rn C (xSt F V0 [(b 35, .inl (0, 200, .inl sk)), (b 1, .inl (1, 111, .inr (.inl r))), (b 0, .inr (5, mF b i10 j10)), (b 13, .inl (0, 600, .inl bf)), (b 33, .inl (0, 200, .inl co10)), (b 34, .inl (0, 200, .inl wt10))]) 0 0 79 [(2, .int 1), (0, .ref (b 0)), (1, .int (nI e))] []
      refine r_aload_n hC 1 dX6_query_79 rfl 80 rfl ?_
      rcases Bool.eq_false_or_eq_true (okP p10) with hk14 | hk14
      · skip
        refine r_invVr hC kX6 (b 0) [] (.int 1) mVX6_isGood q2945 (fun _ h => h.get 2 rfl) (metX6_isGood _ _ hG b i10 _ 1 (by rw [rd_good hr10, hk14]; rfl)) (fun _ h => h.in.sub [2] rfl rfl) ⟨rfl, rfl⟩ 0 0 rfl rfl (Nat.le_of_ble_eq_true rfl) (Nat.le_of_ble_eq_true rfl) rfl (Nat.le_of_ble_eq_true rfl) dX6_query_80 83 rfl ?_
        refine r_ifne hC 95 dX6_query_83 (by decide) 86 rfl (fun _ => ?_) (fun h => absurd h (by decide))
        refine r_iconst hC 0 dX6_query_95 ic_0 96 rfl ?_
        refine r_istore_n hC 3 [(3, .int 0), (2, .int 1), (0, .ref (b 0)), (1, .int (nI e))] dX6_query_96 rfl (Nat.le_of_ble_eq_true rfl) rfl 97 rfl ?_
        refine r_iconst hC 0 dX6_query_97 ic_0 98 rfl ?_
        refine r_istore hC 4 [(4, .int 0), (3, .int 0), (2, .int 1), (0, .ref (b 0)), (1, .int (nI e))] dX6_query_98 (Nat.le_of_ble_eq_true rfl) rfl 100 rfl ?_
        obtain ⟨h36, hl, hLe, hL⟩ := hO10.2 hk14
        have hok : okP (qryR bf e).2 = true := by rw [qryR, hO10.1]; exact hk14
        refine rn.sub (lv' := [(4, .int 0), (3, .int 0), (2, .int 1), (0, .ref (b 0))]) [0, 1, 2, 3] rfl ?_
        refine rn.mono (J := xSt F V0 [(b 0, .inr (5, mF b i10 j10)), (b 13, .inl (0, 600, .inl bf)), (b 33, .inl (0, 200, .inl co10)), (b 34, .inl (0, 200, .inl wt10)), (b 35, .inl (0, 200, .inl sk)), (b 1, .inl (1, 111, .inr (.inl r)))]) (fun _ h => h.sub [2, 3, 4, 5, 0, 1] rfl rfl) ?_
        refine lpX6_query1 hG hC b i10 j10 bf co10 wt10 r L10 mn hmn h5 hL h36 hl (fun a ha => by have := hev hok a ha; rw [show (qryR bf e).1 = L10 from hLe.symm] at this; exact this) (fstL (fun a => evB (pvQ r a) L10) mn 0) (fun d sk9 e9 => ?_) (fun sk9 e9 => ?_) mn 0 sk (by omega) rfl
        · skip
          refine r_iload hC 0 dX6_query_129 rfl 131 rfl ?_
          exact r_iret hC (Nat.le_of_ble_eq_true rfl) (Nat.le_of_ble_eq_true rfl) (fun V9 h => hQ _ _ ⟨[(b 0, .inr (5, mF b i10 j10)), (b 13, .inl (0, 600, .inl bf)), (b 33, .inl (0, 200, .inl co10)), (b 34, .inl (0, 200, .inl wt10)), (b 35, .inl (0, 200, .inl sk9)), (b 1, .inl (1, 111, .inr (.inl r)))], Or.inr ⟨_, _, _, _, _, by rw [qryR, hO10.1]; exact hk14, by rw [qryV_1 hk5, show (qryR bf e).1 = L10 from hLe.symm, e9], rfl, (((((qI_refl i8).trans gi6).tr gi10) 0 (by decide) (by decide) (by decide) (by decide) (by decide) (by decide) (by decide) (by decide)).trans (ef8 0 (by decide) (by decide) (by decide) (by decide) (by decide) (by decide) (by decide))), (((((qI_refl i8).trans gi6).tr gi10) 14 (by decide) (by decide) (by decide) (by decide) (by decide) (by decide) (by decide) (by decide)).trans e14), (by obtain ⟨g, q1, q2, q3, q4⟩ := rd_ok hr10 hk14; exact q4), (qF_of ef8 (((qI_refl i8).trans gi6).tr gi10)), (fj8.trans (((fJ_refl j8).trans fj6).trans fj10))⟩, by rw [← hV0, ← hF]; exact h⟩) dX6_query_131
        · skip
          refine r_iload_n hC 1 dX6_query_141 rfl 142 rfl ?_
          refine r_ifeq hC 149 dX6_query_142 (by decide) 145 rfl (fun h => absurd h (by decide)) (fun _ => ?_)
          refine r_iconst hC (-1) dX6_query_145 ic_m1 146 rfl ?_
          refine r_goto hC 150 dX6_query_146 (by decide) ?_
          exact r_iret hC (Nat.le_of_ble_eq_true rfl) (Nat.le_of_ble_eq_true rfl) (fun V9 h => hQ _ _ ⟨[(b 0, .inr (5, mF b i10 j10)), (b 13, .inl (0, 600, .inl bf)), (b 33, .inl (0, 200, .inl co10)), (b 34, .inl (0, 200, .inl wt10)), (b 35, .inl (0, 200, .inl sk9)), (b 1, .inl (1, 111, .inr (.inl r)))], Or.inr ⟨_, _, _, _, _, by rw [qryR, hO10.1]; exact hk14, by rw [qryV_1 hk5, show (qryR bf e).1 = L10 from hLe.symm, e9], rfl, (((((qI_refl i8).trans gi6).tr gi10) 0 (by decide) (by decide) (by decide) (by decide) (by decide) (by decide) (by decide) (by decide)).trans (ef8 0 (by decide) (by decide) (by decide) (by decide) (by decide) (by decide) (by decide))), (((((qI_refl i8).trans gi6).tr gi10) 14 (by decide) (by decide) (by decide) (by decide) (by decide) (by decide) (by decide) (by decide)).trans e14), (by obtain ⟨g, q1, q2, q3, q4⟩ := rd_ok hr10 hk14; exact q4), (qF_of ef8 (((qI_refl i8).trans gi6).tr gi10)), (fj8.trans (((fJ_refl j8).trans fj6).trans fj10))⟩, by rw [← hV0, ← hF]; exact h⟩) dX6_query_150
      · skip
        refine r_invVr hC kX6 (b 0) [] (.int 0) mVX6_isGood q2945 (fun _ h => h.get 2 rfl) (metX6_isGood _ _ hG b i10 _ 0 (by rw [rd_good hr10, hk14]; rfl)) (fun _ h => h.in.sub [2] rfl rfl) ⟨rfl, rfl⟩ 0 0 rfl rfl (Nat.le_of_ble_eq_true rfl) (Nat.le_of_ble_eq_true rfl) rfl (Nat.le_of_ble_eq_true rfl) dX6_query_80 83 rfl ?_
        refine r_ifne hC 95 dX6_query_83 (by decide) 86 rfl (fun h => absurd h (by decide)) (fun _ => ?_)
        refine r_ldcw hC q3272 dX6_query_86 89 rfl ?_
        refine r_aload_n hC 1 dX6_query_89 rfl 90 rfl ?_
        refine r_get (v := .int (i10 21)) hC kX6 21 rfl q2774 (fun _ h => h.get 2 rfl) rfl dX6_query_90 93 rfl ?_
        refine r_isub hC ((-1000000000) - (i10 21)) dX6_query_93  (rfl) 94 rfl ?_
        exact r_iret hC (Nat.le_of_ble_eq_true rfl) (Nat.le_of_ble_eq_true rfl) (fun V9 h => hQ _ _ (by obtain ⟨c, p, e1, e2, e3⟩ := rd_err hr10 hk14; exact ⟨[(b 0, .inr (5, mF b i10 j10)), (b 13, .inl (0, 600, .inl bf)), (b 33, .inl (0, 200, .inl co10)), (b 34, .inl (0, 200, .inl wt10)), (b 35, .inl (0, 200, .inl sk)), (b 1, .inl (1, 111, .inr (.inl r)))], Or.inl ⟨c, p, _, _, _, _, _, hO10.1.trans e1, by rw [e2], rfl, (((((qI_refl i8).trans gi6).tr gi10) 0 (by decide) (by decide) (by decide) (by decide) (by decide) (by decide) (by decide) (by decide)).trans (ef8 0 (by decide) (by decide) (by decide) (by decide) (by decide) (by decide) (by decide))), (((((qI_refl i8).trans gi6).tr gi10) 14 (by decide) (by decide) (by decide) (by decide) (by decide) (by decide) (by decide) (by decide)).trans e14), e3, (qF_of ef8 (((qI_refl i8).trans gi6).tr gi10)), (fj8.trans (((fJ_refl j8).trans fj6).trans fj10))⟩, by rw [← hV0, ← hF]; exact (h.sub [2, 3, 4, 5, 0, 1] rfl rfl)⟩)) dX6_query_94
    · skip
      refine r_invVr hC kX6 (b 0) [.long 3379448] (.int 0) mVX6_passes q2937 (fun _ h => h.get 4 rfl) (metX6_passes0 _ _ hG b i8 j8 bf e he (.ok (tBeg bf e 0)) h8 3379448 hk5) (fun _ h => h.in.sub [4, 5] rfl rfl) ⟨rfl, rfl⟩ 0 0 rfl rfl (Nat.le_of_ble_eq_true rfl) (Nat.le_of_ble_eq_true rfl) rfl (Nat.le_of_ble_eq_true rfl) dX6_query_51 54 rfl ?_
      refine r_istore_n hC 2 [(2, .int 0), (0, .ref (b 0)), (1, .int (nI e))] dX6_query_54 rfl (Nat.le_of_ble_eq_true rfl) rfl 55 rfl ?_
      refine r_iload_n hC 0 dX6_query_55 rfl 56 rfl ?_
      refine r_ifne hC 75 dX6_query_56 (by decide) 59 rfl (fun h => absurd h (by decide)) (fun _ => ?_)
      refine r_aload_n hC 1 dX6_query_59 rfl 60 rfl ?_
      refine r_ldc2 hC q3305 dX6_query_60 63 rfl ?_
      rcases Bool.eq_false_or_eq_true (isW bf e 257011 (.ok (tBeg bf e 0))) with hk15 | hk15
      · skip
        refine r_invVw hC kX6 (b 0) [.long 257011] [(b 33, .inl (0, 200, .inl co)), (b 34, .inl (0, 200, .inl wt)), (b 35, .inl (0, 200, .inl sk)), (b 1, .inl (1, 111, .inr (.inl r)))] mVX6_passes q2937 4 rfl (metX6_passes1 _ _ hG b i8 j8 bf e he (.ok (tBeg bf e 0)) h8 257011 hk15) [4, 5] [0, 1, 2, 3] rfl rfl rfl rfl (by decide) ⟨rfl, rfl⟩ 0 0 rfl rfl (Nat.le_of_ble_eq_true rfl) (Nat.le_of_ble_eq_true rfl) rfl (Nat.le_of_ble_eq_true rfl) dX6_query_63 66 rfl (fun v17 w18 h19 => ?_) (fun _ _ h => h.elim)
        obtain ⟨rfl, i16, j16, rfl, hr16, gi16, fj16⟩ := h19
        show rn C (xSt F V0 [(b 33, .inl (0, 200, .inl co)), (b 34, .inl (0, 200, .inl wt)), (b 35, .inl (0, 200, .inl sk)), (b 1, .inl (1, 111, .inr (.inl r))), (b 0, .inr (5, mF b i16 j16)), (b 13, .inl (0, 600, .inl bf))]) 0 0 66 [(2, .int 0), (0, .ref (b 0)), (1, .int (nI e))] [.int 1]
        refine r_ifne hC 75 dX6_query_66 (by decide) 69 rfl (fun _ => ?_) (fun h => absurd h (by decide))
        have hqp : qryP bf e = nxP bf e (.ok (tBeg bf e 0)) := by rw [qryP, if_neg (nt hk5), if_pos hk15]
        have hr75 : rdP bf e i16 j16 (qryP bf e) := by rw [hqp]; exact hr16
        refine r_aload_n hC 1 dX6_query_75 rfl 76 rfl ?_
        refine r_invVw hC kX6 (b 0) [] [(b 35, .inl (0, 200, .inl sk)), (b 1, .inl (1, 111, .inr (.inl r)))] mVX6_reads q3306 4 rfl (metX6_reads _ _ hG b i16 j16 bf co wt e he (qryP bf e) hr75 he2) [4, 5, 0, 1] [2, 3] rfl rfl rfl rfl (by decide) ⟨rfl, rfl⟩ 0 0 rfl rfl (Nat.le_of_ble_eq_true rfl) (Nat.le_of_ble_eq_true rfl) rfl (Nat.le_of_ble_eq_true rfl) dX6_query_76 79 rfl (fun v21 w22 h23 => ?_) (fun _ _ h => h.elim)
        obtain ⟨rfl, i20, j20, co20, wt20, L20, W20, p20, rfl, hr20, gi20, fj20, hO20⟩ := h23
        show rn C (xSt F V0 [(b 35, .inl (0, 200, .inl sk)), (b 1, .inl (1, 111, .inr (.inl r))), (b 0, .inr (5, mF b i20 j20)), (b 13, .inl (0, 600, .inl bf)), (b 33, .inl (0, 200, .inl co20)), (b 34, .inl (0, 200, .inl wt20))]) 0 0 79 [(2, .int 0), (0, .ref (b 0)), (1, .int (nI e))] []
        refine r_aload_n hC 1 dX6_query_79 rfl 80 rfl ?_
        rcases Bool.eq_false_or_eq_true (okP p20) with hk24 | hk24
        · skip
          refine r_invVr hC kX6 (b 0) [] (.int 1) mVX6_isGood q2945 (fun _ h => h.get 2 rfl) (metX6_isGood _ _ hG b i20 _ 1 (by rw [rd_good hr20, hk24]; rfl)) (fun _ h => h.in.sub [2] rfl rfl) ⟨rfl, rfl⟩ 0 0 rfl rfl (Nat.le_of_ble_eq_true rfl) (Nat.le_of_ble_eq_true rfl) rfl (Nat.le_of_ble_eq_true rfl) dX6_query_80 83 rfl ?_
          refine r_ifne hC 95 dX6_query_83 (by decide) 86 rfl (fun _ => ?_) (fun h => absurd h (by decide))
          refine r_iconst hC 0 dX6_query_95 ic_0 96 rfl ?_
          refine r_istore_n hC 3 [(3, .int 0), (2, .int 0), (0, .ref (b 0)), (1, .int (nI e))] dX6_query_96 rfl (Nat.le_of_ble_eq_true rfl) rfl 97 rfl ?_
          refine r_iconst hC 0 dX6_query_97 ic_0 98 rfl ?_
          refine r_istore hC 4 [(4, .int 0), (3, .int 0), (2, .int 0), (0, .ref (b 0)), (1, .int (nI e))] dX6_query_98 (Nat.le_of_ble_eq_true rfl) rfl 100 rfl ?_
          obtain ⟨h36, hl, hLe, hL⟩ := hO20.2 hk24
          have hok : okP (qryR bf e).2 = true := by rw [qryR, hO20.1]; exact hk24
          refine rn.sub (lv' := [(4, .int 0), (3, .int 0), (2, .int 0), (0, .ref (b 0))]) [0, 1, 2, 3] rfl ?_
          refine rn.mono (J := xSt F V0 [(b 0, .inr (5, mF b i20 j20)), (b 13, .inl (0, 600, .inl bf)), (b 33, .inl (0, 200, .inl co20)), (b 34, .inl (0, 200, .inl wt20)), (b 35, .inl (0, 200, .inl sk)), (b 1, .inl (1, 111, .inr (.inl r)))]) (fun _ h => h.sub [2, 3, 4, 5, 0, 1] rfl rfl) ?_
          refine lpX6_query0 hG hC b i20 j20 bf co20 wt20 r L20 mn hmn h5 hL h36 hl (fun a ha => by have := hev hok a ha; rw [show (qryR bf e).1 = L20 from hLe.symm] at this; exact this) (cntL (fun a => evB (pvQ r a) L20) mn 0 0) (fun sk9 n9 e9 => ?_) mn 0 0 sk (by omega) rfl
          · skip
            refine r_iload_n hC 1 dX6_query_141 rfl 142 rfl ?_
            refine r_ifeq hC 149 dX6_query_142 (by decide) 145 rfl (fun _ => ?_) (fun h => absurd h (by decide))
            refine r_iload_n hC 0 dX6_query_149 rfl 150 rfl ?_
            exact r_iret hC (Nat.le_of_ble_eq_true rfl) (Nat.le_of_ble_eq_true rfl) (fun V9 h => hQ _ _ ⟨[(b 0, .inr (5, mF b i20 j20)), (b 13, .inl (0, 600, .inl bf)), (b 33, .inl (0, 200, .inl co20)), (b 34, .inl (0, 200, .inl wt20)), (b 35, .inl (0, 200, .inl sk9)), (b 1, .inl (1, 111, .inr (.inl r)))], Or.inr ⟨_, _, _, _, _, by rw [qryR, hO20.1]; exact hk24, by rw [qryV_0 hk5, show (qryR bf e).1 = L20 from hLe.symm, e9], rfl, (((((qI_refl i8).trans gi16).tr gi20) 0 (by decide) (by decide) (by decide) (by decide) (by decide) (by decide) (by decide) (by decide)).trans (ef8 0 (by decide) (by decide) (by decide) (by decide) (by decide) (by decide) (by decide))), (((((qI_refl i8).trans gi16).tr gi20) 14 (by decide) (by decide) (by decide) (by decide) (by decide) (by decide) (by decide) (by decide)).trans e14), (by obtain ⟨g, q1, q2, q3, q4⟩ := rd_ok hr20 hk24; exact q4), (qF_of ef8 (((qI_refl i8).trans gi16).tr gi20)), (fj8.trans (((fJ_refl j8).trans fj16).trans fj20))⟩, by rw [← hV0, ← hF]; exact h⟩) dX6_query_150
        · skip
          refine r_invVr hC kX6 (b 0) [] (.int 0) mVX6_isGood q2945 (fun _ h => h.get 2 rfl) (metX6_isGood _ _ hG b i20 _ 0 (by rw [rd_good hr20, hk24]; rfl)) (fun _ h => h.in.sub [2] rfl rfl) ⟨rfl, rfl⟩ 0 0 rfl rfl (Nat.le_of_ble_eq_true rfl) (Nat.le_of_ble_eq_true rfl) rfl (Nat.le_of_ble_eq_true rfl) dX6_query_80 83 rfl ?_
          refine r_ifne hC 95 dX6_query_83 (by decide) 86 rfl (fun h => absurd h (by decide)) (fun _ => ?_)
          refine r_ldcw hC q3272 dX6_query_86 89 rfl ?_
          refine r_aload_n hC 1 dX6_query_89 rfl 90 rfl ?_
          refine r_get (v := .int (i20 21)) hC kX6 21 rfl q2774 (fun _ h => h.get 2 rfl) rfl dX6_query_90 93 rfl ?_
          refine r_isub hC ((-1000000000) - (i20 21)) dX6_query_93  (rfl) 94 rfl ?_
          exact r_iret hC (Nat.le_of_ble_eq_true rfl) (Nat.le_of_ble_eq_true rfl) (fun V9 h => hQ _ _ (by obtain ⟨c, p, e1, e2, e3⟩ := rd_err hr20 hk24; exact ⟨[(b 0, .inr (5, mF b i20 j20)), (b 13, .inl (0, 600, .inl bf)), (b 33, .inl (0, 200, .inl co20)), (b 34, .inl (0, 200, .inl wt20)), (b 35, .inl (0, 200, .inl sk)), (b 1, .inl (1, 111, .inr (.inl r)))], Or.inl ⟨c, p, _, _, _, _, _, hO20.1.trans e1, by rw [e2], rfl, (((((qI_refl i8).trans gi16).tr gi20) 0 (by decide) (by decide) (by decide) (by decide) (by decide) (by decide) (by decide) (by decide)).trans (ef8 0 (by decide) (by decide) (by decide) (by decide) (by decide) (by decide) (by decide))), (((((qI_refl i8).trans gi16).tr gi20) 14 (by decide) (by decide) (by decide) (by decide) (by decide) (by decide) (by decide) (by decide)).trans e14), e3, (qF_of ef8 (((qI_refl i8).trans gi16).tr gi20)), (fj8.trans (((fJ_refl j8).trans fj16).trans fj20))⟩, by rw [← hV0, ← hF]; exact (h.sub [2, 3, 4, 5, 0, 1] rfl rfl)⟩)) dX6_query_94
      · skip
        refine r_invVr hC kX6 (b 0) [.long 257011] (.int 0) mVX6_passes q2937 (fun _ h => h.get 4 rfl) (metX6_passes0 _ _ hG b i8 j8 bf e he (.ok (tBeg bf e 0)) h8 257011 hk15) (fun _ h => h.in.sub [4, 5] rfl rfl) ⟨rfl, rfl⟩ 0 0 rfl rfl (Nat.le_of_ble_eq_true rfl) (Nat.le_of_ble_eq_true rfl) rfl (Nat.le_of_ble_eq_true rfl) dX6_query_63 66 rfl ?_
        refine r_ifne hC 75 dX6_query_66 (by decide) 69 rfl (fun h => absurd h (by decide)) (fun _ => ?_)
        refine r_aload_n hC 1 dX6_query_69 rfl 70 rfl ?_
        refine r_iconst hC 1 dX6_query_70 ic_1 71 rfl ?_
        refine r_invVw hC kX6 (b 0) [.int 1] [(b 33, .inl (0, 200, .inl co)), (b 34, .inl (0, 200, .inl wt)), (b 35, .inl (0, 200, .inl sk)), (b 1, .inl (1, 111, .inr (.inl r))), (b 13, .inl (0, 600, .inl bf))] mVX6_wrongs q2953 4 rfl (metX6_wrongsP _ _ hG b i8 j8 bf e he (.ok (tBeg bf e 0)) h8 1 (by decide)) [4] [0, 1, 2, 3, 5] rfl rfl rfl rfl (by decide) ⟨rfl, rfl⟩ 0 0 rfl rfl (Nat.le_of_ble_eq_true rfl) (Nat.le_of_ble_eq_true rfl) rfl (Nat.le_of_ble_eq_true rfl) dX6_query_71 74 rfl (fun v26 w27 h28 => ?_) (fun _ _ h => h.elim)
        obtain ⟨rfl, i25, j25, rfl, hr25, gi25, fj25⟩ := h28
        show rn C (xSt F V0 [(b 33, .inl (0, 200, .inl co)), (b 34, .inl (0, 200, .inl wt)), (b 35, .inl (0, 200, .inl sk)), (b 1, .inl (1, 111, .inr (.inl r))), (b 13, .inl (0, 600, .inl bf)), (b 0, .inr (5, mF b i25 j25))]) 0 0 74 [(2, .int 0), (0, .ref (b 0)), (1, .int (nI e))] [.int 0]
        refine r_pop hC dX6_query_74 rfl 75 rfl ?_
        have hqp : qryP bf e = wrP 1 (.ok (tBeg bf e 0)) := by rw [qryP, if_neg (nt hk5), if_neg (nt hk15)]
        have hr75 : rdP bf e i25 j25 (qryP bf e) := by rw [hqp]; exact hr25
        refine r_aload_n hC 1 dX6_query_75 rfl 76 rfl ?_
        refine r_invVw hC kX6 (b 0) [] [(b 35, .inl (0, 200, .inl sk)), (b 1, .inl (1, 111, .inr (.inl r)))] mVX6_reads q3306 5 rfl (metX6_reads _ _ hG b i25 j25 bf co wt e he (qryP bf e) hr75 he2) [5, 4, 0, 1] [2, 3] rfl rfl rfl rfl (by decide) ⟨rfl, rfl⟩ 0 0 rfl rfl (Nat.le_of_ble_eq_true rfl) (Nat.le_of_ble_eq_true rfl) rfl (Nat.le_of_ble_eq_true rfl) dX6_query_76 79 rfl (fun v30 w31 h32 => ?_) (fun _ _ h => h.elim)
        obtain ⟨rfl, i29, j29, co29, wt29, L29, W29, p29, rfl, hr29, gi29, fj29, hO29⟩ := h32
        show rn C (xSt F V0 [(b 35, .inl (0, 200, .inl sk)), (b 1, .inl (1, 111, .inr (.inl r))), (b 0, .inr (5, mF b i29 j29)), (b 13, .inl (0, 600, .inl bf)), (b 33, .inl (0, 200, .inl co29)), (b 34, .inl (0, 200, .inl wt29))]) 0 0 79 [(2, .int 0), (0, .ref (b 0)), (1, .int (nI e))] []
        refine r_aload_n hC 1 dX6_query_79 rfl 80 rfl ?_
        rcases Bool.eq_false_or_eq_true (okP p29) with hk33 | hk33
        · skip
          refine r_invVr hC kX6 (b 0) [] (.int 1) mVX6_isGood q2945 (fun _ h => h.get 2 rfl) (metX6_isGood _ _ hG b i29 _ 1 (by rw [rd_good hr29, hk33]; rfl)) (fun _ h => h.in.sub [2] rfl rfl) ⟨rfl, rfl⟩ 0 0 rfl rfl (Nat.le_of_ble_eq_true rfl) (Nat.le_of_ble_eq_true rfl) rfl (Nat.le_of_ble_eq_true rfl) dX6_query_80 83 rfl ?_
          refine r_ifne hC 95 dX6_query_83 (by decide) 86 rfl (fun _ => ?_) (fun h => absurd h (by decide))
          refine r_iconst hC 0 dX6_query_95 ic_0 96 rfl ?_
          refine r_istore_n hC 3 [(3, .int 0), (2, .int 0), (0, .ref (b 0)), (1, .int (nI e))] dX6_query_96 rfl (Nat.le_of_ble_eq_true rfl) rfl 97 rfl ?_
          refine r_iconst hC 0 dX6_query_97 ic_0 98 rfl ?_
          refine r_istore hC 4 [(4, .int 0), (3, .int 0), (2, .int 0), (0, .ref (b 0)), (1, .int (nI e))] dX6_query_98 (Nat.le_of_ble_eq_true rfl) rfl 100 rfl ?_
          obtain ⟨h36, hl, hLe, hL⟩ := hO29.2 hk33
          have hok : okP (qryR bf e).2 = true := by rw [qryR, hO29.1]; exact hk33
          refine rn.sub (lv' := [(4, .int 0), (3, .int 0), (2, .int 0), (0, .ref (b 0))]) [0, 1, 2, 3] rfl ?_
          refine rn.mono (J := xSt F V0 [(b 0, .inr (5, mF b i29 j29)), (b 13, .inl (0, 600, .inl bf)), (b 33, .inl (0, 200, .inl co29)), (b 34, .inl (0, 200, .inl wt29)), (b 35, .inl (0, 200, .inl sk)), (b 1, .inl (1, 111, .inr (.inl r)))]) (fun _ h => h.sub [2, 3, 4, 5, 0, 1] rfl rfl) ?_
          refine lpX6_query0 hG hC b i29 j29 bf co29 wt29 r L29 mn hmn h5 hL h36 hl (fun a ha => by have := hev hok a ha; rw [show (qryR bf e).1 = L29 from hLe.symm] at this; exact this) (cntL (fun a => evB (pvQ r a) L29) mn 0 0) (fun sk9 n9 e9 => ?_) mn 0 0 sk (by omega) rfl
          · skip
            refine r_iload_n hC 1 dX6_query_141 rfl 142 rfl ?_
            refine r_ifeq hC 149 dX6_query_142 (by decide) 145 rfl (fun _ => ?_) (fun h => absurd h (by decide))
            refine r_iload_n hC 0 dX6_query_149 rfl 150 rfl ?_
            exact r_iret hC (Nat.le_of_ble_eq_true rfl) (Nat.le_of_ble_eq_true rfl) (fun V9 h => hQ _ _ ⟨[(b 0, .inr (5, mF b i29 j29)), (b 13, .inl (0, 600, .inl bf)), (b 33, .inl (0, 200, .inl co29)), (b 34, .inl (0, 200, .inl wt29)), (b 35, .inl (0, 200, .inl sk9)), (b 1, .inl (1, 111, .inr (.inl r)))], Or.inr ⟨_, _, _, _, _, by rw [qryR, hO29.1]; exact hk33, by rw [qryV_0 hk5, show (qryR bf e).1 = L29 from hLe.symm, e9], rfl, (((((qI_refl i8).trans gi25).tr gi29) 0 (by decide) (by decide) (by decide) (by decide) (by decide) (by decide) (by decide) (by decide)).trans (ef8 0 (by decide) (by decide) (by decide) (by decide) (by decide) (by decide) (by decide))), (((((qI_refl i8).trans gi25).tr gi29) 14 (by decide) (by decide) (by decide) (by decide) (by decide) (by decide) (by decide) (by decide)).trans e14), (by obtain ⟨g, q1, q2, q3, q4⟩ := rd_ok hr29 hk33; exact q4), (qF_of ef8 (((qI_refl i8).trans gi25).tr gi29)), (fj8.trans (((fJ_refl j8).trans fj25).trans fj29))⟩, by rw [← hV0, ← hF]; exact h⟩) dX6_query_150
        · skip
          refine r_invVr hC kX6 (b 0) [] (.int 0) mVX6_isGood q2945 (fun _ h => h.get 2 rfl) (metX6_isGood _ _ hG b i29 _ 0 (by rw [rd_good hr29, hk33]; rfl)) (fun _ h => h.in.sub [2] rfl rfl) ⟨rfl, rfl⟩ 0 0 rfl rfl (Nat.le_of_ble_eq_true rfl) (Nat.le_of_ble_eq_true rfl) rfl (Nat.le_of_ble_eq_true rfl) dX6_query_80 83 rfl ?_
          refine r_ifne hC 95 dX6_query_83 (by decide) 86 rfl (fun h => absurd h (by decide)) (fun _ => ?_)
          refine r_ldcw hC q3272 dX6_query_86 89 rfl ?_
          refine r_aload_n hC 1 dX6_query_89 rfl 90 rfl ?_
          refine r_get (v := .int (i29 21)) hC kX6 21 rfl q2774 (fun _ h => h.get 2 rfl) rfl dX6_query_90 93 rfl ?_
          refine r_isub hC ((-1000000000) - (i29 21)) dX6_query_93  (rfl) 94 rfl ?_
          exact r_iret hC (Nat.le_of_ble_eq_true rfl) (Nat.le_of_ble_eq_true rfl) (fun V9 h => hQ _ _ (by obtain ⟨c, p, e1, e2, e3⟩ := rd_err hr29 hk33; exact ⟨[(b 0, .inr (5, mF b i29 j29)), (b 13, .inl (0, 600, .inl bf)), (b 33, .inl (0, 200, .inl co29)), (b 34, .inl (0, 200, .inl wt29)), (b 35, .inl (0, 200, .inl sk)), (b 1, .inl (1, 111, .inr (.inl r)))], Or.inl ⟨c, p, _, _, _, _, _, hO29.1.trans e1, by rw [e2], rfl, (((((qI_refl i8).trans gi25).tr gi29) 0 (by decide) (by decide) (by decide) (by decide) (by decide) (by decide) (by decide) (by decide)).trans (ef8 0 (by decide) (by decide) (by decide) (by decide) (by decide) (by decide) (by decide))), (((((qI_refl i8).trans gi25).tr gi29) 14 (by decide) (by decide) (by decide) (by decide) (by decide) (by decide) (by decide) (by decide)).trans e14), e3, (qF_of ef8 (((qI_refl i8).trans gi25).tr gi29)), (fj8.trans (((fJ_refl j8).trans fj25).trans fj29))⟩, by rw [← hV0, ← hF]; exact (h.sub [2, 3, 4, 5, 0, 1] rfl rfl)⟩)) dX6_query_94
  · skip
    refine r_aload_n hC 0 dX6_query_19 rfl 20 rfl ?_
    refine r_get (v := .int (i 14)) hC kX6 14 rfl q2767 (fun _ h => h.get 0 rfl) rfl dX6_query_20 23 rfl ?_
    refine r_eqi (y := nI N) (h14) ?_
    refine r_i2l hC ((nI N).toInt64) dX6_query_23 (rfl) 24 rfl ?_
    refine r_goto hC 30 dX6_query_24 (by decide) ?_
    refine r_invSr hC [.long ((nI e).toInt64), .long 0, .long ((nI N).toInt64)] (.int 1) mSX6_in q2891 (metX6_inB _ _ hG ((nI e).toInt64) 0 ((nI N).toInt64) 1 (in_n heN (nIl_toInt (by omega)) (by omega))) (fun _ _ => xIn.nil) ⟨rfl, rfl⟩ 0 0 rfl rfl (Nat.le_of_ble_eq_true rfl) (Nat.le_of_ble_eq_true rfl) rfl (Nat.le_of_ble_eq_true rfl) dX6_query_30 33 rfl ?_
    refine r_iconst hC 1 dX6_query_33 ic_1 34 rfl ?_
    refine r_invVr hC kX6 (b 0) [.int 1, .int 1] (.int 0) mVX6_fails q2894 (fun _ h => h.get 0 rfl) (metX6_fails1 _ _ hG b _ _ 1) (fun _ h => h.in.sub [0] rfl rfl) ⟨rfl, rfl⟩ 0 0 rfl rfl (Nat.le_of_ble_eq_true rfl) (Nat.le_of_ble_eq_true rfl) rfl (Nat.le_of_ble_eq_true rfl) dX6_query_34 37 rfl ?_
    refine r_ifeq hC 42 dX6_query_37 (by decide) 40 rfl (fun _ => ?_) (fun h => absurd h (by decide))
    refine r_aload_n hC 0 dX6_query_42 rfl 43 rfl ?_
    refine r_iload_n hC 1 dX6_query_43 rfl 44 rfl ?_
    refine r_invVw hC kX6 (b 0) [.int (nI e)] [(b 33, .inl (0, 200, .inl co)), (b 34, .inl (0, 200, .inl wt)), (b 35, .inl (0, 200, .inl sk)), (b 1, .inl (1, 111, .inr (.inl r)))] mVX6_starts q2898 0 rfl (metX6_starts _ _ hG b (va_up i 0 0) j bf e he) [0, 1] [2, 3, 4, 5] rfl rfl rfl rfl (by decide) ⟨rfl, rfl⟩ 0 0 rfl rfl (Nat.le_of_ble_eq_true rfl) (Nat.le_of_ble_eq_true rfl) rfl (Nat.le_of_ble_eq_true rfl) dX6_query_44 47 rfl (fun v34 w35 h36 => ?_) (fun _ _ h => h.elim)
    obtain ⟨rfl, i8, j8, rfl, h8, e14, ef8, fj8⟩ := h36
    show rn C (xSt F V0 [(b 33, .inl (0, 200, .inl co)), (b 34, .inl (0, 200, .inl wt)), (b 35, .inl (0, 200, .inl sk)), (b 1, .inl (1, 111, .inr (.inl r))), (b 0, .inr (5, mF b i8 j8)), (b 13, .inl (0, 600, .inl bf))]) 0 0 47 [(0, .ref (b 0)), (1, .int (nI e))] []
    refine r_aload_n hC 0 dX6_query_47 rfl 48 rfl ?_
    refine r_ldc2 hC q3304 dX6_query_48 51 rfl ?_
    rcases Bool.eq_false_or_eq_true (isW bf e 3379448 (.ok (tBeg bf e 0))) with hk37 | hk37
    · skip
      refine r_invVw hC kX6 (b 0) [.long 3379448] [(b 33, .inl (0, 200, .inl co)), (b 34, .inl (0, 200, .inl wt)), (b 35, .inl (0, 200, .inl sk)), (b 1, .inl (1, 111, .inr (.inl r)))] mVX6_passes q2937 4 rfl (metX6_passes1 _ _ hG b i8 j8 bf e he (.ok (tBeg bf e 0)) h8 3379448 hk37) [4, 5] [0, 1, 2, 3] rfl rfl rfl rfl (by decide) ⟨rfl, rfl⟩ 0 0 rfl rfl (Nat.le_of_ble_eq_true rfl) (Nat.le_of_ble_eq_true rfl) rfl (Nat.le_of_ble_eq_true rfl) dX6_query_51 54 rfl (fun v39 w40 h41 => ?_) (fun _ _ h => h.elim)
      obtain ⟨rfl, i38, j38, rfl, hr38, gi38, fj38⟩ := h41
      show rn C (xSt F V0 [(b 33, .inl (0, 200, .inl co)), (b 34, .inl (0, 200, .inl wt)), (b 35, .inl (0, 200, .inl sk)), (b 1, .inl (1, 111, .inr (.inl r))), (b 0, .inr (5, mF b i38 j38)), (b 13, .inl (0, 600, .inl bf))]) 0 0 54 [(0, .ref (b 0)), (1, .int (nI e))] [.int 1]
      refine r_istore_n hC 2 [(2, .int 1), (0, .ref (b 0)), (1, .int (nI e))] dX6_query_54 rfl (Nat.le_of_ble_eq_true rfl) rfl 55 rfl ?_
      refine r_iload_n hC 0 dX6_query_55 rfl 56 rfl ?_
      refine r_ifne hC 75 dX6_query_56 (by decide) 59 rfl (fun _ => ?_) (fun h => absurd h (by decide))
      have hqp : qryP bf e = nxP bf e (.ok (tBeg bf e 0)) := by rw [qryP, if_pos hk37]
      have hr75 : rdP bf e i38 j38 (qryP bf e) := by rw [hqp]; exact hr38
      refine r_aload_n hC 1 dX6_query_75 rfl 76 rfl ?_
      refine r_invVw hC kX6 (b 0) [] [(b 35, .inl (0, 200, .inl sk)), (b 1, .inl (1, 111, .inr (.inl r)))] mVX6_reads q3306 4 rfl (metX6_reads _ _ hG b i38 j38 bf co wt e he (qryP bf e) hr75 he2) [4, 5, 0, 1] [2, 3] rfl rfl rfl rfl (by decide) ⟨rfl, rfl⟩ 0 0 rfl rfl (Nat.le_of_ble_eq_true rfl) (Nat.le_of_ble_eq_true rfl) rfl (Nat.le_of_ble_eq_true rfl) dX6_query_76 79 rfl (fun v43 w44 h45 => ?_) (fun _ _ h => h.elim)
      obtain ⟨rfl, i42, j42, co42, wt42, L42, W42, p42, rfl, hr42, gi42, fj42, hO42⟩ := h45
      show rn C (xSt F V0 [(b 35, .inl (0, 200, .inl sk)), (b 1, .inl (1, 111, .inr (.inl r))), (b 0, .inr (5, mF b i42 j42)), (b 13, .inl (0, 600, .inl bf)), (b 33, .inl (0, 200, .inl co42)), (b 34, .inl (0, 200, .inl wt42))]) 0 0 79 [(2, .int 1), (0, .ref (b 0)), (1, .int (nI e))] []
      refine r_aload_n hC 1 dX6_query_79 rfl 80 rfl ?_
      rcases Bool.eq_false_or_eq_true (okP p42) with hk46 | hk46
      · skip
        refine r_invVr hC kX6 (b 0) [] (.int 1) mVX6_isGood q2945 (fun _ h => h.get 2 rfl) (metX6_isGood _ _ hG b i42 _ 1 (by rw [rd_good hr42, hk46]; rfl)) (fun _ h => h.in.sub [2] rfl rfl) ⟨rfl, rfl⟩ 0 0 rfl rfl (Nat.le_of_ble_eq_true rfl) (Nat.le_of_ble_eq_true rfl) rfl (Nat.le_of_ble_eq_true rfl) dX6_query_80 83 rfl ?_
        refine r_ifne hC 95 dX6_query_83 (by decide) 86 rfl (fun _ => ?_) (fun h => absurd h (by decide))
        refine r_iconst hC 0 dX6_query_95 ic_0 96 rfl ?_
        refine r_istore_n hC 3 [(3, .int 0), (2, .int 1), (0, .ref (b 0)), (1, .int (nI e))] dX6_query_96 rfl (Nat.le_of_ble_eq_true rfl) rfl 97 rfl ?_
        refine r_iconst hC 0 dX6_query_97 ic_0 98 rfl ?_
        refine r_istore hC 4 [(4, .int 0), (3, .int 0), (2, .int 1), (0, .ref (b 0)), (1, .int (nI e))] dX6_query_98 (Nat.le_of_ble_eq_true rfl) rfl 100 rfl ?_
        obtain ⟨h36, hl, hLe, hL⟩ := hO42.2 hk46
        have hok : okP (qryR bf e).2 = true := by rw [qryR, hO42.1]; exact hk46
        refine rn.sub (lv' := [(4, .int 0), (3, .int 0), (2, .int 1), (0, .ref (b 0))]) [0, 1, 2, 3] rfl ?_
        refine rn.mono (J := xSt F V0 [(b 0, .inr (5, mF b i42 j42)), (b 13, .inl (0, 600, .inl bf)), (b 33, .inl (0, 200, .inl co42)), (b 34, .inl (0, 200, .inl wt42)), (b 35, .inl (0, 200, .inl sk)), (b 1, .inl (1, 111, .inr (.inl r)))]) (fun _ h => h.sub [2, 3, 4, 5, 0, 1] rfl rfl) ?_
        refine lpX6_query1 hG hC b i42 j42 bf co42 wt42 r L42 mn hmn h5 hL h36 hl (fun a ha => by have := hev hok a ha; rw [show (qryR bf e).1 = L42 from hLe.symm] at this; exact this) (fstL (fun a => evB (pvQ r a) L42) mn 0) (fun d sk9 e9 => ?_) (fun sk9 e9 => ?_) mn 0 sk (by omega) rfl
        · skip
          refine r_iload hC 0 dX6_query_129 rfl 131 rfl ?_
          exact r_iret hC (Nat.le_of_ble_eq_true rfl) (Nat.le_of_ble_eq_true rfl) (fun V9 h => hQ _ _ ⟨[(b 0, .inr (5, mF b i42 j42)), (b 13, .inl (0, 600, .inl bf)), (b 33, .inl (0, 200, .inl co42)), (b 34, .inl (0, 200, .inl wt42)), (b 35, .inl (0, 200, .inl sk9)), (b 1, .inl (1, 111, .inr (.inl r)))], Or.inr ⟨_, _, _, _, _, by rw [qryR, hO42.1]; exact hk46, by rw [qryV_1 hk37, show (qryR bf e).1 = L42 from hLe.symm, e9], rfl, (((((qI_refl i8).trans gi38).tr gi42) 0 (by decide) (by decide) (by decide) (by decide) (by decide) (by decide) (by decide) (by decide)).trans (ef8 0 (by decide) (by decide) (by decide) (by decide) (by decide) (by decide) (by decide))), (((((qI_refl i8).trans gi38).tr gi42) 14 (by decide) (by decide) (by decide) (by decide) (by decide) (by decide) (by decide) (by decide)).trans e14), (by obtain ⟨g, q1, q2, q3, q4⟩ := rd_ok hr42 hk46; exact q4), (qF_of ef8 (((qI_refl i8).trans gi38).tr gi42)), (fj8.trans (((fJ_refl j8).trans fj38).trans fj42))⟩, by rw [← hV0, ← hF]; exact h⟩) dX6_query_131
        · skip
          refine r_iload_n hC 1 dX6_query_141 rfl 142 rfl ?_
          refine r_ifeq hC 149 dX6_query_142 (by decide) 145 rfl (fun h => absurd h (by decide)) (fun _ => ?_)
          refine r_iconst hC (-1) dX6_query_145 ic_m1 146 rfl ?_
          refine r_goto hC 150 dX6_query_146 (by decide) ?_
          exact r_iret hC (Nat.le_of_ble_eq_true rfl) (Nat.le_of_ble_eq_true rfl) (fun V9 h => hQ _ _ ⟨[(b 0, .inr (5, mF b i42 j42)), (b 13, .inl (0, 600, .inl bf)), (b 33, .inl (0, 200, .inl co42)), (b 34, .inl (0, 200, .inl wt42)), (b 35, .inl (0, 200, .inl sk9)), (b 1, .inl (1, 111, .inr (.inl r)))], Or.inr ⟨_, _, _, _, _, by rw [qryR, hO42.1]; exact hk46, by rw [qryV_1 hk37, show (qryR bf e).1 = L42 from hLe.symm, e9], rfl, (((((qI_refl i8).trans gi38).tr gi42) 0 (by decide) (by decide) (by decide) (by decide) (by decide) (by decide) (by decide) (by decide)).trans (ef8 0 (by decide) (by decide) (by decide) (by decide) (by decide) (by decide) (by decide))), (((((qI_refl i8).trans gi38).tr gi42) 14 (by decide) (by decide) (by decide) (by decide) (by decide) (by decide) (by decide) (by decide)).trans e14), (by obtain ⟨g, q1, q2, q3, q4⟩ := rd_ok hr42 hk46; exact q4), (qF_of ef8 (((qI_refl i8).trans gi38).tr gi42)), (fj8.trans (((fJ_refl j8).trans fj38).trans fj42))⟩, by rw [← hV0, ← hF]; exact h⟩) dX6_query_150
      · skip
        refine r_invVr hC kX6 (b 0) [] (.int 0) mVX6_isGood q2945 (fun _ h => h.get 2 rfl) (metX6_isGood _ _ hG b i42 _ 0 (by rw [rd_good hr42, hk46]; rfl)) (fun _ h => h.in.sub [2] rfl rfl) ⟨rfl, rfl⟩ 0 0 rfl rfl (Nat.le_of_ble_eq_true rfl) (Nat.le_of_ble_eq_true rfl) rfl (Nat.le_of_ble_eq_true rfl) dX6_query_80 83 rfl ?_
        refine r_ifne hC 95 dX6_query_83 (by decide) 86 rfl (fun h => absurd h (by decide)) (fun _ => ?_)
        refine r_ldcw hC q3272 dX6_query_86 89 rfl ?_
        refine r_aload_n hC 1 dX6_query_89 rfl 90 rfl ?_
        refine r_get (v := .int (i42 21)) hC kX6 21 rfl q2774 (fun _ h => h.get 2 rfl) rfl dX6_query_90 93 rfl ?_
        refine r_isub hC ((-1000000000) - (i42 21)) dX6_query_93  (rfl) 94 rfl ?_
        exact r_iret hC (Nat.le_of_ble_eq_true rfl) (Nat.le_of_ble_eq_true rfl) (fun V9 h => hQ _ _ (by obtain ⟨c, p, e1, e2, e3⟩ := rd_err hr42 hk46; exact ⟨[(b 0, .inr (5, mF b i42 j42)), (b 13, .inl (0, 600, .inl bf)), (b 33, .inl (0, 200, .inl co42)), (b 34, .inl (0, 200, .inl wt42)), (b 35, .inl (0, 200, .inl sk)), (b 1, .inl (1, 111, .inr (.inl r)))], Or.inl ⟨c, p, _, _, _, _, _, hO42.1.trans e1, by rw [e2], rfl, (((((qI_refl i8).trans gi38).tr gi42) 0 (by decide) (by decide) (by decide) (by decide) (by decide) (by decide) (by decide) (by decide)).trans (ef8 0 (by decide) (by decide) (by decide) (by decide) (by decide) (by decide) (by decide))), (((((qI_refl i8).trans gi38).tr gi42) 14 (by decide) (by decide) (by decide) (by decide) (by decide) (by decide) (by decide) (by decide)).trans e14), e3, (qF_of ef8 (((qI_refl i8).trans gi38).tr gi42)), (fj8.trans (((fJ_refl j8).trans fj38).trans fj42))⟩, by rw [← hV0, ← hF]; exact (h.sub [2, 3, 4, 5, 0, 1] rfl rfl)⟩)) dX6_query_94
    · skip
      refine r_invVr hC kX6 (b 0) [.long 3379448] (.int 0) mVX6_passes q2937 (fun _ h => h.get 4 rfl) (metX6_passes0 _ _ hG b i8 j8 bf e he (.ok (tBeg bf e 0)) h8 3379448 hk37) (fun _ h => h.in.sub [4, 5] rfl rfl) ⟨rfl, rfl⟩ 0 0 rfl rfl (Nat.le_of_ble_eq_true rfl) (Nat.le_of_ble_eq_true rfl) rfl (Nat.le_of_ble_eq_true rfl) dX6_query_51 54 rfl ?_
      refine r_istore_n hC 2 [(2, .int 0), (0, .ref (b 0)), (1, .int (nI e))] dX6_query_54 rfl (Nat.le_of_ble_eq_true rfl) rfl 55 rfl ?_
      refine r_iload_n hC 0 dX6_query_55 rfl 56 rfl ?_
      refine r_ifne hC 75 dX6_query_56 (by decide) 59 rfl (fun h => absurd h (by decide)) (fun _ => ?_)
      refine r_aload_n hC 1 dX6_query_59 rfl 60 rfl ?_
      refine r_ldc2 hC q3305 dX6_query_60 63 rfl ?_
      rcases Bool.eq_false_or_eq_true (isW bf e 257011 (.ok (tBeg bf e 0))) with hk47 | hk47
      · skip
        refine r_invVw hC kX6 (b 0) [.long 257011] [(b 33, .inl (0, 200, .inl co)), (b 34, .inl (0, 200, .inl wt)), (b 35, .inl (0, 200, .inl sk)), (b 1, .inl (1, 111, .inr (.inl r)))] mVX6_passes q2937 4 rfl (metX6_passes1 _ _ hG b i8 j8 bf e he (.ok (tBeg bf e 0)) h8 257011 hk47) [4, 5] [0, 1, 2, 3] rfl rfl rfl rfl (by decide) ⟨rfl, rfl⟩ 0 0 rfl rfl (Nat.le_of_ble_eq_true rfl) (Nat.le_of_ble_eq_true rfl) rfl (Nat.le_of_ble_eq_true rfl) dX6_query_63 66 rfl (fun v49 w50 h51 => ?_) (fun _ _ h => h.elim)
        obtain ⟨rfl, i48, j48, rfl, hr48, gi48, fj48⟩ := h51
        show rn C (xSt F V0 [(b 33, .inl (0, 200, .inl co)), (b 34, .inl (0, 200, .inl wt)), (b 35, .inl (0, 200, .inl sk)), (b 1, .inl (1, 111, .inr (.inl r))), (b 0, .inr (5, mF b i48 j48)), (b 13, .inl (0, 600, .inl bf))]) 0 0 66 [(2, .int 0), (0, .ref (b 0)), (1, .int (nI e))] [.int 1]
        refine r_ifne hC 75 dX6_query_66 (by decide) 69 rfl (fun _ => ?_) (fun h => absurd h (by decide))
        have hqp : qryP bf e = nxP bf e (.ok (tBeg bf e 0)) := by rw [qryP, if_neg (nt hk37), if_pos hk47]
        have hr75 : rdP bf e i48 j48 (qryP bf e) := by rw [hqp]; exact hr48
        refine r_aload_n hC 1 dX6_query_75 rfl 76 rfl ?_
        refine r_invVw hC kX6 (b 0) [] [(b 35, .inl (0, 200, .inl sk)), (b 1, .inl (1, 111, .inr (.inl r)))] mVX6_reads q3306 4 rfl (metX6_reads _ _ hG b i48 j48 bf co wt e he (qryP bf e) hr75 he2) [4, 5, 0, 1] [2, 3] rfl rfl rfl rfl (by decide) ⟨rfl, rfl⟩ 0 0 rfl rfl (Nat.le_of_ble_eq_true rfl) (Nat.le_of_ble_eq_true rfl) rfl (Nat.le_of_ble_eq_true rfl) dX6_query_76 79 rfl (fun v53 w54 h55 => ?_) (fun _ _ h => h.elim)
        obtain ⟨rfl, i52, j52, co52, wt52, L52, W52, p52, rfl, hr52, gi52, fj52, hO52⟩ := h55
        show rn C (xSt F V0 [(b 35, .inl (0, 200, .inl sk)), (b 1, .inl (1, 111, .inr (.inl r))), (b 0, .inr (5, mF b i52 j52)), (b 13, .inl (0, 600, .inl bf)), (b 33, .inl (0, 200, .inl co52)), (b 34, .inl (0, 200, .inl wt52))]) 0 0 79 [(2, .int 0), (0, .ref (b 0)), (1, .int (nI e))] []
        refine r_aload_n hC 1 dX6_query_79 rfl 80 rfl ?_
        rcases Bool.eq_false_or_eq_true (okP p52) with hk56 | hk56
        · skip
          refine r_invVr hC kX6 (b 0) [] (.int 1) mVX6_isGood q2945 (fun _ h => h.get 2 rfl) (metX6_isGood _ _ hG b i52 _ 1 (by rw [rd_good hr52, hk56]; rfl)) (fun _ h => h.in.sub [2] rfl rfl) ⟨rfl, rfl⟩ 0 0 rfl rfl (Nat.le_of_ble_eq_true rfl) (Nat.le_of_ble_eq_true rfl) rfl (Nat.le_of_ble_eq_true rfl) dX6_query_80 83 rfl ?_
          refine r_ifne hC 95 dX6_query_83 (by decide) 86 rfl (fun _ => ?_) (fun h => absurd h (by decide))
          refine r_iconst hC 0 dX6_query_95 ic_0 96 rfl ?_
          refine r_istore_n hC 3 [(3, .int 0), (2, .int 0), (0, .ref (b 0)), (1, .int (nI e))] dX6_query_96 rfl (Nat.le_of_ble_eq_true rfl) rfl 97 rfl ?_
          refine r_iconst hC 0 dX6_query_97 ic_0 98 rfl ?_
          refine r_istore hC 4 [(4, .int 0), (3, .int 0), (2, .int 0), (0, .ref (b 0)), (1, .int (nI e))] dX6_query_98 (Nat.le_of_ble_eq_true rfl) rfl 100 rfl ?_
          obtain ⟨h36, hl, hLe, hL⟩ := hO52.2 hk56
          have hok : okP (qryR bf e).2 = true := by rw [qryR, hO52.1]; exact hk56
          refine rn.sub (lv' := [(4, .int 0), (3, .int 0), (2, .int 0), (0, .ref (b 0))]) [0, 1, 2, 3] rfl ?_
          refine rn.mono (J := xSt F V0 [(b 0, .inr (5, mF b i52 j52)), (b 13, .inl (0, 600, .inl bf)), (b 33, .inl (0, 200, .inl co52)), (b 34, .inl (0, 200, .inl wt52)), (b 35, .inl (0, 200, .inl sk)), (b 1, .inl (1, 111, .inr (.inl r)))]) (fun _ h => h.sub [2, 3, 4, 5, 0, 1] rfl rfl) ?_
          refine lpX6_query0 hG hC b i52 j52 bf co52 wt52 r L52 mn hmn h5 hL h36 hl (fun a ha => by have := hev hok a ha; rw [show (qryR bf e).1 = L52 from hLe.symm] at this; exact this) (cntL (fun a => evB (pvQ r a) L52) mn 0 0) (fun sk9 n9 e9 => ?_) mn 0 0 sk (by omega) rfl
          · skip
            refine r_iload_n hC 1 dX6_query_141 rfl 142 rfl ?_
            refine r_ifeq hC 149 dX6_query_142 (by decide) 145 rfl (fun _ => ?_) (fun h => absurd h (by decide))
            refine r_iload_n hC 0 dX6_query_149 rfl 150 rfl ?_
            exact r_iret hC (Nat.le_of_ble_eq_true rfl) (Nat.le_of_ble_eq_true rfl) (fun V9 h => hQ _ _ ⟨[(b 0, .inr (5, mF b i52 j52)), (b 13, .inl (0, 600, .inl bf)), (b 33, .inl (0, 200, .inl co52)), (b 34, .inl (0, 200, .inl wt52)), (b 35, .inl (0, 200, .inl sk9)), (b 1, .inl (1, 111, .inr (.inl r)))], Or.inr ⟨_, _, _, _, _, by rw [qryR, hO52.1]; exact hk56, by rw [qryV_0 hk37, show (qryR bf e).1 = L52 from hLe.symm, e9], rfl, (((((qI_refl i8).trans gi48).tr gi52) 0 (by decide) (by decide) (by decide) (by decide) (by decide) (by decide) (by decide) (by decide)).trans (ef8 0 (by decide) (by decide) (by decide) (by decide) (by decide) (by decide) (by decide))), (((((qI_refl i8).trans gi48).tr gi52) 14 (by decide) (by decide) (by decide) (by decide) (by decide) (by decide) (by decide) (by decide)).trans e14), (by obtain ⟨g, q1, q2, q3, q4⟩ := rd_ok hr52 hk56; exact q4), (qF_of ef8 (((qI_refl i8).trans gi48).tr gi52)), (fj8.trans (((fJ_refl j8).trans fj48).trans fj52))⟩, by rw [← hV0, ← hF]; exact h⟩) dX6_query_150
        · skip
          refine r_invVr hC kX6 (b 0) [] (.int 0) mVX6_isGood q2945 (fun _ h => h.get 2 rfl) (metX6_isGood _ _ hG b i52 _ 0 (by rw [rd_good hr52, hk56]; rfl)) (fun _ h => h.in.sub [2] rfl rfl) ⟨rfl, rfl⟩ 0 0 rfl rfl (Nat.le_of_ble_eq_true rfl) (Nat.le_of_ble_eq_true rfl) rfl (Nat.le_of_ble_eq_true rfl) dX6_query_80 83 rfl ?_
          refine r_ifne hC 95 dX6_query_83 (by decide) 86 rfl (fun h => absurd h (by decide)) (fun _ => ?_)
          refine r_ldcw hC q3272 dX6_query_86 89 rfl ?_
          refine r_aload_n hC 1 dX6_query_89 rfl 90 rfl ?_
          refine r_get (v := .int (i52 21)) hC kX6 21 rfl q2774 (fun _ h => h.get 2 rfl) rfl dX6_query_90 93 rfl ?_
          refine r_isub hC ((-1000000000) - (i52 21)) dX6_query_93  (rfl) 94 rfl ?_
          exact r_iret hC (Nat.le_of_ble_eq_true rfl) (Nat.le_of_ble_eq_true rfl) (fun V9 h => hQ _ _ (by obtain ⟨c, p, e1, e2, e3⟩ := rd_err hr52 hk56; exact ⟨[(b 0, .inr (5, mF b i52 j52)), (b 13, .inl (0, 600, .inl bf)), (b 33, .inl (0, 200, .inl co52)), (b 34, .inl (0, 200, .inl wt52)), (b 35, .inl (0, 200, .inl sk)), (b 1, .inl (1, 111, .inr (.inl r)))], Or.inl ⟨c, p, _, _, _, _, _, hO52.1.trans e1, by rw [e2], rfl, (((((qI_refl i8).trans gi48).tr gi52) 0 (by decide) (by decide) (by decide) (by decide) (by decide) (by decide) (by decide) (by decide)).trans (ef8 0 (by decide) (by decide) (by decide) (by decide) (by decide) (by decide) (by decide))), (((((qI_refl i8).trans gi48).tr gi52) 14 (by decide) (by decide) (by decide) (by decide) (by decide) (by decide) (by decide) (by decide)).trans e14), e3, (qF_of ef8 (((qI_refl i8).trans gi48).tr gi52)), (fj8.trans (((fJ_refl j8).trans fj48).trans fj52))⟩, by rw [← hV0, ← hF]; exact (h.sub [2, 3, 4, 5, 0, 1] rfl rfl)⟩)) dX6_query_94
      · skip
        refine r_invVr hC kX6 (b 0) [.long 257011] (.int 0) mVX6_passes q2937 (fun _ h => h.get 4 rfl) (metX6_passes0 _ _ hG b i8 j8 bf e he (.ok (tBeg bf e 0)) h8 257011 hk47) (fun _ h => h.in.sub [4, 5] rfl rfl) ⟨rfl, rfl⟩ 0 0 rfl rfl (Nat.le_of_ble_eq_true rfl) (Nat.le_of_ble_eq_true rfl) rfl (Nat.le_of_ble_eq_true rfl) dX6_query_63 66 rfl ?_
        refine r_ifne hC 75 dX6_query_66 (by decide) 69 rfl (fun h => absurd h (by decide)) (fun _ => ?_)
        refine r_aload_n hC 1 dX6_query_69 rfl 70 rfl ?_
        refine r_iconst hC 1 dX6_query_70 ic_1 71 rfl ?_
        refine r_invVw hC kX6 (b 0) [.int 1] [(b 33, .inl (0, 200, .inl co)), (b 34, .inl (0, 200, .inl wt)), (b 35, .inl (0, 200, .inl sk)), (b 1, .inl (1, 111, .inr (.inl r))), (b 13, .inl (0, 600, .inl bf))] mVX6_wrongs q2953 4 rfl (metX6_wrongsP _ _ hG b i8 j8 bf e he (.ok (tBeg bf e 0)) h8 1 (by decide)) [4] [0, 1, 2, 3, 5] rfl rfl rfl rfl (by decide) ⟨rfl, rfl⟩ 0 0 rfl rfl (Nat.le_of_ble_eq_true rfl) (Nat.le_of_ble_eq_true rfl) rfl (Nat.le_of_ble_eq_true rfl) dX6_query_71 74 rfl (fun v58 w59 h60 => ?_) (fun _ _ h => h.elim)
        obtain ⟨rfl, i57, j57, rfl, hr57, gi57, fj57⟩ := h60
        show rn C (xSt F V0 [(b 33, .inl (0, 200, .inl co)), (b 34, .inl (0, 200, .inl wt)), (b 35, .inl (0, 200, .inl sk)), (b 1, .inl (1, 111, .inr (.inl r))), (b 13, .inl (0, 600, .inl bf)), (b 0, .inr (5, mF b i57 j57))]) 0 0 74 [(2, .int 0), (0, .ref (b 0)), (1, .int (nI e))] [.int 0]
        refine r_pop hC dX6_query_74 rfl 75 rfl ?_
        have hqp : qryP bf e = wrP 1 (.ok (tBeg bf e 0)) := by rw [qryP, if_neg (nt hk37), if_neg (nt hk47)]
        have hr75 : rdP bf e i57 j57 (qryP bf e) := by rw [hqp]; exact hr57
        refine r_aload_n hC 1 dX6_query_75 rfl 76 rfl ?_
        refine r_invVw hC kX6 (b 0) [] [(b 35, .inl (0, 200, .inl sk)), (b 1, .inl (1, 111, .inr (.inl r)))] mVX6_reads q3306 5 rfl (metX6_reads _ _ hG b i57 j57 bf co wt e he (qryP bf e) hr75 he2) [5, 4, 0, 1] [2, 3] rfl rfl rfl rfl (by decide) ⟨rfl, rfl⟩ 0 0 rfl rfl (Nat.le_of_ble_eq_true rfl) (Nat.le_of_ble_eq_true rfl) rfl (Nat.le_of_ble_eq_true rfl) dX6_query_76 79 rfl (fun v62 w63 h64 => ?_) (fun _ _ h => h.elim)
        obtain ⟨rfl, i61, j61, co61, wt61, L61, W61, p61, rfl, hr61, gi61, fj61, hO61⟩ := h64
        show rn C (xSt F V0 [(b 35, .inl (0, 200, .inl sk)), (b 1, .inl (1, 111, .inr (.inl r))), (b 0, .inr (5, mF b i61 j61)), (b 13, .inl (0, 600, .inl bf)), (b 33, .inl (0, 200, .inl co61)), (b 34, .inl (0, 200, .inl wt61))]) 0 0 79 [(2, .int 0), (0, .ref (b 0)), (1, .int (nI e))] []
        refine r_aload_n hC 1 dX6_query_79 rfl 80 rfl ?_
        rcases Bool.eq_false_or_eq_true (okP p61) with hk65 | hk65
        · skip
          refine r_invVr hC kX6 (b 0) [] (.int 1) mVX6_isGood q2945 (fun _ h => h.get 2 rfl) (metX6_isGood _ _ hG b i61 _ 1 (by rw [rd_good hr61, hk65]; rfl)) (fun _ h => h.in.sub [2] rfl rfl) ⟨rfl, rfl⟩ 0 0 rfl rfl (Nat.le_of_ble_eq_true rfl) (Nat.le_of_ble_eq_true rfl) rfl (Nat.le_of_ble_eq_true rfl) dX6_query_80 83 rfl ?_
          refine r_ifne hC 95 dX6_query_83 (by decide) 86 rfl (fun _ => ?_) (fun h => absurd h (by decide))
          refine r_iconst hC 0 dX6_query_95 ic_0 96 rfl ?_
          refine r_istore_n hC 3 [(3, .int 0), (2, .int 0), (0, .ref (b 0)), (1, .int (nI e))] dX6_query_96 rfl (Nat.le_of_ble_eq_true rfl) rfl 97 rfl ?_
          refine r_iconst hC 0 dX6_query_97 ic_0 98 rfl ?_
          refine r_istore hC 4 [(4, .int 0), (3, .int 0), (2, .int 0), (0, .ref (b 0)), (1, .int (nI e))] dX6_query_98 (Nat.le_of_ble_eq_true rfl) rfl 100 rfl ?_
          obtain ⟨h36, hl, hLe, hL⟩ := hO61.2 hk65
          have hok : okP (qryR bf e).2 = true := by rw [qryR, hO61.1]; exact hk65
          refine rn.sub (lv' := [(4, .int 0), (3, .int 0), (2, .int 0), (0, .ref (b 0))]) [0, 1, 2, 3] rfl ?_
          refine rn.mono (J := xSt F V0 [(b 0, .inr (5, mF b i61 j61)), (b 13, .inl (0, 600, .inl bf)), (b 33, .inl (0, 200, .inl co61)), (b 34, .inl (0, 200, .inl wt61)), (b 35, .inl (0, 200, .inl sk)), (b 1, .inl (1, 111, .inr (.inl r)))]) (fun _ h => h.sub [2, 3, 4, 5, 0, 1] rfl rfl) ?_
          refine lpX6_query0 hG hC b i61 j61 bf co61 wt61 r L61 mn hmn h5 hL h36 hl (fun a ha => by have := hev hok a ha; rw [show (qryR bf e).1 = L61 from hLe.symm] at this; exact this) (cntL (fun a => evB (pvQ r a) L61) mn 0 0) (fun sk9 n9 e9 => ?_) mn 0 0 sk (by omega) rfl
          · skip
            refine r_iload_n hC 1 dX6_query_141 rfl 142 rfl ?_
            refine r_ifeq hC 149 dX6_query_142 (by decide) 145 rfl (fun _ => ?_) (fun h => absurd h (by decide))
            refine r_iload_n hC 0 dX6_query_149 rfl 150 rfl ?_
            exact r_iret hC (Nat.le_of_ble_eq_true rfl) (Nat.le_of_ble_eq_true rfl) (fun V9 h => hQ _ _ ⟨[(b 0, .inr (5, mF b i61 j61)), (b 13, .inl (0, 600, .inl bf)), (b 33, .inl (0, 200, .inl co61)), (b 34, .inl (0, 200, .inl wt61)), (b 35, .inl (0, 200, .inl sk9)), (b 1, .inl (1, 111, .inr (.inl r)))], Or.inr ⟨_, _, _, _, _, by rw [qryR, hO61.1]; exact hk65, by rw [qryV_0 hk37, show (qryR bf e).1 = L61 from hLe.symm, e9], rfl, (((((qI_refl i8).trans gi57).tr gi61) 0 (by decide) (by decide) (by decide) (by decide) (by decide) (by decide) (by decide) (by decide)).trans (ef8 0 (by decide) (by decide) (by decide) (by decide) (by decide) (by decide) (by decide))), (((((qI_refl i8).trans gi57).tr gi61) 14 (by decide) (by decide) (by decide) (by decide) (by decide) (by decide) (by decide) (by decide)).trans e14), (by obtain ⟨g, q1, q2, q3, q4⟩ := rd_ok hr61 hk65; exact q4), (qF_of ef8 (((qI_refl i8).trans gi57).tr gi61)), (fj8.trans (((fJ_refl j8).trans fj57).trans fj61))⟩, by rw [← hV0, ← hF]; exact h⟩) dX6_query_150
        · skip
          refine r_invVr hC kX6 (b 0) [] (.int 0) mVX6_isGood q2945 (fun _ h => h.get 2 rfl) (metX6_isGood _ _ hG b i61 _ 0 (by rw [rd_good hr61, hk65]; rfl)) (fun _ h => h.in.sub [2] rfl rfl) ⟨rfl, rfl⟩ 0 0 rfl rfl (Nat.le_of_ble_eq_true rfl) (Nat.le_of_ble_eq_true rfl) rfl (Nat.le_of_ble_eq_true rfl) dX6_query_80 83 rfl ?_
          refine r_ifne hC 95 dX6_query_83 (by decide) 86 rfl (fun h => absurd h (by decide)) (fun _ => ?_)
          refine r_ldcw hC q3272 dX6_query_86 89 rfl ?_
          refine r_aload_n hC 1 dX6_query_89 rfl 90 rfl ?_
          refine r_get (v := .int (i61 21)) hC kX6 21 rfl q2774 (fun _ h => h.get 2 rfl) rfl dX6_query_90 93 rfl ?_
          refine r_isub hC ((-1000000000) - (i61 21)) dX6_query_93  (rfl) 94 rfl ?_
          exact r_iret hC (Nat.le_of_ble_eq_true rfl) (Nat.le_of_ble_eq_true rfl) (fun V9 h => hQ _ _ (by obtain ⟨c, p, e1, e2, e3⟩ := rd_err hr61 hk65; exact ⟨[(b 0, .inr (5, mF b i61 j61)), (b 13, .inl (0, 600, .inl bf)), (b 33, .inl (0, 200, .inl co61)), (b 34, .inl (0, 200, .inl wt61)), (b 35, .inl (0, 200, .inl sk)), (b 1, .inl (1, 111, .inr (.inl r)))], Or.inl ⟨c, p, _, _, _, _, _, hO61.1.trans e1, by rw [e2], rfl, (((((qI_refl i8).trans gi57).tr gi61) 0 (by decide) (by decide) (by decide) (by decide) (by decide) (by decide) (by decide) (by decide)).trans (ef8 0 (by decide) (by decide) (by decide) (by decide) (by decide) (by decide) (by decide))), (((((qI_refl i8).trans gi57).tr gi61) 14 (by decide) (by decide) (by decide) (by decide) (by decide) (by decide) (by decide) (by decide)).trans e14), e3, (qF_of ef8 (((qI_refl i8).trans gi57).tr gi61)), (fj8.trans (((fJ_refl j8).trans fj57).trans fj61))⟩, by rw [← hV0, ← hF]; exact (h.sub [2, 3, 4, 5, 0, 1] rfl rfl)⟩)) dX6_query_94
set_option maxHeartbeats 4000000 in
set_option maxRecDepth 100000 in
theorem metX6_queryB1 (l : Launch) (G : xG) (hG : xGood G) (b : Nat → Nat) (i : Nat → Int32) (j : Nat → Int64) (x : Int32) (h14 : i 14 < 200) (hx : bI (m_in x.toInt64 0 (i 14).toInt64) = 0) : xWm l G yX6_query (Cond.code yX6_query cX6_query 5 (some .int)) { frames := 1, locals := 25, cells := 0, slots := 0 } [.ref (b 0), .int x] [(b 0, .inr (5, mF b i j))] (fun v w' => v = some (.int 0) ∧ w' = [(b 0, .inr (5, mF b (va_up i 0 1) j))]) (fun _ _ => False) := by
  intro V hV
  refine xMet_of RX6 hG rfl (by decide) (Nat.le_of_ble_eq_true rfl) fun C hC hQ hX hl hg _ => ?_
  subst hl hg
  obtain ⟨V0, hV0⟩ : ∃ V0, V0 = V := ⟨_, rfl⟩
  obtain ⟨F, hF⟩ : ∃ F, F = xF [(b 0, .inr (5, mF b i j))] := ⟨_, rfl⟩
  refine rn.mono (J := xSt F V0 [(b 0, .inr (5, mF b i j))]) (fun V9 h => by rw [h, hV0, hF]; exact hV.st) ?_
  show rn C (xSt F V0 [(b 0, .inr (5, mF b i j))]) 0 0 0 [(0, .ref (b 0)), (1, .int x)] []
  refine r_aload_n hC 0 dX6_query_0 rfl 1 rfl ?_
  refine r_iconst hC 0 dX6_query_1 ic_0 2 rfl ?_
  refine r_put (J := xSt F V0 [(b 0, .inr (5, mF b (va_up i 0 0) j))]) hC kX6 0 rfl q2753 rfl (fun _ h => h.get 0 rfl) (Nat.le_of_ble_eq_true rfl) rfl rfl dX6_query_2 (fun _ h => h.set 0 _ rfl) 5 rfl ?_
  refine r_aload_n hC 0 dX6_query_5 rfl 6 rfl ?_
  refine r_iload_n hC 1 dX6_query_6 rfl 7 rfl ?_
  refine r_i2l hC x.toInt64 dX6_query_7 (rfl) 8 rfl ?_
  refine r_lconst hC 0 dX6_query_8 lc_0 9 rfl ?_
  refine r_aload_n hC 0 dX6_query_9 rfl 10 rfl ?_
  refine r_get (v := .int (i 14)) hC kX6 14 rfl q2767 (fun _ h => h.get 0 rfl) rfl dX6_query_10 13 rfl ?_
  refine r_sipush hC 200 dX6_query_13 sp_200 16 rfl ?_
  refine r_icge hC 27 dX6_query_16 (by decide) 19 rfl (fun h => absurd h (Int32.not_le.mpr h14)) (fun _ => ?_)
  refine r_aload_n hC 0 dX6_query_19 rfl 20 rfl ?_
  refine r_get (v := .int (i 14)) hC kX6 14 rfl q2767 (fun _ h => h.get 0 rfl) rfl dX6_query_20 23 rfl ?_
  refine r_i2l hC ((i 14).toInt64) dX6_query_23 (rfl) 24 rfl ?_
  refine r_goto hC 30 dX6_query_24 (by decide) ?_
  refine r_invSr hC [.long x.toInt64, .long 0, .long ((i 14).toInt64)] (.int 0) mSX6_in q2891 (metX6_inB _ _ hG x.toInt64 0 ((i 14).toInt64) 0 (hx)) (fun _ _ => xIn.nil) ⟨rfl, rfl⟩ 0 0 rfl rfl (Nat.le_of_ble_eq_true rfl) (Nat.le_of_ble_eq_true rfl) rfl (Nat.le_of_ble_eq_true rfl) dX6_query_30 33 rfl ?_
  refine r_iconst hC 1 dX6_query_33 ic_1 34 rfl ?_
  refine r_invVw hC kX6 (b 0) [.int 0, .int 1] [] mVX6_fails q2894 0 rfl (metX6_fails0 _ _ hG b _ _ 1) [0] [] rfl rfl rfl rfl (by decide) ⟨rfl, rfl⟩ 0 0 rfl rfl (Nat.le_of_ble_eq_true rfl) (Nat.le_of_ble_eq_true rfl) rfl (Nat.le_of_ble_eq_true rfl) dX6_query_34 37 rfl (fun v1 w2 h3 => ?_) (fun _ _ h => h.elim)
  obtain ⟨rfl, rfl⟩ := h3
  show rn C (xSt F V0 [(b 0, .inr (5, mF b (va_up (va_up i 0 0) 0 1) j))]) 0 0 37 [(0, .ref (b 0)), (1, .int x)] [.int 1]
  refine r_ifeq hC 42 dX6_query_37 (by decide) 40 rfl (fun h => absurd h (by decide)) (fun _ => ?_)
  refine r_iconst hC 0 dX6_query_40 ic_0 41 rfl ?_
  exact r_iret hC (Nat.le_of_ble_eq_true rfl) (Nat.le_of_ble_eq_true rfl) (fun V9 h => hQ _ _ ⟨[(b 0, .inr (5, mF b (va_up (va_up i 0 0) 0 1) j))], ⟨rfl, by simp only [bx_uu]⟩, by rw [← hV0, ← hF]; exact h⟩) dX6_query_41
set_option maxHeartbeats 4000000 in
set_option maxRecDepth 100000 in
theorem metX6_queryB2 (l : Launch) (G : xG) (hG : xGood G) (b : Nat → Nat) (i : Nat → Int32) (j : Nat → Int64) (x : Int32) (h14 : 200 ≤ i 14) (hx : bI (m_in x.toInt64 0 200) = 0) : xWm l G yX6_query (Cond.code yX6_query cX6_query 5 (some .int)) { frames := 1, locals := 25, cells := 0, slots := 0 } [.ref (b 0), .int x] [(b 0, .inr (5, mF b i j))] (fun v w' => v = some (.int 0) ∧ w' = [(b 0, .inr (5, mF b (va_up i 0 1) j))]) (fun _ _ => False) := by
  intro V hV
  refine xMet_of RX6 hG rfl (by decide) (Nat.le_of_ble_eq_true rfl) fun C hC hQ hX hl hg _ => ?_
  subst hl hg
  obtain ⟨V0, hV0⟩ : ∃ V0, V0 = V := ⟨_, rfl⟩
  obtain ⟨F, hF⟩ : ∃ F, F = xF [(b 0, .inr (5, mF b i j))] := ⟨_, rfl⟩
  refine rn.mono (J := xSt F V0 [(b 0, .inr (5, mF b i j))]) (fun V9 h => by rw [h, hV0, hF]; exact hV.st) ?_
  show rn C (xSt F V0 [(b 0, .inr (5, mF b i j))]) 0 0 0 [(0, .ref (b 0)), (1, .int x)] []
  refine r_aload_n hC 0 dX6_query_0 rfl 1 rfl ?_
  refine r_iconst hC 0 dX6_query_1 ic_0 2 rfl ?_
  refine r_put (J := xSt F V0 [(b 0, .inr (5, mF b (va_up i 0 0) j))]) hC kX6 0 rfl q2753 rfl (fun _ h => h.get 0 rfl) (Nat.le_of_ble_eq_true rfl) rfl rfl dX6_query_2 (fun _ h => h.set 0 _ rfl) 5 rfl ?_
  refine r_aload_n hC 0 dX6_query_5 rfl 6 rfl ?_
  refine r_iload_n hC 1 dX6_query_6 rfl 7 rfl ?_
  refine r_i2l hC x.toInt64 dX6_query_7 (rfl) 8 rfl ?_
  refine r_lconst hC 0 dX6_query_8 lc_0 9 rfl ?_
  refine r_aload_n hC 0 dX6_query_9 rfl 10 rfl ?_
  refine r_get (v := .int (i 14)) hC kX6 14 rfl q2767 (fun _ h => h.get 0 rfl) rfl dX6_query_10 13 rfl ?_
  refine r_sipush hC 200 dX6_query_13 sp_200 16 rfl ?_
  refine r_icge hC 27 dX6_query_16 (by decide) 19 rfl (fun _ => ?_) (fun h => absurd (h14) h)
  refine r_ldc2 hC q3303 dX6_query_27 30 rfl ?_
  refine r_invSr hC [.long x.toInt64, .long 0, .long 200] (.int 0) mSX6_in q2891 (metX6_inB _ _ hG x.toInt64 0 200 0 (hx)) (fun _ _ => xIn.nil) ⟨rfl, rfl⟩ 0 0 rfl rfl (Nat.le_of_ble_eq_true rfl) (Nat.le_of_ble_eq_true rfl) rfl (Nat.le_of_ble_eq_true rfl) dX6_query_30 33 rfl ?_
  refine r_iconst hC 1 dX6_query_33 ic_1 34 rfl ?_
  refine r_invVw hC kX6 (b 0) [.int 0, .int 1] [] mVX6_fails q2894 0 rfl (metX6_fails0 _ _ hG b _ _ 1) [0] [] rfl rfl rfl rfl (by decide) ⟨rfl, rfl⟩ 0 0 rfl rfl (Nat.le_of_ble_eq_true rfl) (Nat.le_of_ble_eq_true rfl) rfl (Nat.le_of_ble_eq_true rfl) dX6_query_34 37 rfl (fun v1 w2 h3 => ?_) (fun _ _ h => h.elim)
  obtain ⟨rfl, rfl⟩ := h3
  show rn C (xSt F V0 [(b 0, .inr (5, mF b (va_up (va_up i 0 0) 0 1) j))]) 0 0 37 [(0, .ref (b 0)), (1, .int x)] [.int 1]
  refine r_ifeq hC 42 dX6_query_37 (by decide) 40 rfl (fun h => absurd h (by decide)) (fun _ => ?_)
  refine r_iconst hC 0 dX6_query_40 ic_0 41 rfl ?_
  exact r_iret hC (Nat.le_of_ble_eq_true rfl) (Nat.le_of_ble_eq_true rfl) (fun V9 h => hQ _ _ ⟨[(b 0, .inr (5, mF b (va_up (va_up i 0 0) 0 1) j))], ⟨rfl, by simp only [bx_uu]⟩, by rw [← hV0, ← hF]; exact h⟩) dX6_query_41
