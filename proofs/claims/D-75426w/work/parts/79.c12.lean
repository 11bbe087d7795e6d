/-! ===== the JDK: ArrayDeque: clearing ===== -/
set_option maxRecDepth 100000
set_option maxHeartbeats 4000000 in
set_option maxRecDepth 100000 in
theorem lpJ1_cc {C : xC} {F : Nat → Prop} {V0 : xV} {k n : Nat} {rm : Room} (hC : xCtx C RJ1 cJ1_circularClear 4 none rm) (e m t to : Nat) (hm : m < 65536) (hto : to ≤ m) (kx : ∀ f, rn C (xSt F V0 [(e, .inl (3, m, .inr (.inr (.inr (.inr f)))))]) k n 27 [(3, .int (nI to)), (2, .int (nI t)), (0, .ref e)] []) : ∀ (d i : Nat) (f : Nat → Option Nat), i + d = to → rn C (xSt F V0 [(e, .inl (3, m, .inr (.inr (.inr (.inr f)))))]) k n 12 [(3, .int (nI to)), (1, .int (nI i)), (2, .int (nI t)), (0, .ref e)] [] := by
  intro d
  induction d with
  | zero =>
    intro i f hi
    have hi : i = to := by omega
    subst hi
    refine r_iload_n hC 1 dJ1_circularClear_12 rfl 13 rfl ?_
    refine r_iload_n hC 0 dJ1_circularClear_13 rfl 14 rfl ?_
    refine r_icge hC 27 dJ1_circularClear_14 (by decide) 17 rfl (fun _ => ?_) (fun h => absurd (nI_le (by omega) (by omega)) h)
    refine rn.sub (lv' := [(3, .int (nI i)), (2, .int (nI t)), (0, .ref e)]) [0, 2, 3] rfl ?_
    exact kx _
  | succ d ih =>
    intro i f hi
    refine r_iload_n hC 1 dJ1_circularClear_12 rfl 13 rfl ?_
    refine r_iload_n hC 0 dJ1_circularClear_13 rfl 14 rfl ?_
    refine r_icge hC 27 dJ1_circularClear_14 (by decide) 17 rfl (fun h => absurd h (nI_ge (by omega) (by omega))) (fun _ => ?_)
    refine r_aload_n hC 3 dJ1_circularClear_17 rfl 18 rfl ?_
    refine r_iload_n hC 1 dJ1_circularClear_18 rfl 19 rfl ?_
    refine r_null hC dJ1_circularClear_19 20 rfl ?_
    refine r_aastN (J := xSt F V0 [(e, .inl (3, m, .inr (.inr (.inr (.inr (va_up f i none))))))]) hC i (xix_n i (by omega) (by omega)) rfl (fun _ h => h.get 0 rfl) dJ1_circularClear_20 (fun _ h => h.set 0 _ rfl) 21 rfl ?_
    refine r_iinc hC (nI (i + 1)) 1 1 [(1, .int (nI (i + 1))), (3, .int (nI to)), (2, .int (nI t)), (0, .ref e)] dJ1_circularClear_21 rfl (nI_add i 1) (Nat.le_of_ble_eq_true rfl) rfl 24 rfl ?_
    refine r_goto hC 12 dJ1_circularClear_24 (by decide) ?_
    refine rn.sub (lv' := [(3, .int (nI to)), (1, .int (nI (i + 1))), (2, .int (nI t)), (0, .ref e)]) [1, 0, 2, 3] rfl ?_
    exact ih (i + 1) _ (by omega)
set_option maxHeartbeats 4000000 in
set_option maxRecDepth 100000 in
theorem metJ1_ccA (l : Launch) (G : xG) (hG : xGood G) (e m z t : Nat) (f : Nat → Option Nat) (hm : m < 65536) (hz : z < m) (ht : t < m) (hzt : z ≤ t) : xWm l G yJ1_circularClear (Cond.code yJ1_circularClear cJ1_circularClear 4 none) { frames := 0, locals := 0, cells := 0, slots := 0 } [.ref e, .int (nI z), .int (nI t)] [(e, .inl (3, m, .inr (.inr (.inr (.inr f)))))] (fun v w' => v = none ∧ ∃ f' : Nat → Option Nat, w' = [(e, .inl (3, m, .inr (.inr (.inr (.inr f')))))]) (fun _ _ => False) := by
  intro V hV
  refine xMet_ofT RJ1 hG rfl (by decide) (Nat.le_of_ble_eq_true rfl) fun C hC hQ hX hl hg _ hTab => ?_
  subst hl hg
  obtain ⟨V0, hV0⟩ : ∃ V0, V0 = V := ⟨_, rfl⟩
  obtain ⟨F, hF⟩ : ∃ F, F = xF [(e, .inl (3, m, .inr (.inr (.inr (.inr f)))))] := ⟨_, rfl⟩
  refine rn.mono (J := xSt F V0 [(e, .inl (3, m, .inr (.inr (.inr (.inr f)))))]) (fun V9 h => by rw [h, hV0, hF]; exact hV.st) ?_
  show rn C (xSt F V0 [(e, .inl (3, m, .inr (.inr (.inr (.inr f)))))]) 0 0 0 [(0, .ref e), (1, .int (nI z)), (2, .int (nI t))] []
  refine r_iload_n hC 1 dJ1_circularClear_0 rfl 1 rfl ?_
  refine r_iload_n hC 2 dJ1_circularClear_1 rfl 2 rfl ?_
  refine r_icgt hC 9 dJ1_circularClear_2 (by decide) 5 rfl (fun h => absurd h (nI_nlt hzt (by omega))) (fun _ => ?_)
  refine r_iload_n hC 2 dJ1_circularClear_5 rfl 6 rfl ?_
  refine r_goto hC 11 dJ1_circularClear_6 (by decide) ?_
  refine r_istore_n hC 3 [(3, .int (nI t)), (0, .ref e), (1, .int (nI z)), (2, .int (nI t))] dJ1_circularClear_11 rfl (Nat.le_of_ble_eq_true rfl) rfl 12 rfl ?_
  refine rn.sub (lv' := [(3, .int (nI t)), (1, .int (nI z)), (2, .int (nI t)), (0, .ref e)]) [0, 2, 3, 1] rfl ?_
  refine lpJ1_cc hC e m t t hm (by omega) (fun f1 => ?_) (t - z) z _ (by omega)
  show rn C (xSt F V0 [(e, .inl (3, m, .inr (.inr (.inr (.inr f1)))))]) 0 0 27 [(3, .int (nI t)), (2, .int (nI t)), (0, .ref e)] []
  refine r_iload_n hC 0 dJ1_circularClear_27 rfl 28 rfl ?_
  refine r_iload_n hC 1 dJ1_circularClear_28 rfl 29 rfl ?_
  refine r_icne hC 35 dJ1_circularClear_29 (by decide) 32 rfl (fun h => absurd (rfl) h) (fun _ => ?_)
  refine r_goto hC 42 dJ1_circularClear_32 (by decide) ?_
  exact r_vret hC (Nat.le_of_ble_eq_true rfl) (Nat.le_of_ble_eq_true rfl) (fun V9 h => hQ _ _ ⟨[(e, .inl (3, m, .inr (.inr (.inr (.inr f1)))))], ⟨rfl, _, rfl⟩, by rw [← hV0, ← hF]; exact h⟩) dJ1_circularClear_42
set_option maxHeartbeats 4000000 in
set_option maxRecDepth 100000 in
theorem metJ1_ccB (l : Launch) (G : xG) (hG : xGood G) (e m z t : Nat) (f : Nat → Option Nat) (hm : m < 65536) (hz : z < m) (ht : t < m) (hzt : t < z) : xWm l G yJ1_circularClear (Cond.code yJ1_circularClear cJ1_circularClear 4 none) { frames := 0, locals := 0, cells := 0, slots := 0 } [.ref e, .int (nI z), .int (nI t)] [(e, .inl (3, m, .inr (.inr (.inr (.inr f)))))] (fun v w' => v = none ∧ ∃ f' : Nat → Option Nat, w' = [(e, .inl (3, m, .inr (.inr (.inr (.inr f')))))]) (fun _ _ => False) := by
  intro V hV
  refine xMet_ofT RJ1 hG rfl (by decide) (Nat.le_of_ble_eq_true rfl) fun C hC hQ hX hl hg _ hTab => ?_
  subst hl hg
  obtain ⟨V0, hV0⟩ : ∃ V0, V0 = V := ⟨_, rfl⟩
  obtain ⟨F, hF⟩ : ∃ F, F = xF [(e, .inl (3, m, .inr (.inr (.inr (.inr f)))))] := ⟨_, rfl⟩
  refine rn.mono (J := xSt F V0 [(e, .inl (3, m, .inr (.inr (.inr (.inr f)))))]) (fun V9 h => by rw [h, hV0, hF]; exact hV.st) ?_
  show rn C (xSt F V0 [(e, .inl (3, m, .inr (.inr (.inr (.inr f)))))]) 0 0 0 [(0, .ref e), (1, .int (nI z)), (2, .int (nI t))] []
  refine r_iload_n hC 1 dJ1_circularClear_0 rfl 1 rfl ?_
  refine r_iload_n hC 2 dJ1_circularClear_1 rfl 2 rfl ?_
  refine r_icgt hC 9 dJ1_circularClear_2 (by decide) 5 rfl (fun _ => ?_) (fun h => absurd ((lt_nI (by omega) (by omega)).mpr hzt) h)
  refine r_aload_n hC 0 dJ1_circularClear_9 rfl 10 rfl ?_
  refine r_alen hC (nI m) (t := 3) rfl (fun _ h => h.get 0 rfl) rfl dJ1_circularClear_10 11 rfl ?_
  refine r_istore_n hC 3 [(3, .int (nI m)), (0, .ref e), (1, .int (nI z)), (2, .int (nI t))] dJ1_circularClear_11 rfl (Nat.le_of_ble_eq_true rfl) rfl 12 rfl ?_
  refine rn.sub (lv' := [(3, .int (nI m)), (1, .int (nI z)), (2, .int (nI t)), (0, .ref e)]) [0, 2, 3, 1] rfl ?_
  refine lpJ1_cc hC e m t m hm (by omega) (fun f1 => ?_) (m - z) z _ (by omega)
  show rn C (xSt F V0 [(e, .inl (3, m, .inr (.inr (.inr (.inr f1)))))]) 0 0 27 [(3, .int (nI m)), (2, .int (nI t)), (0, .ref e)] []
  refine r_iload_n hC 0 dJ1_circularClear_27 rfl 28 rfl ?_
  refine r_iload_n hC 1 dJ1_circularClear_28 rfl 29 rfl ?_
  refine r_icne hC 35 dJ1_circularClear_29 (by decide) 32 rfl (fun _ => ?_) (fun h => absurd h (fun q => by have := (eq_nI (by omega) (by omega)).mp q; omega))
  refine r_iconst hC 0 dJ1_circularClear_35 ic_0 36 rfl ?_
  refine r_istore_n hC 1 [(1, .int 0), (3, .int (nI m)), (2, .int (nI t)), (0, .ref e)] dJ1_circularClear_36 rfl (Nat.le_of_ble_eq_true rfl) rfl 37 rfl ?_
  refine r_iload_n hC 2 dJ1_circularClear_37 rfl 38 rfl ?_
  refine r_istore_n hC 3 [(3, .int (nI t)), (1, .int 0), (2, .int (nI t)), (0, .ref e)] dJ1_circularClear_38 rfl (Nat.le_of_ble_eq_true rfl) rfl 39 rfl ?_
  refine r_goto hC 12 dJ1_circularClear_39 (by decide) ?_
  refine rn.sub (lv' := [(3, .int (nI t)), (1, .int 0), (2, .int (nI t)), (0, .ref e)]) [0, 1, 2, 3] rfl ?_
  refine lpJ1_cc hC e m t t hm (by omega) (fun f2 => ?_) (t - 0) 0 _ (by omega)
  show rn C (xSt F V0 [(e, .inl (3, m, .inr (.inr (.inr (.inr f2)))))]) 0 0 27 [(3, .int (nI t)), (2, .int (nI t)), (0, .ref e)] []
  refine r_iload_n hC 0 dJ1_circularClear_27 rfl 28 rfl ?_
  refine r_iload_n hC 1 dJ1_circularClear_28 rfl 29 rfl ?_
  refine r_icne hC 35 dJ1_circularClear_29 (by decide) 32 rfl (fun h => absurd (rfl) h) (fun _ => ?_)
  refine r_goto hC 42 dJ1_circularClear_32 (by decide) ?_
  exact r_vret hC (Nat.le_of_ble_eq_true rfl) (Nat.le_of_ble_eq_true rfl) (fun V9 h => hQ _ _ ⟨[(e, .inl (3, m, .inr (.inr (.inr (.inr f2)))))], ⟨rfl, _, rfl⟩, by rw [← hV0, ← hF]; exact h⟩) dJ1_circularClear_42
theorem metJ1_cc (l : Launch) (G : xG) (hG : xGood G) (e m z t : Nat) (f : Nat → Option Nat) (hm : m < 65536) (hz : z < m) (ht : t < m) : xWm l G yJ1_circularClear (Cond.code yJ1_circularClear cJ1_circularClear 4 none) { frames := 0, locals := 0, cells := 0, slots := 0 } [.ref e, .int (nI z), .int (nI t)] [(e, .inl (3, m, .inr (.inr (.inr (.inr f)))))] (fun v w' => v = none ∧ ∃ f' : Nat → Option Nat, w' = [(e, .inl (3, m, .inr (.inr (.inr (.inr f')))))]) (fun _ _ => False) := by
  by_cases h : z ≤ t
  · exact metJ1_ccA l G hG e m z t f hm hz ht h
  · exact metJ1_ccB l G hG e m z t f hm hz ht (by omega)
set_option maxHeartbeats 4000000 in
set_option maxRecDepth 100000 in
theorem metJ1_clear (l : Launch) (G : xG) (hG : xGood G) (a e m z n : Nat) (f : Nat → Option Nat) (hm : m < 65536) (hh : z < m) (hn : n < m) : xWm l G yJ1_clear (Cond.code yJ1_clear cJ1_clear 1 none) { frames := 1, locals := 23, cells := 0, slots := 0 } [.ref a] [(a, .inr (19, [.ref e, .int (nI z), .int (nI (dqT m z n))])), (e, .inl (3, m, .inr (.inr (.inr (.inr f)))))] (fun v w' => v = none ∧ ∃ f' : Nat → Option Nat, w' = [(a, .inr (19, [.ref e, .int (nI 0), .int (nI (dqT m 0 0))])), (e, .inl (3, m, .inr (.inr (.inr (.inr f')))))]) (fun _ _ => False) := by
  intro V hV
  refine xMet_ofT RJ1 hG rfl (by decide) (Nat.le_of_ble_eq_true rfl) fun C hC hQ hX hl hg _ hTab => ?_
  subst hl hg
  obtain ⟨V0, hV0⟩ : ∃ V0, V0 = V := ⟨_, rfl⟩
  obtain ⟨F, hF⟩ : ∃ F, F = xF [(a, .inr (19, [.ref e, .int (nI z), .int (nI (dqT m z n))])), (e, .inl (3, m, .inr (.inr (.inr (.inr f)))))] := ⟨_, rfl⟩
  refine rn.mono (J := xSt F V0 [(a, .inr (19, [.ref e, .int (nI z), .int (nI (dqT m z n))])), (e, .inl (3, m, .inr (.inr (.inr (.inr f)))))]) (fun V9 h => by rw [h, hV0, hF]; exact hV.st) ?_
  show rn C (xSt F V0 [(a, .inr (19, [.ref e, .int (nI z), .int (nI (dqT m z n))])), (e, .inl (3, m, .inr (.inr (.inr (.inr f)))))]) 0 0 0 [(0, .ref a)] []
  refine r_aload_n hC 0 dJ1_clear_0 rfl 1 rfl ?_
  refine r_get (v := .ref e) hC kJ1 0 rfl q238 (fun _ h => h.get 0 rfl) rfl dJ1_clear_1 4 rfl ?_
  refine r_aload_n hC 0 dJ1_clear_4 rfl 5 rfl ?_
  refine r_get (v := .int (nI z)) hC kJ1 1 rfl q241 (fun _ h => h.get 0 rfl) rfl dJ1_clear_5 8 rfl ?_
  refine r_aload_n hC 0 dJ1_clear_8 rfl 9 rfl ?_
  refine r_get (v := .int (nI (dqT m z n))) hC kJ1 2 rfl q242 (fun _ h => h.get 0 rfl) rfl dJ1_clear_9 12 rfl ?_
  refine xCall.w (wr := [(a, .inr (19, [.ref e, .int (nI z), .int (nI (dqT m z n))]))]) (r_cS hC [.ref e, .int (nI z), .int (nI (dqT m z n))] mSJ1_circularClear q936 (fun V9 h9 => (metJ1_cc _ _ hG e m z (dqT m z n) f hm hh (dqT_lt hh (by omega))) V9 (h9.in.sub [1] rfl rfl)) ⟨rfl, rfl⟩ (Nat.le_of_ble_eq_true rfl) (Nat.le_of_ble_eq_true rfl) rfl (Nat.le_of_ble_eq_true rfl) dJ1_clear_12) [1] [0] rfl rfl rfl (by decide) 0 0 15 rfl rfl rfl (fun v2 w3 h4 => ?_) (fun _ _ h => h.elim)
  obtain ⟨rfl, f1, rfl⟩ := h4
  show rn C (xSt F V0 [(a, .inr (19, [.ref e, .int (nI z), .int (nI (dqT m z n))])), (e, .inl (3, m, .inr (.inr (.inr (.inr f1)))))]) 0 0 15 [(0, .ref a)] []
  refine r_aload_n hC 0 dJ1_clear_15 rfl 16 rfl ?_
  refine r_aload_n hC 0 dJ1_clear_16 rfl 17 rfl ?_
  refine r_iconst hC 0 dJ1_clear_17 ic_0 18 rfl ?_
  refine r_dup_x1 hC dJ1_clear_18 rfl rfl 19 rfl ?_
  refine r_put (J := xSt F V0 [(a, .inr (19, [.ref e, .int (nI z), .int 0])), (e, .inl (3, m, .inr (.inr (.inr (.inr f1)))))]) hC kJ1 2 rfl q242 rfl (fun _ h => h.get 0 rfl) (Nat.le_of_ble_eq_true rfl) (rfl) (rfl) dJ1_clear_19 (fun _ h => h.set 0 _ rfl) 22 rfl ?_
  refine r_put (J := xSt F V0 [(a, .inr (19, [.ref e, .int 0, .int 0])), (e, .inl (3, m, .inr (.inr (.inr (.inr f1)))))]) hC kJ1 1 rfl q241 rfl (fun _ h => h.get 0 rfl) (Nat.le_of_ble_eq_true rfl) (rfl) (rfl) dJ1_clear_22 (fun _ h => h.set 0 _ rfl) 25 rfl ?_
  have he9 : (.int 0 : Value) = .int (nI (dqT m 0 0)) := by rw [dqT_0 (by omega)]; rfl
  have he8 : (.int 0 : Value) = .int (nI 0) := rfl
  refine rn.mono (J := xSt F V0 [(a, .inr (19, [.ref e, .int (nI 0), .int (nI (dqT m 0 0))])), (e, .inl (3, m, .inr (.inr (.inr (.inr f1)))))]) (fun _ h => by rw [← he9]; exact h) ?_
  exact r_vret hC (Nat.le_of_ble_eq_true rfl) (Nat.le_of_ble_eq_true rfl) (fun V9 h => hQ _ _ ⟨[(a, .inr (19, [.ref e, .int (nI 0), .int (nI (dqT m 0 0))])), (e, .inl (3, m, .inr (.inr (.inr (.inr f1)))))], ⟨rfl, _, rfl⟩, by rw [← hV0, ← hF]; exact h⟩) dJ1_clear_25
