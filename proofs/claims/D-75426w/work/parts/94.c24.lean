/-! ===== the JDK: ArrayDeque.addLast of an approach ===== -/
set_option maxRecDepth 100000
theorem dqT_17 {i : Nat} (h : i < 17) : dqT 17 0 i = i := by unfold dqT; rw [if_pos (by omega)]; omega
theorem dqT_36 {i : Nat} (h : i < 17) : dqT 36 19 i = 19 + i := by unfold dqT; rw [if_pos (by omega)]
theorem dqT_inj {m z i j : Nat} (hz : z < m) (hi : i < m) (hj : j < m) (h : dqT m z i = dqT m z j) : i = j := by unfold dqT at h; split at h <;> split at h <;> omega
set_option maxHeartbeats 4000000 in
set_option maxRecDepth 100000 in
theorem metJ1_addLastB (l : Launch) (G : xG) (hG : xGood G) (a e m z n : Nat) (f : Nat → Option Nat) (hm : m < 65536) (hh : z < m) (hn : n < m) (hn1 : n + 1 < m) (x : Nat) (fs : List Value) : xWm l G yJ1_addLast (Cond.code yJ1_addLast cJ1_addLast 3 none) { frames := 4, locals := 132, cells := 1, slots := 36 } [.ref a, .ref x] [(a, .inr (19, [.ref e, .int (nI z), .int (nI (dqT m z n))])), (e, .inl (3, m, .inr (.inr (.inr (.inr f))))), (x, .inr (12, fs))] (fun v w' => v = none ∧ w' = [(a, .inr (19, [.ref e, .int (nI z), .int (nI (dqT m z (n + 1)))])), (e, .inl (3, m, .inr (.inr (.inr (.inr (va_up f (dqT m z n) (some x))))))), (x, .inr (12, fs))]) (fun _ _ => False) := by
  intro V hV
  refine xMet_ofT RJ1 hG rfl (by decide) (Nat.le_of_ble_eq_true rfl) fun C hC hQ hX hl hg _ hTab => ?_
  subst hl hg
  obtain ⟨V0, hV0⟩ : ∃ V0, V0 = V := ⟨_, rfl⟩
  obtain ⟨F, hF⟩ : ∃ F, F = xF [(a, .inr (19, [.ref e, .int (nI z), .int (nI (dqT m z n))])), (e, .inl (3, m, .inr (.inr (.inr (.inr f))))), (x, .inr (12, fs))] := ⟨_, rfl⟩
  refine rn.mono (J := xSt F V0 [(a, .inr (19, [.ref e, .int (nI z), .int (nI (dqT m z n))])), (e, .inl (3, m, .inr (.inr (.inr (.inr f))))), (x, .inr (12, fs))]) (fun V9 h => by rw [h, hV0, hF]; exact hV.st) ?_
  show rn C (xSt F V0 [(a, .inr (19, [.ref e, .int (nI z), .int (nI (dqT m z n))])), (e, .inl (3, m, .inr (.inr (.inr (.inr f))))), (x, .inr (12, fs))]) 0 0 0 [(0, .ref a), (1, .ref x)] []
  refine r_aload_n hC 1 dJ1_addLast_0 rfl 1 rfl ?_
  refine r_ifnonnull hC 12 dJ1_addLast_1 (by decide) ?_
  refine r_aload_n hC 0 dJ1_addLast_12 rfl 13 rfl ?_
  refine r_get (v := .ref e) hC kJ1 0 rfl q238 (fun _ h => h.get 0 rfl) rfl dJ1_addLast_13 16 rfl ?_
  refine r_astore_n hC 2 [(2, .ref e), (0, .ref a), (1, .ref x)] dJ1_addLast_16 rfl (Nat.le_of_ble_eq_true rfl) rfl 17 rfl ?_
  refine r_aload_n hC 0 dJ1_addLast_17 rfl 18 rfl ?_
  refine r_aload_n hC 1 dJ1_addLast_18 rfl 19 rfl ?_
  refine r_get (v := .int (nI (dqT m z n))) hC kJ1 2 rfl q242 (fun _ h => h.get 0 rfl) rfl dJ1_addLast_19 22 rfl ?_
  refine r_aload_n hC 2 dJ1_addLast_22 rfl 23 rfl ?_
  refine r_aastO (J := xSt F V0 [(a, .inr (19, [.ref e, .int (nI z), .int (nI (dqT m z n))])), (e, .inl (3, m, .inr (.inr (.inr (.inr (va_up f (dqT m z n) (some x))))))), (x, .inr (12, fs))]) hC hG kX14 q3407 (dqT m z n) (xix_n (dqT m z n) (dqT_lt hh (by omega)) (by omega)) rfl (fun _ h => ⟨_, h.get 2 rfl⟩) (fun _ h => h.get 1 rfl) dJ1_addLast_23 (fun _ h => h.set 1 _ rfl) 24 rfl ?_
  refine r_aload_n hC 1 dJ1_addLast_24 rfl 25 rfl ?_
  refine r_get (v := .int (nI z)) hC kJ1 1 rfl q241 (fun _ h => h.get 0 rfl) rfl dJ1_addLast_25 28 rfl ?_
  refine r_aload_n hC 1 dJ1_addLast_28 rfl 29 rfl ?_
  refine r_aload_n hC 1 dJ1_addLast_29 rfl 30 rfl ?_
  refine r_get (v := .int (nI (dqT m z n))) hC kJ1 2 rfl q242 (fun _ h => h.get 0 rfl) rfl dJ1_addLast_30 33 rfl ?_
  refine r_aload_n hC 0 dJ1_addLast_33 rfl 34 rfl ?_
  refine r_alen hC (nI m) (t := 3) rfl (fun _ h => h.get 1 rfl) rfl dJ1_addLast_34 35 rfl ?_
  refine xCall.r (r := some (.int (nI (incQ (dqT m z n) m)))) (r_cS hC [.int (nI (dqT m z n)), .int (nI m)] mSJ1_inc q634 (fun V9 h9 => (metJ1_inc _ _ hG (dqT m z n) m (dqT_lt hh (by omega)) hm) V9 xIn.nil) ⟨rfl, rfl⟩ (Nat.le_of_ble_eq_true rfl) (Nat.le_of_ble_eq_true rfl) rfl (Nat.le_of_ble_eq_true rfl) dJ1_addLast_35) 0 0 38 rfl rfl rfl ?_
  refine r_dup_x1 hC dJ1_addLast_38 rfl rfl 39 rfl ?_
  refine r_put (J := xSt F V0 [(a, .inr (19, [.ref e, .int (nI z), .int (nI (incQ (dqT m z n) m))])), (e, .inl (3, m, .inr (.inr (.inr (.inr (va_up f (dqT m z n) (some x))))))), (x, .inr (12, fs))]) hC kJ1 2 rfl q242 rfl (fun _ h => h.get 0 rfl) (Nat.le_of_ble_eq_true rfl) (rfl) (rfl) dJ1_addLast_39 (fun _ h => h.set 0 _ rfl) 42 rfl ?_
  refine r_icne hC 50 dJ1_addLast_42 (by decide) 45 rfl (fun _ => ?_) (fun h => absurd h (fun q => dqT_ne hh hn1 (by omega) ((eq_nI (by omega) (by have := dqT_lt hh (Nat.le_of_lt hn1); omega)).mp (by rw [← dqT_inc hh (by omega)]; exact q))))
  have he9 : (.int (nI (incQ (dqT m z n) m)) : Value) = .int (nI (dqT m z (n + 1))) := by rw [dqT_inc hh (by omega)]
  refine rn.mono (J := xSt F V0 [(a, .inr (19, [.ref e, .int (nI z), .int (nI (dqT m z (n + 1)))])), (e, .inl (3, m, .inr (.inr (.inr (.inr (va_up f (dqT m z n) (some x))))))), (x, .inr (12, fs))]) (fun _ h => by rw [he9] at h; exact h) ?_
  exact r_vret hC (Nat.le_of_ble_eq_true rfl) (Nat.le_of_ble_eq_true rfl) (fun V9 h => hQ _ _ ⟨[(a, .inr (19, [.ref e, .int (nI z), .int (nI (dqT m z (n + 1)))])), (e, .inl (3, m, .inr (.inr (.inr (.inr (va_up f (dqT m z n) (some x))))))), (x, .inr (12, fs))], ⟨rfl, rfl⟩, by rw [← hV0, ← hF]; exact h⟩) dJ1_addLast_50
set_option maxHeartbeats 4000000 in
set_option maxRecDepth 100000 in
theorem metJ1_addA (l : Launch) (G : xG) (hG : xGood G) (a e m z n x : Nat) (f : Nat → Option Nat) (fs : List Value) (hS : dqS m z n) (hn : n < 30) (hfull : ∀ i, i < n → ∃ x0, f (dqT m z i) = some x0) : xWmP (xSh 12 [a, e, x] (fun i => f (dqT m z i)) n) l G yJ1_addLast (Cond.code yJ1_addLast cJ1_addLast 3 none) { frames := 4, locals := 132, cells := 1, slots := 36 } [.ref a, .ref x] [(a, .inr (19, [.ref e, .int (nI z), .int (nI (dqT m z n))])), (e, .inl (3, m, .inr (.inr (.inr (.inr f))))), (x, .inr (12, fs))] (fun v w' => v = none ∧ ∃ (m' z' e' : Nat) (f' : Nat → Option Nat), dqS m' z' (n + 1) ∧ (∀ i, i < n → f' (dqT m' z' i) = f (dqT m z i)) ∧ f' (dqT m' z' n) = some x ∧ w' = [(a, .inr (19, [.ref e', .int (nI z'), .int (nI (dqT m' z' (n + 1)))])), (e', .inl (3, m', .inr (.inr (.inr (.inr f'))))), (x, .inr (12, fs))]) (fun _ _ => False) := by
  intro V hP hV
  by_cases hg : n + 1 < m
  · refine xMet.imp (metJ1_addLastB l G hG a e m z n f hS.m hS.z hS.n hg x fs V hV) (fun v V' h => ?_) (fun _ _ h => h)
    obtain ⟨w', ⟨h1, h2⟩, h3⟩ := h
    refine ⟨w', ⟨h1, m, z, e, va_up f (dqT m z n) (some x), ?_, fun i hi => ?_, up_same _ _ _, h2⟩, h3⟩
    · unfold dqS at hS ⊢; omega
    · exact up_ne (fun hh => by have := dqT_inj hS.z (by have := hS.n; omega) hS.n hh; omega)
  · have h17 : m = 17 ∧ z = 0 ∧ n = 16 := by unfold dqS at hS; omega
    obtain ⟨rfl, rfl, rfl⟩ := h17
    obtain ⟨x0, hx0⟩ := hfull 0 (by omega)
    rw [dqT_17 (by omega)] at hx0
    obtain ⟨mi, hM⟩ := mirO hG
    have hxo : x ∉ [a, e] := by
      intro hx
      rcases List.mem_cons.mp hx with rfl | hx
      · exact absurd (hV.2 0 2 _ _ rfl rfl rfl) (by decide)
      · rcases List.mem_cons.mp hx with rfl | hx
        · exact absurd (hV.2 1 2 _ _ rfl rfl rfl) (by decide)
        · cases hx
    have he : (Value.int (nI (dqT 17 0 16))) = .int 16 := by rw [dqT_17 (by omega)]; rfl
    have he0 : (Value.int (nI 0)) = .int 0 := rfl
    rw [he, he0] at hV ⊢
    refine xMet.imp (metJ1_addLastG l G hG a e mi x x0 fs f hM hx0 hxo V ?_ hV) (fun v V' h => ?_) (fun _ _ h => h)
    · intro j y hj hy
      exact hP j y hj (by show f (dqT 17 0 j) = some y; rw [dqT_17 (by omega)]; exact hy)
    · obtain ⟨w', ⟨h1, e', f', h2, h4⟩, h3⟩ := h
      refine ⟨w', ⟨h1, 36, 19, e', f', Or.inr (by omega), fun i hi => ?_, ?_, h4⟩, h3⟩
      · rw [dqT_36 (by omega), dqT_17 (by omega), h2 i (by omega), up_ne (by omega)]
      · rw [dqT_36 (by omega), h2 16 (by omega), up_same]
