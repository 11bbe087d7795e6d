/-! ===== the JDK: ArrayDeque.addLast that grows ===== -/
set_option maxRecDepth 100000
theorem xSh_up {ci x n : Nat} {own : List Nat} {f : Nat → Option Nat} {fs : List Value} {V : xV} (h : xSh ci own f n V) (hlt : x < V.1) (hx : x ∉ own) (hV : V.2 x = some (.inr (ci, fs))) : xSh ci own (va_up f n (some x)) (n + 1) V := by
  intro j y hj hy
  by_cases hn : j = n
  · subst hn
    rw [up_same] at hy
    obtain rfl : x = y := Option.some.inj hy
    exact ⟨hlt, hx, fs, hV⟩
  · rw [up_ne hn] at hy
    exact h j y (by omega) hy
theorem xSh_st {ci n : Nat} {own own0 : List Nat} {f : Nat → Option Nat} {F : Nat → Prop} {V0 V : xV} {ws : xW} (hP : xSh ci own0 f n V0) (h : xSt F V0 ws V) (hF : ∀ a, a ∉ own0 → ¬ F a) (hsub : ∀ a, a ∈ own → a ∈ own0) : xSh ci own f n V := by
  intro j y hj hy
  obtain ⟨h1, h2, fs, h3⟩ := hP j y hj hy
  exact ⟨Nat.lt_of_lt_of_le h1 h.2.2.1, fun h8 => h2 (hsub _ h8), fs, h.old h3 h1 (hF _ h2)⟩
set_option maxHeartbeats 4000000 in
set_option maxRecDepth 100000 in
theorem metJ1_addLastG (l : Launch) (G : xG) (hG : xGood G) (a e mi x x0 : Nat) (fs : List Value) (f : Nat → Option Nat) (hM : va_Mi "[Ljava/lang/Object;" mi G.1) (hx0 : f 0 = some x0) (hxo : x ∉ [a, e]) : xWmP (xSh 12 [a, e, x] f 16) l G yJ1_addLast (Cond.code yJ1_addLast cJ1_addLast 3 none) { frames := 4, locals := 132, cells := 1, slots := 36 } [.ref a, .ref x] [(a, .inr (19, [.ref e, .int 0, .int 16])), (e, .inl (3, 17, .inr (.inr (.inr (.inr f))))), (x, .inr (12, fs))] (fun v w' => v = none ∧ ∃ (e' : Nat) (f' : Nat → Option Nat), (∀ j, j < 17 → f' (19 + j) = va_up f 16 (some x) j) ∧ w' = [(a, .inr (19, [.ref e', .int (nI 19), .int (nI (dqT 36 19 17))])), (e', .inl (3, 36, .inr (.inr (.inr (.inr f'))))), (x, .inr (12, fs))]) (fun _ _ => False) := by
  intro V hP hV
  refine xMet_ofT RJ1 hG rfl (by decide) (Nat.le_of_ble_eq_true rfl) fun C hC hQ hX hl hg _ hTab => ?_
  subst hl hg
  obtain ⟨V0, hV0⟩ : ∃ V0, V0 = V := ⟨_, rfl⟩
  obtain ⟨F, hF⟩ : ∃ F, F = xF [(a, .inr (19, [.ref e, .int 0, .int 16])), (e, .inl (3, 17, .inr (.inr (.inr (.inr f))))), (x, .inr (12, fs))] := ⟨_, rfl⟩
  rw [← hV0] at hP
  refine rn.mono (J := xSt F V0 [(a, .inr (19, [.ref e, .int 0, .int 16])), (e, .inl (3, 17, .inr (.inr (.inr (.inr f))))), (x, .inr (12, fs))]) (fun V9 h => by rw [h, hV0, hF]; exact hV.st) ?_
  show rn C (xSt F V0 [(a, .inr (19, [.ref e, .int 0, .int 16])), (e, .inl (3, 17, .inr (.inr (.inr (.inr f))))), (x, .inr (12, fs))]) 0 0 0 [(0, .ref a), (1, .ref x)] []
  refine r_aload_n hC 1 dJ1_addLast_0 rfl 1 rfl ?_
  refine r_ifnonnull hC 12 dJ1_addLast_1 (by decide) ?_
  refine r_aload_n hC 0 dJ1_addLast_12 rfl 13 rfl ?_
  refine r_get (v := .ref e) hC kJ1 0 rfl q238 (fun _ h => h.get 0 rfl) rfl dJ1_addLast_13 16 rfl ?_
  refine r_astore_n hC 2 [(2, .ref e), (0, .ref a), (1, .ref x)] dJ1_addLast_16 rfl (Nat.le_of_ble_eq_true rfl) rfl 17 rfl ?_
  refine r_aload_n hC 0 dJ1_addLast_17 rfl 18 rfl ?_
  refine r_aload_n hC 1 dJ1_addLast_18 rfl 19 rfl ?_
  refine r_get (v := .int 16) hC kJ1 2 rfl q242 (fun _ h => h.get 0 rfl) rfl dJ1_addLast_19 22 rfl ?_
  refine r_aload_n hC 2 dJ1_addLast_22 rfl 23 rfl ?_
  refine r_aastO (J := xSt F V0 [(a, .inr (19, [.ref e, .int 0, .int 16])), (e, .inl (3, 17, .inr (.inr (.inr (.inr (va_up f 16 (some x))))))), (x, .inr (12, fs))]) hC hG kX14 q3407 16 (xix_n 16 (Nat.le_of_ble_eq_true rfl) (Nat.le_of_ble_eq_true rfl)) rfl (fun _ h => ⟨_, h.get 2 rfl⟩) (fun _ h => h.get 1 rfl) dJ1_addLast_23 (fun _ h => h.set 1 _ rfl) 24 rfl ?_
  refine r_aload_n hC 1 dJ1_addLast_24 rfl 25 rfl ?_
  refine r_get (v := .int 0) hC kJ1 1 rfl q241 (fun _ h => h.get 0 rfl) rfl dJ1_addLast_25 28 rfl ?_
  refine r_aload_n hC 1 dJ1_addLast_28 rfl 29 rfl ?_
  refine r_aload_n hC 1 dJ1_addLast_29 rfl 30 rfl ?_
  refine r_get (v := .int 16) hC kJ1 2 rfl q242 (fun _ h => h.get 0 rfl) rfl dJ1_addLast_30 33 rfl ?_
  refine r_aload_n hC 0 dJ1_addLast_33 rfl 34 rfl ?_
  refine r_alen hC 17 (t := 3) rfl (fun _ h => h.get 1 rfl) rfl dJ1_addLast_34 35 rfl ?_
  refine xCall.r (r := some (.int (nI (incQ 16 17)))) (r_cS hC [.int 16, .int 17] mSJ1_inc q634 (fun V9 h9 => (metJ1_inc _ _ hG 16 17 (by decide) (by decide)) V9 xIn.nil) ⟨rfl, rfl⟩ (Nat.le_of_ble_eq_true rfl) (Nat.le_of_ble_eq_true rfl) rfl (Nat.le_of_ble_eq_true rfl) dJ1_addLast_35) 0 0 38 rfl rfl rfl ?_
  refine r_eqi (y := 0) (by decide) ?_
  refine r_dup_x1 hC dJ1_addLast_38 rfl rfl 39 rfl ?_
  refine r_put (J := xSt F V0 [(a, .inr (19, [.ref e, .int 0, .int 0])), (e, .inl (3, 17, .inr (.inr (.inr (.inr (va_up f 16 (some x))))))), (x, .inr (12, fs))]) hC kJ1 2 rfl q242 rfl (fun _ h => h.get 0 rfl) (Nat.le_of_ble_eq_true rfl) (rfl) (rfl) dJ1_addLast_39 (fun _ h => h.set 0 _ rfl) 42 rfl ?_
  refine r_icne hC 50 dJ1_addLast_42 (by decide) 45 rfl (fun h => absurd h (by decide)) (fun _ => ?_)
  refine r_aload_n hC 1 dJ1_addLast_45 rfl 46 rfl ?_
  refine r_iconst hC 1 dJ1_addLast_46 ic_1 47 rfl ?_
  refine xCall.w (wr := [(x, .inr (12, fs))]) (r_cV hC kJ1 a [.int 1] mVJ1_grow q786 (fun _ h => ⟨_, h.get 0 rfl⟩) (fun V9 h9 => (metJ1_grow _ _ hG a e mi x0 (va_up f 16 (some x)) hM ((up_ne (by decide)).trans hx0)) V9 (xSh_up (fs := fs) (xSh_st hP h9 (fun a9 ha => by rw [hF]; exact xF_not (by simpa using ha)) (fun a9 ha => by simp at ha; rcases ha with ha | ha <;> simp [ha])) (h9.1 2 _ rfl).2.1 hxo (h9.get 2 rfl)) (h9.in.sub [0, 1] rfl rfl)) ⟨rfl, rfl⟩ (Nat.le_of_ble_eq_true rfl) (Nat.le_of_ble_eq_true rfl) rfl (Nat.le_of_ble_eq_true rfl) dJ1_addLast_47) [0, 1] [2] rfl rfl rfl (by decide) 1 36 50 rfl rfl rfl (fun v4 w5 h6 => ?_) (fun _ _ h => h.elim)
  obtain ⟨rfl, e1, f2, hf3, rfl⟩ := h6
  show rn C (xSt F V0 [(x, .inr (12, fs)), (a, .inr (19, [.ref e1, .int (nI 19), .int (nI (dqT 36 19 17))])), (e1, .inl (3, 36, .inr (.inr (.inr (.inr f2)))))]) 1 36 50 [(2, .ref e), (0, .ref a), (1, .ref x)] []
  exact r_vret hC (Nat.le_of_ble_eq_true rfl) (Nat.le_of_ble_eq_true rfl) (fun V9 h => hQ _ _ ⟨[(a, .inr (19, [.ref e1, .int (nI 19), .int (nI (dqT 36 19 17))])), (e1, .inl (3, 36, .inr (.inr (.inr (.inr f2))))), (x, .inr (12, fs))], ⟨rfl, e1, f2, hf3, rfl⟩, by rw [← hV0, ← hF]; exact (h.sub [1, 2, 0] rfl rfl)⟩) dJ1_addLast_50
