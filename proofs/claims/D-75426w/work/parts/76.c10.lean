/-! ===== the JDK: ArrayDeque: making, adding, removing, iterators ===== -/
set_option maxRecDepth 100000
set_option maxHeartbeats 4000000 in
set_option maxRecDepth 100000 in
theorem metJ0_init_J1 (l : Launch) (G : xG) (hG : xGood G) (q : Nat) (fs : List Value) : xWm l G yJ0_init (Cond.code yJ0_init cJ0_init 1 none) { frames := 1, locals := 20, cells := 0, slots := 0 } [.ref q] [(q, .inr (19, fs))] (fun v w' => v = none ∧ w' = [(q, .inr (19, fs))]) (fun _ _ => False) := by
  intro V hV
  refine xMet_ofT RJ0 hG rfl (by decide) (Nat.le_of_ble_eq_true rfl) fun C hC hQ hX hl hg hini hTab => ?_
  subst hl hg
  replace hini := hini rfl
  obtain ⟨V0, hV0⟩ : ∃ V0, V0 = V := ⟨_, rfl⟩
  obtain ⟨F, hF⟩ : ∃ F, F = xF [(q, .inr (19, fs))] := ⟨_, rfl⟩
  refine rn.mono (J := xSt F V0 [(q, .inr (19, fs))]) (fun V9 h => by rw [h, hV0, hF]; exact hV.st) ?_
  show rn C (xSt F V0 [(q, .inr (19, fs))]) 0 0 0 [(0, .ref q)] []
  refine r_aload_n hC 0 dJ0_init_0 rfl 1 rfl ?_
  refine r_objInit hC q235 (Nat.le_of_ble_eq_true rfl) (Nat.le_of_ble_eq_true rfl) (Nat.le_of_ble_eq_true rfl) dJ0_init_1 4 rfl ?_
  exact r_vret hC (Nat.le_of_ble_eq_true rfl) (Nat.le_of_ble_eq_true rfl) (fun V9 h => hQ _ _ ⟨[(q, .inr (19, fs))], ⟨rfl, rfl⟩, by rw [← hV0, ← hF]; exact h⟩) dJ0_init_4
set_option maxHeartbeats 4000000 in
set_option maxRecDepth 100000 in
theorem metJ1_init (l : Launch) (G : xG) (hG : xGood G) (q : Nat) : xWm l G yJ1_init (Cond.code yJ1_init cJ1_init 1 none) { frames := 2, locals := 40, cells := 1, slots := 17 } [.ref q] [(q, .inr (19, [.null, .int 0, .int 0]))] (fun v w' => v = none ∧ ∃ e : Nat, w' = [(q, .inr (19, [.ref e, .int (nI 0), .int (nI (dqT 17 0 0))])), (e, .inl (3, 17, .inr (.inr (.inr (.inr nQ)))))]) (fun _ _ => False) := by
  intro V hV
  refine xMet_ofT RJ1 hG rfl (by decide) (Nat.le_of_ble_eq_true rfl) fun C hC hQ hX hl hg hini hTab => ?_
  subst hl hg
  replace hini := hini rfl
  obtain ⟨V0, hV0⟩ : ∃ V0, V0 = V := ⟨_, rfl⟩
  obtain ⟨F, hF⟩ : ∃ F, F = xF [(q, .inr (19, [.null, .int 0, .int 0]))] := ⟨_, rfl⟩
  refine rn.mono (J := xSt F V0 [(q, .inr (19, [.null, .int 0, .int 0]))]) (fun V9 h => by rw [h, hV0, hF]; exact hV.st) ?_
  show rn C (xSt F V0 [(q, .inr (19, [.null, .int 0, .int 0]))]) 0 0 0 [(0, .ref q)] []
  refine r_aload_n hC 0 dJ1_init_0 rfl 1 rfl ?_
  refine xCall.w (wr := []) (r_cI hC q [] mIJ0_init q232 (fun V9 h9 => (metJ0_init_J1 _ _ hG q [.null, .int 0, .int 0]) V9 (h9.in.sub [0] rfl rfl)) ⟨rfl, rfl⟩ (Nat.le_of_ble_eq_true rfl) (Nat.le_of_ble_eq_true rfl) rfl (Nat.le_of_ble_eq_true rfl) dJ1_init_1) [0] [] rfl rfl rfl (by decide) 0 0 4 rfl rfl rfl (fun v1 w2 h3 => ?_) (fun _ _ h => h.elim)
  obtain ⟨rfl, rfl⟩ := h3
  show rn C (xSt F V0 [(q, .inr (19, [.null, .int 0, .int 0]))]) 0 0 4 [(0, .ref q)] []
  refine r_aload_n hC 0 dJ1_init_4 rfl 5 rfl ?_
  refine r_bipush hC 17 dJ1_init_5 bp_17 7 rfl ?_
  refine r_anew (J := fun q7 => xSt F V0 [(q, .inr (19, [.null, .int 0, .int 0])), (q7, .inl (3, 17, .inr (.inr (.inr (.inr nQ)))))]) hC hG (.object "java/lang/Object") 3 17 q236 q237 rfl rfl rfl (Nat.le_of_ble_eq_true rfl) (Nat.le_of_ble_eq_true rfl) (Nat.le_of_ble_eq_true rfl) dJ1_init_7 (fun _ h => h.push _) 10 rfl (fun q7 => ?_)
  show rn C (xSt F V0 [(q, .inr (19, [.null, .int 0, .int 0])), (q7, .inl (3, 17, .inr (.inr (.inr (.inr nQ)))))]) 1 17 10 [(0, .ref q)] [.ref q7, .ref q]
  refine r_put (J := xSt F V0 [(q, .inr (19, [.ref q7, .int 0, .int 0])), (q7, .inl (3, 17, .inr (.inr (.inr (.inr nQ)))))]) hC kJ1 0 rfl q238 rfl (fun _ h => h.get 0 rfl) (Nat.le_of_ble_eq_true rfl) (rfl) (rfl) dJ1_init_10 (fun _ h => h.set 0 _ rfl) 13 rfl ?_
  exact r_vret hC (Nat.le_of_ble_eq_true rfl) (Nat.le_of_ble_eq_true rfl) (fun V9 h => hQ _ _ ⟨[(q, .inr (19, [.ref q7, .int (nI 0), .int (nI (dqT 17 0 0))])), (q7, .inl (3, 17, .inr (.inr (.inr (.inr nQ)))))], ⟨rfl, q7, rfl⟩, by rw [← hV0, ← hF]; exact h⟩) dJ1_init_13
set_option maxHeartbeats 4000000 in
set_option maxRecDepth 100000 in
theorem metJ1_removeFirst (l : Launch) (G : xG) (hG : xGood G) (a e m z n : Nat) (f : Nat → Option Nat) (hm : m < 65536) (hh : z < m) (hn : n < m) (h0 : 0 < n) (x : Nat) (hx : f z = some x) : xWm l G yJ1_removeFirst (Cond.code yJ1_removeFirst cJ1_removeFirst 2 (some (.object "java/lang/Object"))) { frames := 2, locals := 44, cells := 0, slots := 0 } [.ref a] [(a, .inr (19, [.ref e, .int (nI z), .int (nI (dqT m z n))])), (e, .inl (3, m, .inr (.inr (.inr (.inr f)))))] (fun v w' => v = some (.ref x) ∧ w' = [(a, .inr (19, [.ref e, .int (nI (incQ z m)), .int (nI (dqT m (incQ z m) (n - 1)))])), (e, .inl (3, m, .inr (.inr (.inr (.inr (va_up f z none))))))]) (fun _ _ => False) := by
  intro V hV
  refine xMet_ofT RJ1 hG rfl (by decide) (Nat.le_of_ble_eq_true rfl) fun C hC hQ hX hl hg _ hTab => ?_
  subst hl hg
  obtain ⟨V0, hV0⟩ : ∃ V0, V0 = V := ⟨_, rfl⟩
  obtain ⟨F, hF⟩ : ∃ F, F = xF [(a, .inr (19, [.ref e, .int (nI z), .int (nI (dqT m z n))])), (e, .inl (3, m, .inr (.inr (.inr (.inr f)))))] := ⟨_, rfl⟩
  refine rn.mono (J := xSt F V0 [(a, .inr (19, [.ref e, .int (nI z), .int (nI (dqT m z n))])), (e, .inl (3, m, .inr (.inr (.inr (.inr f)))))]) (fun V9 h => by rw [h, hV0, hF]; exact hV.st) ?_
  show rn C (xSt F V0 [(a, .inr (19, [.ref e, .int (nI z), .int (nI (dqT m z n))])), (e, .inl (3, m, .inr (.inr (.inr (.inr f)))))]) 0 0 0 [(0, .ref a)] []
  refine r_aload_n hC 0 dJ1_removeFirst_0 rfl 1 rfl ?_
  refine xCall.w (wr := []) (r_cV hC kJ1 a [] mVJ1_pollFirst q627 (fun _ h => ⟨_, h.get 0 rfl⟩) (fun V9 h9 => (metJ1_pollFirst _ _ hG a e m z n f hm hh hn h0 x hx) V9 (h9.in.sub [0, 1] rfl rfl)) ⟨rfl, rfl⟩ (Nat.le_of_ble_eq_true rfl) (Nat.le_of_ble_eq_true rfl) rfl (Nat.le_of_ble_eq_true rfl) dJ1_removeFirst_1) [0, 1] [] rfl rfl rfl (by decide) 0 0 4 rfl rfl rfl (fun v1 w2 h3 => ?_) (fun _ _ h => h.elim)
  obtain ⟨rfl, rfl⟩ := h3
  show rn C (xSt F V0 [(a, .inr (19, [.ref e, .int (nI (incQ z m)), .int (nI (dqT m (incQ z m) (n - 1)))])), (e, .inl (3, m, .inr (.inr (.inr (.inr (va_up f z none))))))]) 0 0 4 [(0, .ref a)] [.ref x]
  refine r_astore_n hC 1 [(1, .ref x), (0, .ref a)] dJ1_removeFirst_4 rfl (Nat.le_of_ble_eq_true rfl) rfl 5 rfl ?_
  refine r_aload_n hC 0 dJ1_removeFirst_5 rfl 6 rfl ?_
  refine r_ifnonnull hC 17 dJ1_removeFirst_6 (by decide) ?_
  refine r_aload_n hC 0 dJ1_removeFirst_17 rfl 18 rfl ?_
  exact r_aret hC (v := (some x)) (Or.inl ⟨_, rfl⟩) (Nat.le_of_ble_eq_true rfl) (Nat.le_of_ble_eq_true rfl) (fun V9 h => hQ _ _ ⟨[(a, .inr (19, [.ref e, .int (nI (incQ z m)), .int (nI (dqT m (incQ z m) (n - 1)))])), (e, .inl (3, m, .inr (.inr (.inr (.inr (va_up f z none))))))], ⟨rfl, rfl⟩, by rw [← hV0, ← hF]; exact h⟩) dJ1_removeFirst_18
set_option maxHeartbeats 4000000 in
set_option maxRecDepth 100000 in
theorem metJ1_removeLast (l : Launch) (G : xG) (hG : xGood G) (a e m z n : Nat) (f : Nat → Option Nat) (hm : m < 65536) (hh : z < m) (hn : n < m) (h0 : 0 < n) (x : Nat) (hx : f (dqT m z (n - 1)) = some x) : xWm l G yJ1_removeLast (Cond.code yJ1_removeLast cJ1_removeLast 2 (some (.object "java/lang/Object"))) { frames := 2, locals := 44, cells := 0, slots := 0 } [.ref a] [(a, .inr (19, [.ref e, .int (nI z), .int (nI (dqT m z n))])), (e, .inl (3, m, .inr (.inr (.inr (.inr f)))))] (fun v w' => v = some (.ref x) ∧ w' = [(a, .inr (19, [.ref e, .int (nI z), .int (nI (dqT m z (n - 1)))])), (e, .inl (3, m, .inr (.inr (.inr (.inr (va_up f (dqT m z (n - 1)) none))))))]) (fun _ _ => False) := by
  intro V hV
  refine xMet_ofT RJ1 hG rfl (by decide) (Nat.le_of_ble_eq_true rfl) fun C hC hQ hX hl hg _ hTab => ?_
  subst hl hg
  obtain ⟨V0, hV0⟩ : ∃ V0, V0 = V := ⟨_, rfl⟩
  obtain ⟨F, hF⟩ : ∃ F, F = xF [(a, .inr (19, [.ref e, .int (nI z), .int (nI (dqT m z n))])), (e, .inl (3, m, .inr (.inr (.inr (.inr f)))))] := ⟨_, rfl⟩
  refine rn.mono (J := xSt F V0 [(a, .inr (19, [.ref e, .int (nI z), .int (nI (dqT m z n))])), (e, .inl (3, m, .inr (.inr (.inr (.inr f)))))]) (fun V9 h => by rw [h, hV0, hF]; exact hV.st) ?_
  show rn C (xSt F V0 [(a, .inr (19, [.ref e, .int (nI z), .int (nI (dqT m z n))])), (e, .inl (3, m, .inr (.inr (.inr (.inr f)))))]) 0 0 0 [(0, .ref a)] []
  refine r_aload_n hC 0 dJ1_removeLast_0 rfl 1 rfl ?_
  refine xCall.w (wr := []) (r_cV hC kJ1 a [] mVJ1_pollLast q917 (fun _ h => ⟨_, h.get 0 rfl⟩) (fun V9 h9 => (metJ1_pollLast _ _ hG a e m z n f hm hh hn h0 x hx) V9 (h9.in.sub [0, 1] rfl rfl)) ⟨rfl, rfl⟩ (Nat.le_of_ble_eq_true rfl) (Nat.le_of_ble_eq_true rfl) rfl (Nat.le_of_ble_eq_true rfl) dJ1_removeLast_1) [0, 1] [] rfl rfl rfl (by decide) 0 0 4 rfl rfl rfl (fun v1 w2 h3 => ?_) (fun _ _ h => h.elim)
  obtain ⟨rfl, rfl⟩ := h3
  show rn C (xSt F V0 [(a, .inr (19, [.ref e, .int (nI z), .int (nI (dqT m z (n - 1)))])), (e, .inl (3, m, .inr (.inr (.inr (.inr (va_up f (dqT m z (n - 1)) none))))))]) 0 0 4 [(0, .ref a)] [.ref x]
  refine r_astore_n hC 1 [(1, .ref x), (0, .ref a)] dJ1_removeLast_4 rfl (Nat.le_of_ble_eq_true rfl) rfl 5 rfl ?_
  refine r_aload_n hC 0 dJ1_removeLast_5 rfl 6 rfl ?_
  refine r_ifnonnull hC 17 dJ1_removeLast_6 (by decide) ?_
  refine r_aload_n hC 0 dJ1_removeLast_17 rfl 18 rfl ?_
  exact r_aret hC (v := (some x)) (Or.inl ⟨_, rfl⟩) (Nat.le_of_ble_eq_true rfl) (Nat.le_of_ble_eq_true rfl) (fun V9 h => hQ _ _ ⟨[(a, .inr (19, [.ref e, .int (nI z), .int (nI (dqT m z (n - 1)))])), (e, .inl (3, m, .inr (.inr (.inr (.inr (va_up f (dqT m z (n - 1)) none))))))], ⟨rfl, rfl⟩, by rw [← hV0, ← hF]; exact h⟩) dJ1_removeLast_18
set_option maxHeartbeats 4000000 in
set_option maxRecDepth 100000 in
theorem metJ1_addLast_X2 (l : Launch) (G : xG) (hG : xGood G) (a e m z n : Nat) (f : Nat → Option Nat) (hm : m < 65536) (hh : z < m) (hn : n < m) (hn1 : n + 1 < m) (x : Nat) (fs : List Value) : xWm l G yJ1_addLast (Cond.code yJ1_addLast cJ1_addLast 3 none) { frames := 1, locals := 21, cells := 0, slots := 0 } [.ref a, .ref x] [(a, .inr (19, [.ref e, .int (nI z), .int (nI (dqT m z n))])), (e, .inl (3, m, .inr (.inr (.inr (.inr f))))), (x, .inr (1, fs))] (fun v w' => v = none ∧ w' = [(a, .inr (19, [.ref e, .int (nI z), .int (nI (dqT m z (n + 1)))])), (e, .inl (3, m, .inr (.inr (.inr (.inr (va_up f (dqT m z n) (some x))))))), (x, .inr (1, fs))]) (fun _ _ => False) := by
  intro V hV
  refine xMet_ofT RJ1 hG rfl (by decide) (Nat.le_of_ble_eq_true rfl) fun C hC hQ hX hl hg _ hTab => ?_
  subst hl hg
  obtain ⟨V0, hV0⟩ : ∃ V0, V0 = V := ⟨_, rfl⟩
  obtain ⟨F, hF⟩ : ∃ F, F = xF [(a, .inr (19, [.ref e, .int (nI z), .int (nI (dqT m z n))])), (e, .inl (3, m, .inr (.inr (.inr (.inr f))))), (x, .inr (1, fs))] := ⟨_, rfl⟩
  refine rn.mono (J := xSt F V0 [(a, .inr (19, [.ref e, .int (nI z), .int (nI (dqT m z n))])), (e, .inl (3, m, .inr (.inr (.inr (.inr f))))), (x, .inr (1, fs))]) (fun V9 h => by rw [h, hV0, hF]; exact hV.st) ?_
  show rn C (xSt F V0 [(a, .inr (19, [.ref e, .int (nI z), .int (nI (dqT m z n))])), (e, .inl (3, m, .inr (.inr (.inr (.inr f))))), (x, .inr (1, fs))]) 0 0 0 [(0, .ref a), (1, .ref x)] []
  refine r_aload_n hC 1 dJ1_addLast_0 rfl 1 rfl ?_
  refine r_ifnonnull hC 12 dJ1_addLast_1 (by decide) ?_
  refine r_aload_n hC 0 dJ1_addLast_12 rfl 13 rfl ?_
  refine r_get (v := .ref e) hC kJ1 0 rfl q238 (fun _ h => h.get 0 rfl) rfl dJ1_addLast_13 16 rfl ?_
  refine r_astore_n hC 2 [(2, .ref e), (0, .ref a), (1, .ref x)] dJ1_addLast_16 rfl (Nat.le_of_ble_eq_true rfl) rfl 17 rfl ?_
  refine r_aload_n hC 0 dJ1_addLast_17 rfl 18 rfl ?_
  refine r_aload_n hC 1 dJ1_addLast_18 rfl 19 rfl ?_
  refine r_get (v := .int (nI (dqT m z n))) hC kJ1 2 rfl q242 (fun _ h => h.get 0 rfl) rfl dJ1_addLast_19 22 rfl ?_
  refine r_aload_n hC 2 dJ1_addLast_22 rfl 23 rfl ?_
  refine r_aastO (J := xSt F V0 [(a, .inr (19, [.ref e, .int (nI z), .int (nI (dqT m z n))])), (e, .inl (3, m, .inr (.inr (.inr (.inr (va_up f (dqT m z n) (some x))))))), (x, .inr (1, fs))]) hC hG kX2 q3390 (dqT m z n) (xix_n (dqT m z n) (dqT_lt hh (by omega)) (by omega)) rfl (fun _ h => ⟨_, h.get 2 rfl⟩) (fun _ h => h.get 1 rfl) dJ1_addLast_23 (fun _ h => h.set 1 _ rfl) 24 rfl ?_
  refine r_aload_n hC 1 dJ1_addLast_24 rfl 25 rfl ?_
  refine r_get (v := .int (nI z)) hC kJ1 1 rfl q241 (fun _ h => h.get 0 rfl) rfl dJ1_addLast_25 28 rfl ?_
  refine r_aload_n hC 1 dJ1_addLast_28 rfl 29 rfl ?_
  refine r_aload_n hC 1 dJ1_addLast_29 rfl 30 rfl ?_
  refine r_get (v := .int (nI (dqT m z n))) hC kJ1 2 rfl q242 (fun _ h => h.get 0 rfl) rfl dJ1_addLast_30 33 rfl ?_
  refine r_aload_n hC 0 dJ1_addLast_33 rfl 34 rfl ?_
  refine r_alen hC (nI m) (t := 3) rfl (fun _ h => h.get 1 rfl) rfl dJ1_addLast_34 35 rfl ?_
  refine xCall.r (r := some (.int (nI (incQ (dqT m z n) m)))) (r_cS hC [.int (nI (dqT m z n)), .int (nI m)] mSJ1_inc q634 (fun V9 h9 => (metJ1_inc _ _ hG (dqT m z n) m (dqT_lt hh (by omega)) hm) V9 xIn.nil) ⟨rfl, rfl⟩ (Nat.le_of_ble_eq_true rfl) (Nat.le_of_ble_eq_true rfl) rfl (Nat.le_of_ble_eq_true rfl) dJ1_addLast_35) 0 0 38 rfl rfl rfl ?_
  refine r_dup_x1 hC dJ1_addLast_38 rfl rfl 39 rfl ?_
  refine r_put (J := xSt F V0 [(a, .inr (19, [.ref e, .int (nI z), .int (nI (incQ (dqT m z n) m))])), (e, .inl (3, m, .inr (.inr (.inr (.inr (va_up f (dqT m z n) (some x))))))), (x, .inr (1, fs))]) hC kJ1 2 rfl q242 rfl (fun _ h => h.get 0 rfl) (Nat.le_of_ble_eq_true rfl) (rfl) (rfl) dJ1_addLast_39 (fun _ h => h.set 0 _ rfl) 42 rfl ?_
  refine r_icne hC 50 dJ1_addLast_42 (by decide) 45 rfl (fun _ => ?_) (fun h => absurd h (fun q => dqT_ne hh hn1 (by omega) ((eq_nI (by omega) (by have := dqT_lt hh (Nat.le_of_lt hn1); omega)).mp (by rw [← dqT_inc hh (by omega)]; exact q))))
  have he9 : (.int (nI (incQ (dqT m z n) m)) : Value) = .int (nI (dqT m z (n + 1))) := by rw [dqT_inc hh (by omega)]
  refine rn.mono (J := xSt F V0 [(a, .inr (19, [.ref e, .int (nI z), .int (nI (dqT m z (n + 1)))])), (e, .inl (3, m, .inr (.inr (.inr (.inr (va_up f (dqT m z n) (some x))))))), (x, .inr (1, fs))]) (fun _ h => by rw [he9] at h; exact h) ?_
  exact r_vret hC (Nat.le_of_ble_eq_true rfl) (Nat.le_of_ble_eq_true rfl) (fun V9 h => hQ _ _ ⟨[(a, .inr (19, [.ref e, .int (nI z), .int (nI (dqT m z (n + 1)))])), (e, .inl (3, m, .inr (.inr (.inr (.inr (va_up f (dqT m z n) (some x))))))), (x, .inr (1, fs))], ⟨rfl, rfl⟩, by rw [← hV0, ← hF]; exact h⟩) dJ1_addLast_50
set_option maxHeartbeats 4000000 in
set_option maxRecDepth 100000 in
theorem metJ1_addLast_X14 (l : Launch) (G : xG) (hG : xGood G) (a e m z n : Nat) (f : Nat → Option Nat) (hm : m < 65536) (hh : z < m) (hn : n < m) (hn1 : n + 1 < m) (x : Nat) (fs : List Value) : xWm l G yJ1_addLast (Cond.code yJ1_addLast cJ1_addLast 3 none) { frames := 1, locals := 21, cells := 0, slots := 0 } [.ref a, .ref x] [(a, .inr (19, [.ref e, .int (nI z), .int (nI (dqT m z n))])), (e, .inl (3, m, .inr (.inr (.inr (.inr f))))), (x, .inr (12, fs))] (fun v w' => v = none ∧ w' = [(a, .inr (19, [.ref e, .int (nI z), .int (nI (dqT m z (n + 1)))])), (e, .inl (3, m, .inr (.inr (.inr (.inr (va_up f (dqT m z n) (some x))))))), (x, .inr (12, fs))]) (fun _ _ => False) := by
  intro V hV
  refine xMet_ofT RJ1 hG rfl (by decide) (Nat.le_of_ble_eq_true rfl) fun C hC hQ hX hl hg _ hTab => ?_
  subst hl hg
  obtain ⟨V0, hV0⟩ : ∃ V0, V0 = V := ⟨_, rfl⟩
  obtain ⟨F, hF⟩ : ∃ F, F = xF [(a, .inr (19, [.ref e, .int (nI z), .int (nI (dqT m z n))])), (e, .inl (3, m, .inr (.inr (.inr (.inr f))))), (x, .inr (12, fs))] := ⟨_, rfl⟩
  refine rn.mono (J := xSt F V0 [(a, .inr (19, [.ref e, .int (nI z), .int (nI (dqT m z n))])), (e, .inl (3, m, .inr (.inr (.inr (.inr f))))), (x, .inr (12, fs))]) (fun V9 h => by rw [h, hV0, hF]; exact hV.st) ?_
  show rn C (xSt F V0 [(a, .inr (19, [.ref e, .int (nI z), .int (nI (dqT m z n))])), (e, .inl (3, m, .inr (.inr (.inr (.inr f))))), (x, .inr (12, fs))]) 0 0 0 [(0, .ref a), (1, .ref x)] []
  refine r_aload_n hC 1 dJ1_addLast_0 rfl 1 rfl ?_
  refine r_ifnonnull hC 12 dJ1_addLast_1 (by decide) ?_
  refine r_aload_n hC 0 dJ1_addLast_12 rfl 13 rfl ?_
  refine r_get (v := .ref e) hC kJ1 0 rfl q238 (fun _ h => h.get 0 rfl) rfl dJ1_addLast_13 16 rfl ?_
  refine r_astore_n hC 2 [(2, .ref e), (0, .ref a), (1, .ref x)] dJ1_addLast_16 rfl (Nat.le_of_ble_eq_true rfl) rfl 17 rfl ?_
  refine r_aload_n hC 0 dJ1_addLast_17 rfl 18 rfl ?_
  refine r_aload_n hC 1 dJ1_addLast_18 rfl 19 rfl ?_
  refine r_get (v := .int (nI (dqT m z n))) hC kJ1 2 rfl q242 (fun _ h => h.get 0 rfl) rfl dJ1_addLast_19 22 rfl ?_
  refine r_aload_n hC 2 dJ1_addLast_22 rfl 23 rfl ?_
  refine r_aastO (J := xSt F V0 [(a, .inr (19, [.ref e, .int (nI z), .int (nI (dqT m z n))])), (e, .inl (3, m, .inr (.inr (.inr (.inr (va_up f (dqT m z n) (some x))))))), (x, .inr (12, fs))]) hC hG kX14 q3407 (dqT m z n) (xix_n (dqT m z n) (dqT_lt hh (by omega)) (by omega)) rfl (fun _ h => ⟨_, h.get 2 rfl⟩) (fun _ h => h.get 1 rfl) dJ1_addLast_23 (fun _ h => h.set 1 _ rfl) 24 rfl ?_
  refine r_aload_n hC 1 dJ1_addLast_24 rfl 25 rfl ?_
  refine r_get (v := .int (nI z)) hC kJ1 1 rfl q241 (fun _ h => h.get 0 rfl) rfl dJ1_addLast_25 28 rfl ?_
  refine r_aload_n hC 1 dJ1_addLast_28 rfl 29 rfl ?_
  refine r_aload_n hC 1 dJ1_addLast_29 rfl 30 rfl ?_
  refine r_get (v := .int (nI (dqT m z n))) hC kJ1 2 rfl q242 (fun _ h => h.get 0 rfl) rfl dJ1_addLast_30 33 rfl ?_
  refine r_aload_n hC 0 dJ1_addLast_33 rfl 34 rfl ?_
  refine r_alen hC (nI m) (t := 3) rfl (fun _ h => h.get 1 rfl) rfl dJ1_addLast_34 35 rfl ?_
  refine xCall.r (r := some (.int (nI (incQ (dqT m z n) m)))) (r_cS hC [.int (nI (dqT m z n)), .int (nI m)] mSJ1_inc q634 (fun V9 h9 => (metJ1_inc _ _ hG (dqT m z n) m (dqT_lt hh (by omega)) hm) V9 xIn.nil) ⟨rfl, rfl⟩ (Nat.le_of_ble_eq_true rfl) (Nat.le_of_ble_eq_true rfl) rfl (Nat.le_of_ble_eq_true rfl) dJ1_addLast_35) 0 0 38 rfl rfl rfl ?_
  refine r_dup_x1 hC dJ1_addLast_38 rfl rfl 39 rfl ?_
  refine r_put (J := xSt F V0 [(a, .inr (19, [.ref e, .int (nI z), .int (nI (incQ (dqT m z n) m))])), (e, .inl (3, m, .inr (.inr (.inr (.inr (va_up f (dqT m z n) (some x))))))), (x, .inr (12, fs))]) hC kJ1 2 rfl q242 rfl (fun _ h => h.get 0 rfl) (Nat.le_of_ble_eq_true rfl) (rfl) (rfl) dJ1_addLast_39 (fun _ h => h.set 0 _ rfl) 42 rfl ?_
  refine r_icne hC 50 dJ1_addLast_42 (by decide) 45 rfl (fun _ => ?_) (fun h => absurd h (fun q => dqT_ne hh hn1 (by omega) ((eq_nI (by omega) (by have := dqT_lt hh (Nat.le_of_lt hn1); omega)).mp (by rw [← dqT_inc hh (by omega)]; exact q))))
  have he9 : (.int (nI (incQ (dqT m z n) m)) : Value) = .int (nI (dqT m z (n + 1))) := by rw [dqT_inc hh (by omega)]
  refine rn.mono (J := xSt F V0 [(a, .inr (19, [.ref e, .int (nI z), .int (nI (dqT m z (n + 1)))])), (e, .inl (3, m, .inr (.inr (.inr (.inr (va_up f (dqT m z n) (some x))))))), (x, .inr (12, fs))]) (fun _ h => by rw [he9] at h; exact h) ?_
  exact r_vret hC (Nat.le_of_ble_eq_true rfl) (Nat.le_of_ble_eq_true rfl) (fun V9 h => hQ _ _ ⟨[(a, .inr (19, [.ref e, .int (nI z), .int (nI (dqT m z (n + 1)))])), (e, .inl (3, m, .inr (.inr (.inr (.inr (va_up f (dqT m z n) (some x))))))), (x, .inr (12, fs))], ⟨rfl, rfl⟩, by rw [← hV0, ← hF]; exact h⟩) dJ1_addLast_50
