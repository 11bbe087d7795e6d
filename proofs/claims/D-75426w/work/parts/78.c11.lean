/-! ===== the JDK: ArrayDeque: iterators, clearing ===== -/
set_option maxRecDepth 100000
set_option maxHeartbeats 4000000 in
set_option maxRecDepth 100000 in
theorem metJ18_init (l : Launch) (G : xG) (hG : xGood G) (a e m z n : Nat) (f : Nat → Option Nat) (hm : m < 65536) (hh : z < m) (hn : n < m) (q : Nat) : xWm l G yJ18_init (Cond.code yJ18_init cJ18_init 2 none) { frames := 2, locals := 42, cells := 0, slots := 0 } [.ref q, .ref a] [(q, .inr (24, [.int 0, .int 0, .int 0, .null])), (a, .inr (19, [.ref e, .int (nI z), .int (nI (dqT m z n))])), (e, .inl (3, m, .inr (.inr (.inr (.inr f)))))] (fun v w' => v = none ∧ w' = [(q, .inr (24, [.int (nI z), .int (nI n), .int (-1), .ref a])), (a, .inr (19, [.ref e, .int (nI z), .int (nI (dqT m z n))])), (e, .inl (3, m, .inr (.inr (.inr (.inr f)))))]) (fun _ _ => False) := by
  intro V hV
  refine xMet_ofT RJ18 hG rfl (by decide) (Nat.le_of_ble_eq_true rfl) fun C hC hQ hX hl hg hini hTab => ?_
  subst hl hg
  replace hini := hini rfl
  obtain ⟨V0, hV0⟩ : ∃ V0, V0 = V := ⟨_, rfl⟩
  obtain ⟨F, hF⟩ : ∃ F, F = xF [(q, .inr (24, [.int 0, .int 0, .int 0, .null])), (a, .inr (19, [.ref e, .int (nI z), .int (nI (dqT m z n))])), (e, .inl (3, m, .inr (.inr (.inr (.inr f)))))] := ⟨_, rfl⟩
  refine rn.mono (J := xSt F V0 [(q, .inr (24, [.int 0, .int 0, .int 0, .null])), (a, .inr (19, [.ref e, .int (nI z), .int (nI (dqT m z n))])), (e, .inl (3, m, .inr (.inr (.inr (.inr f)))))]) (fun V9 h => by rw [h, hV0, hF]; exact hV.st) ?_
  show rn C (xSt F V0 [(q, .inr (24, [.int 0, .int 0, .int 0, .null])), (a, .inr (19, [.ref e, .int (nI z), .int (nI (dqT m z n))])), (e, .inl (3, m, .inr (.inr (.inr (.inr f)))))]) 0 0 0 [(0, .ref q), (1, .ref a)] []
  refine r_aload_n hC 0 dJ18_init_0 rfl 1 rfl ?_
  refine r_aload_n hC 1 dJ18_init_1 rfl 2 rfl ?_
  refine r_putF (J := xSt F V0 [(q, .inr (24, [.int 0, .int 0, .int 0, .ref a])), (a, .inr (19, [.ref e, .int (nI z), .int (nI (dqT m z n))])), (e, .inl (3, m, .inr (.inr (.inr (.inr f)))))]) hC hini kJ18 3 rfl q687 rfl rfl (fun _ h => h.get 0 rfl) (Nat.le_of_ble_eq_true rfl) (rfl) (rfl) dJ18_init_2 (fun _ h => h.set 0 _ rfl) 5 rfl ?_
  refine r_aload_n hC 0 dJ18_init_5 rfl 6 rfl ?_
  refine r_objInit hC q682 (Nat.le_of_ble_eq_true rfl) (Nat.le_of_ble_eq_true rfl) (Nat.le_of_ble_eq_true rfl) dJ18_init_6 9 rfl ?_
  refine r_aload_n hC 0 dJ18_init_9 rfl 10 rfl ?_
  refine r_aload_n hC 0 dJ18_init_10 rfl 11 rfl ?_
  refine r_get (v := .ref a) hC kJ18 3 rfl q687 (fun _ h => h.get 0 rfl) rfl dJ18_init_11 14 rfl ?_
  refine xCall.r (r := some (.int (nI n))) (r_cV hC kJ1 a [] mVJ1_size q683 (fun _ h => ⟨_, h.get 1 rfl⟩) (fun V9 h9 => (metJ1_size _ _ hG a e m z n f hm hh hn) V9 (h9.in.sub [1, 2] rfl rfl)) ⟨rfl, rfl⟩ (Nat.le_of_ble_eq_true rfl) (Nat.le_of_ble_eq_true rfl) rfl (Nat.le_of_ble_eq_true rfl) dJ18_init_14) 0 0 17 rfl rfl rfl ?_
  refine r_put (J := xSt F V0 [(q, .inr (24, [.int 0, .int (nI n), .int 0, .ref a])), (a, .inr (19, [.ref e, .int (nI z), .int (nI (dqT m z n))])), (e, .inl (3, m, .inr (.inr (.inr (.inr f)))))]) hC kJ18 1 rfl q685 rfl (fun _ h => h.get 0 rfl) (Nat.le_of_ble_eq_true rfl) (rfl) (rfl) dJ18_init_17 (fun _ h => h.set 0 _ rfl) 20 rfl ?_
  refine r_aload_n hC 0 dJ18_init_20 rfl 21 rfl ?_
  refine r_iconst hC (-1) dJ18_init_21 ic_m1 22 rfl ?_
  refine r_put (J := xSt F V0 [(q, .inr (24, [.int 0, .int (nI n), .int (-1), .ref a])), (a, .inr (19, [.ref e, .int (nI z), .int (nI (dqT m z n))])), (e, .inl (3, m, .inr (.inr (.inr (.inr f)))))]) hC kJ18 2 rfl q686 rfl (fun _ h => h.get 0 rfl) (Nat.le_of_ble_eq_true rfl) (rfl) (rfl) dJ18_init_22 (fun _ h => h.set 0 _ rfl) 25 rfl ?_
  refine r_aload_n hC 0 dJ18_init_25 rfl 26 rfl ?_
  refine r_aload_n hC 1 dJ18_init_26 rfl 27 rfl ?_
  refine r_get (v := .int (nI z)) hC kJ1 1 rfl q240 (fun _ h => h.get 1 rfl) rfl dJ18_init_27 30 rfl ?_
  refine r_put (J := xSt F V0 [(q, .inr (24, [.int (nI z), .int (nI n), .int (-1), .ref a])), (a, .inr (19, [.ref e, .int (nI z), .int (nI (dqT m z n))])), (e, .inl (3, m, .inr (.inr (.inr (.inr f)))))]) hC kJ18 0 rfl q684 rfl (fun _ h => h.get 0 rfl) (Nat.le_of_ble_eq_true rfl) (rfl) (rfl) dJ18_init_30 (fun _ h => h.set 0 _ rfl) 33 rfl ?_
  exact r_vret hC (Nat.le_of_ble_eq_true rfl) (Nat.le_of_ble_eq_true rfl) (fun V9 h => hQ _ _ ⟨[(q, .inr (24, [.int (nI z), .int (nI n), .int (-1), .ref a])), (a, .inr (19, [.ref e, .int (nI z), .int (nI (dqT m z n))])), (e, .inl (3, m, .inr (.inr (.inr (.inr f)))))], ⟨rfl, rfl⟩, by rw [← hV0, ← hF]; exact h⟩) dJ18_init_33
set_option maxHeartbeats 4000000 in
set_option maxRecDepth 100000 in
theorem metJ1_iterator (l : Launch) (G : xG) (hG : xGood G) (a e m z n : Nat) (f : Nat → Option Nat) (hm : m < 65536) (hh : z < m) (hn : n < m) : xWm l G yJ1_iterator (Cond.code yJ1_iterator cJ1_iterator 1 (some (.object "java/util/Iterator"))) { frames := 3, locals := 63, cells := 1, slots := 4 } [.ref a] [(a, .inr (19, [.ref e, .int (nI z), .int (nI (dqT m z n))])), (e, .inl (3, m, .inr (.inr (.inr (.inr f)))))] (fun v w' => ∃ q : Nat, v = some (.ref q) ∧ w' = [(q, .inr (24, [.int (nI z), .int (nI n), .int (-1), .ref a])), (a, .inr (19, [.ref e, .int (nI z), .int (nI (dqT m z n))])), (e, .inl (3, m, .inr (.inr (.inr (.inr f)))))]) (fun _ _ => False) := by
  intro V hV
  refine xMet_ofT RJ1 hG rfl (by decide) (Nat.le_of_ble_eq_true rfl) fun C hC hQ hX hl hg _ hTab => ?_
  subst hl hg
  obtain ⟨V0, hV0⟩ : ∃ V0, V0 = V := ⟨_, rfl⟩
  obtain ⟨F, hF⟩ : ∃ F, F = xF [(a, .inr (19, [.ref e, .int (nI z), .int (nI (dqT m z n))])), (e, .inl (3, m, .inr (.inr (.inr (.inr f)))))] := ⟨_, rfl⟩
  refine rn.mono (J := xSt F V0 [(a, .inr (19, [.ref e, .int (nI z), .int (nI (dqT m z n))])), (e, .inl (3, m, .inr (.inr (.inr (.inr f)))))]) (fun V9 h => by rw [h, hV0, hF]; exact hV.st) ?_
  show rn C (xSt F V0 [(a, .inr (19, [.ref e, .int (nI z), .int (nI (dqT m z n))])), (e, .inl (3, m, .inr (.inr (.inr (.inr f)))))]) 0 0 0 [(0, .ref a)] []
  refine r_new (J := fun q1 => xSt F V0 [(a, .inr (19, [.ref e, .int (nI z), .int (nI (dqT m z n))])), (e, .inl (3, m, .inr (.inr (.inr (.inr f))))), (q1, .inr (24, [.int 0, .int 0, .int 0, .null]))]) hC [.int 0, .int 0, .int 0, .null] kJ18 q677 q678 q132 dfJ18 (Nat.le_of_ble_eq_true rfl) (Nat.le_of_ble_eq_true rfl) dJ1_iterator_0 (fun _ h => h.push _) 3 rfl (fun q1 => ?_)
  show rn C (xSt F V0 [(a, .inr (19, [.ref e, .int (nI z), .int (nI (dqT m z n))])), (e, .inl (3, m, .inr (.inr (.inr (.inr f))))), (q1, .inr (24, [.int 0, .int 0, .int 0, .null]))]) 1 4 3 [(0, .ref a)] [.ref q1]
  refine r_dup hC dJ1_iterator_3 rfl 4 rfl ?_
  refine r_aload_n hC 0 dJ1_iterator_4 rfl 5 rfl ?_
  refine xCall.w (wr := []) (r_cI hC q1 [.ref a] mIJ18_init q679 (fun V9 h9 => (metJ18_init _ _ hG a e m z n f hm hh hn q1) V9 (h9.in.sub [2, 0, 1] rfl rfl)) ⟨rfl, rfl⟩ (Nat.le_of_ble_eq_true rfl) (Nat.le_of_ble_eq_true rfl) rfl (Nat.le_of_ble_eq_true rfl) dJ1_iterator_5) [2, 0, 1] [] rfl rfl rfl (by decide) 1 4 8 rfl rfl rfl (fun v2 w3 h4 => ?_) (fun _ _ h => h.elim)
  obtain ⟨rfl, rfl⟩ := h4
  show rn C (xSt F V0 [(q1, .inr (24, [.int (nI z), .int (nI n), .int (-1), .ref a])), (a, .inr (19, [.ref e, .int (nI z), .int (nI (dqT m z n))])), (e, .inl (3, m, .inr (.inr (.inr (.inr f)))))]) 1 4 8 [(0, .ref a)] [.ref q1]
  exact r_aret hC (v := (some q1)) (Or.inl ⟨_, rfl⟩) (Nat.le_of_ble_eq_true rfl) (Nat.le_of_ble_eq_true rfl) (fun V9 h => hQ _ _ ⟨[(q1, .inr (24, [.int (nI z), .int (nI n), .int (-1), .ref a])), (a, .inr (19, [.ref e, .int (nI z), .int (nI (dqT m z n))])), (e, .inl (3, m, .inr (.inr (.inr (.inr f)))))], ⟨q1, rfl, rfl⟩, by rw [← hV0, ← hF]; exact h⟩) dJ1_iterator_8
set_option maxHeartbeats 4000000 in
set_option maxRecDepth 100000 in
theorem metJ18_hasNextY (l : Launch) (G : xG) (hG : xGood G) (q a c k : Nat) (last : Int32) (hk : k < 65536) (h0 : 0 < k) : xRm l G yJ18_hasNext (Cond.code yJ18_hasNext cJ18_hasNext 1 (some .boolean)) { frames := 0, locals := 0, cells := 0, slots := 0 } [.ref q] [(q, .inr (24, [.int (nI c), .int (nI k), .int last, .ref a]))] (some (.int 1)) := by
  intro V hV
  refine xMet_ofT RJ18 hG rfl (by decide) (Nat.le_of_ble_eq_true rfl) fun C hC hQ hX hl hg _ hTab => ?_
  subst hl hg
  refine rn.mono (J := xRo [(q, .inr (24, [.int (nI c), .int (nI k), .int last, .ref a]))] V) (fun V9 h => ⟨h, hV⟩) ?_
  show rn C (xRo [(q, .inr (24, [.int (nI c), .int (nI k), .int last, .ref a]))] V) 0 0 0 [(0, .ref q)] []
  refine r_aload_n hC 0 dJ18_hasNext_0 rfl 1 rfl ?_
  refine r_get (v := .int (nI k)) hC kJ18 1 rfl q685 (fun _ h => h.get 0 rfl) rfl dJ18_hasNext_1 4 rfl ?_
  refine r_ifle hC 11 dJ18_hasNext_4 (by decide) 7 rfl (fun h => absurd h (fun q => by have := (le_nI (b := 0) (by omega) (by omega)).mp q; omega)) (fun _ => ?_)
  refine r_iconst hC 1 dJ18_hasNext_7 ic_1 8 rfl ?_
  refine r_goto hC 12 dJ18_hasNext_8 (by decide) ?_
  exact r_zret hC (by decide) (Nat.le_of_ble_eq_true rfl) (Nat.le_of_ble_eq_true rfl) (fun V9 h => hQ _ _ ⟨rfl, h.1⟩) dJ18_hasNext_12
set_option maxHeartbeats 4000000 in
set_option maxRecDepth 100000 in
theorem metJ18_hasNextN (l : Launch) (G : xG) (hG : xGood G) (q a c : Nat) (last : Int32) : xRm l G yJ18_hasNext (Cond.code yJ18_hasNext cJ18_hasNext 1 (some .boolean)) { frames := 0, locals := 0, cells := 0, slots := 0 } [.ref q] [(q, .inr (24, [.int (nI c), .int (nI 0), .int last, .ref a]))] (some (.int 0)) := by
  intro V hV
  refine xMet_ofT RJ18 hG rfl (by decide) (Nat.le_of_ble_eq_true rfl) fun C hC hQ hX hl hg _ hTab => ?_
  subst hl hg
  refine rn.mono (J := xRo [(q, .inr (24, [.int (nI c), .int (nI 0), .int last, .ref a]))] V) (fun V9 h => ⟨h, hV⟩) ?_
  show rn C (xRo [(q, .inr (24, [.int (nI c), .int (nI 0), .int last, .ref a]))] V) 0 0 0 [(0, .ref q)] []
  refine r_aload_n hC 0 dJ18_hasNext_0 rfl 1 rfl ?_
  refine r_get (v := .int (nI 0)) hC kJ18 1 rfl q685 (fun _ h => h.get 0 rfl) rfl dJ18_hasNext_1 4 rfl ?_
  refine r_ifle hC 11 dJ18_hasNext_4 (by decide) 7 rfl (fun _ => ?_) (fun h => absurd (by decide) h)
  refine r_iconst hC 0 dJ18_hasNext_11 ic_0 12 rfl ?_
  exact r_zret hC (by decide) (Nat.le_of_ble_eq_true rfl) (Nat.le_of_ble_eq_true rfl) (fun V9 h => hQ _ _ ⟨rfl, h.1⟩) dJ18_hasNext_12
set_option maxHeartbeats 4000000 in
set_option maxRecDepth 100000 in
theorem metJ1_nonNull (l : Launch) (G : xG) (hG : xGood G) (e m i x : Nat) (f : Nat → Option Nat) (hm : m < 65536) (hi : i < m) (hx : f i = some x) : xRm l G yJ1_nonNullElementAt (Cond.code yJ1_nonNullElementAt cJ1_nonNullElementAt 3 (some (.object "java/lang/Object"))) { frames := 0, locals := 0, cells := 0, slots := 0 } [.ref e, .int (nI i)] [(e, .inl (3, m, .inr (.inr (.inr (.inr f)))))] (some (.ref x)) := by
  intro V hV
  refine xMet_ofT RJ1 hG rfl (by decide) (Nat.le_of_ble_eq_true rfl) fun C hC hQ hX hl hg _ hTab => ?_
  subst hl hg
  refine rn.mono (J := xRo [(e, .inl (3, m, .inr (.inr (.inr (.inr f)))))] V) (fun V9 h => ⟨h, hV⟩) ?_
  show rn C (xRo [(e, .inl (3, m, .inr (.inr (.inr (.inr f)))))] V) 0 0 0 [(0, .ref e), (1, .int (nI i))] []
  refine r_aload_n hC 0 dJ1_nonNullElementAt_0 rfl 1 rfl ?_
  refine r_iload_n hC 1 dJ1_nonNullElementAt_1 rfl 2 rfl ?_
  refine r_aald hC i (xix_n i (by omega) (by omega)) (t := 3) rfl rfl (fun _ h => h.get 0 rfl) (f i) (rfl) dJ1_nonNullElementAt_2 3 rfl ?_
  show rn C (xRo [(e, .inl (3, m, .inr (.inr (.inr (.inr f)))))] V) 0 0 3 [(0, .ref e), (1, .int (nI i))] [va_rf (f i)]
  rw [show va_rf (f i) = .ref x from congrArg va_rf hx]
  show rn C (xRo [(e, .inl (3, m, .inr (.inr (.inr (.inr f)))))] V) 0 0 3 [(0, .ref e), (1, .int (nI i))] [.ref x]
  refine r_astore_n hC 2 [(2, .ref x), (0, .ref e), (1, .int (nI i))] dJ1_nonNullElementAt_3 rfl (Nat.le_of_ble_eq_true rfl) rfl 4 rfl ?_
  refine r_aload_n hC 0 dJ1_nonNullElementAt_4 rfl 5 rfl ?_
  refine r_ifnonnull hC 16 dJ1_nonNullElementAt_5 (by decide) ?_
  refine r_aload_n hC 0 dJ1_nonNullElementAt_16 rfl 17 rfl ?_
  exact r_aret hC (v := (some x)) (Or.inl ⟨_, rfl⟩) (Nat.le_of_ble_eq_true rfl) (Nat.le_of_ble_eq_true rfl) (fun V9 h => hQ _ _ ⟨rfl, h.1⟩) dJ1_nonNullElementAt_17
set_option maxHeartbeats 4000000 in
set_option maxRecDepth 100000 in
theorem metJ18_next (l : Launch) (G : xG) (hG : xGood G) (q a e m z n c k x : Nat) (f : Nat → Option Nat) (last : Int32) (hm : m < 65536) (hc : c < m) (hk : k + 1 < 65536) (hx : f c = some x) : xWm l G yJ18_next (Cond.code yJ18_next cJ18_next 3 (some (.object "java/lang/Object"))) { frames := 1, locals := 22, cells := 0, slots := 0 } [.ref q] [(q, .inr (24, [.int (nI c), .int (nI (k + 1)), .int last, .ref a])), (a, .inr (19, [.ref e, .int (nI z), .int (nI (dqT m z n))])), (e, .inl (3, m, .inr (.inr (.inr (.inr f)))))] (fun v w' => v = some (.ref x) ∧ w' = [(q, .inr (24, [.int (nI (incQ c m)), .int (nI k), .int (nI c), .ref a])), (a, .inr (19, [.ref e, .int (nI z), .int (nI (dqT m z n))])), (e, .inl (3, m, .inr (.inr (.inr (.inr f)))))]) (fun _ _ => False) := by
  intro V hV
  refine xMet_ofT RJ18 hG rfl (by decide) (Nat.le_of_ble_eq_true rfl) fun C hC hQ hX hl hg _ hTab => ?_
  subst hl hg
  obtain ⟨V0, hV0⟩ : ∃ V0, V0 = V := ⟨_, rfl⟩
  obtain ⟨F, hF⟩ : ∃ F, F = xF [(q, .inr (24, [.int (nI c), .int (nI (k + 1)), .int last, .ref a])), (a, .inr (19, [.ref e, .int (nI z), .int (nI (dqT m z n))])), (e, .inl (3, m, .inr (.inr (.inr (.inr f)))))] := ⟨_, rfl⟩
  refine rn.mono (J := xSt F V0 [(q, .inr (24, [.int (nI c), .int (nI (k + 1)), .int last, .ref a])), (a, .inr (19, [.ref e, .int (nI z), .int (nI (dqT m z n))])), (e, .inl (3, m, .inr (.inr (.inr (.inr f)))))]) (fun V9 h => by rw [h, hV0, hF]; exact hV.st) ?_
  show rn C (xSt F V0 [(q, .inr (24, [.int (nI c), .int (nI (k + 1)), .int last, .ref a])), (a, .inr (19, [.ref e, .int (nI z), .int (nI (dqT m z n))])), (e, .inl (3, m, .inr (.inr (.inr (.inr f)))))]) 0 0 0 [(0, .ref q)] []
  refine r_aload_n hC 0 dJ18_next_0 rfl 1 rfl ?_
  refine r_get (v := .int (nI (k + 1))) hC kJ18 1 rfl q685 (fun _ h => h.get 0 rfl) rfl dJ18_next_1 4 rfl ?_
  refine r_ifgt hC 15 dJ18_next_4 (by decide) 7 rfl (fun _ => ?_) (fun h => absurd (by have := (lt_nI (a := 0) (b := k + 1) (by omega) (by omega)).mpr (by omega); exact this) h)
  refine r_aload_n hC 0 dJ18_next_15 rfl 16 rfl ?_
  refine r_get (v := .ref a) hC kJ18 3 rfl q687 (fun _ h => h.get 0 rfl) rfl dJ18_next_16 19 rfl ?_
  refine r_get (v := .ref e) hC kJ1 0 rfl q239 (fun _ h => h.get 1 rfl) rfl dJ18_next_19 22 rfl ?_
  refine r_astore_n hC 1 [(1, .ref e), (0, .ref q)] dJ18_next_22 rfl (Nat.le_of_ble_eq_true rfl) rfl 23 rfl ?_
  refine r_aload_n hC 0 dJ18_next_23 rfl 24 rfl ?_
  refine r_aload_n hC 1 dJ18_next_24 rfl 25 rfl ?_
  refine r_get (v := .int (nI c)) hC kJ18 0 rfl q684 (fun _ h => h.get 0 rfl) rfl dJ18_next_25 28 rfl ?_
  refine xCall.r (r := some (.ref x)) (r_cS hC [.ref e, .int (nI c)] mSJ1_nonNullElementAt q760 (fun V9 h9 => (metJ1_nonNull _ _ hG e m c x _ hm hc hx) V9 (h9.in.sub [2] rfl rfl)) ⟨rfl, rfl⟩ (Nat.le_of_ble_eq_true rfl) (Nat.le_of_ble_eq_true rfl) rfl (Nat.le_of_ble_eq_true rfl) dJ18_next_28) 0 0 31 rfl rfl rfl ?_
  refine r_astore_n hC 2 [(2, .ref x), (1, .ref e), (0, .ref q)] dJ18_next_31 rfl (Nat.le_of_ble_eq_true rfl) rfl 32 rfl ?_
  refine r_aload_n hC 2 dJ18_next_32 rfl 33 rfl ?_
  refine r_aload_n hC 2 dJ18_next_33 rfl 34 rfl ?_
  refine r_aload_n hC 2 dJ18_next_34 rfl 35 rfl ?_
  refine r_get (v := .int (nI c)) hC kJ18 0 rfl q684 (fun _ h => h.get 0 rfl) rfl dJ18_next_35 38 rfl ?_
  refine r_dup_x1 hC dJ18_next_38 rfl rfl 39 rfl ?_
  refine r_put (J := xSt F V0 [(q, .inr (24, [.int (nI c), .int (nI (k + 1)), .int (nI c), .ref a])), (a, .inr (19, [.ref e, .int (nI z), .int (nI (dqT m z n))])), (e, .inl (3, m, .inr (.inr (.inr (.inr f)))))]) hC kJ18 2 rfl q686 rfl (fun _ h => h.get 0 rfl) (Nat.le_of_ble_eq_true rfl) (rfl) (rfl) dJ18_next_39 (fun _ h => h.set 0 _ rfl) 42 rfl ?_
  refine r_aload_n hC 1 dJ18_next_42 rfl 43 rfl ?_
  refine r_alen hC (nI m) (t := 3) rfl (fun _ h => h.get 2 rfl) rfl dJ18_next_43 44 rfl ?_
  refine xCall.r (r := some (.int (nI (incQ c m)))) (r_cS hC [.int (nI c), .int (nI m)] mSJ1_inc q763 (fun V9 h9 => (metJ1_inc _ _ hG c m hc hm) V9 xIn.nil) ⟨rfl, rfl⟩ (Nat.le_of_ble_eq_true rfl) (Nat.le_of_ble_eq_true rfl) rfl (Nat.le_of_ble_eq_true rfl) dJ18_next_44) 0 0 47 rfl rfl rfl ?_
  refine r_put (J := xSt F V0 [(q, .inr (24, [.int (nI (incQ c m)), .int (nI (k + 1)), .int (nI c), .ref a])), (a, .inr (19, [.ref e, .int (nI z), .int (nI (dqT m z n))])), (e, .inl (3, m, .inr (.inr (.inr (.inr f)))))]) hC kJ18 0 rfl q684 rfl (fun _ h => h.get 0 rfl) (Nat.le_of_ble_eq_true rfl) (rfl) (rfl) dJ18_next_47 (fun _ h => h.set 0 _ rfl) 50 rfl ?_
  refine r_aload_n hC 2 dJ18_next_50 rfl 51 rfl ?_
  refine r_dup hC dJ18_next_51 rfl 52 rfl ?_
  refine r_get (v := .int (nI (k + 1))) hC kJ18 1 rfl q685 (fun _ h => h.get 0 rfl) rfl dJ18_next_52 55 rfl ?_
  refine r_iconst hC 1 dJ18_next_55 ic_1 56 rfl ?_
  refine r_isub hC (nI k) dJ18_next_56  (by show nI (k + 1) - nI 1 = nI k; rw [sb_nI (by omega) (by omega), Nat.add_sub_cancel]) 57 rfl ?_
  refine r_put (J := xSt F V0 [(q, .inr (24, [.int (nI (incQ c m)), .int (nI k), .int (nI c), .ref a])), (a, .inr (19, [.ref e, .int (nI z), .int (nI (dqT m z n))])), (e, .inl (3, m, .inr (.inr (.inr (.inr f)))))]) hC kJ18 1 rfl q685 rfl (fun _ h => h.get 0 rfl) (Nat.le_of_ble_eq_true rfl) (rfl) (rfl) dJ18_next_57 (fun _ h => h.set 0 _ rfl) 60 rfl ?_
  refine r_aload_n hC 0 dJ18_next_60 rfl 61 rfl ?_
  exact r_aret hC (v := (some x)) (Or.inl ⟨_, rfl⟩) (Nat.le_of_ble_eq_true rfl) (Nat.le_of_ble_eq_true rfl) (fun V9 h => hQ _ _ ⟨[(q, .inr (24, [.int (nI (incQ c m)), .int (nI k), .int (nI c), .ref a])), (a, .inr (19, [.ref e, .int (nI z), .int (nI (dqT m z n))])), (e, .inl (3, m, .inr (.inr (.inr (.inr f)))))], ⟨rfl, rfl⟩, by rw [← hV0, ← hF]; exact h⟩) dJ18_next_61
