/-! ===== the JDK: new strings ===== -/
set_option maxRecDepth 100000
set_option maxHeartbeats 4000000 in
set_option maxRecDepth 100000 in
theorem metJ12_checkLength (l : Launch) (G : xG) (hG : xGood G) (n : Nat) (hn : n < 65536) : xRm l G yJ12_checkLength (Cond.code yJ12_checkLength cJ12_checkLength 2 none) { frames := 0, locals := 0, cells := 0, slots := 0 } [.int 0, .int (nI n)] [] none := by
  intro V hV
  refine xMet_ofT RJ12 hG rfl (by decide) (Nat.le_of_ble_eq_true rfl) fun C hC hQ hX hl hg _ hTab => ?_
  subst hl hg
  refine rn.mono (J := xRo [] V) (fun V9 h => ⟨h, hV⟩) ?_
  show rn C (xRo [] V) 0 0 0 [(0, .int 0), (1, .int (nI n))] []
  refine r_iload_n hC 1 dJ12_checkLength_0 rfl 1 rfl ?_
  refine r_iload_n hC 0 dJ12_checkLength_1 rfl 2 rfl ?_
  refine r_icge hC 37 dJ12_checkLength_2 (by decide) 5 rfl (fun _ => ?_) (fun h => absurd (nI_pos' (by omega)) h)
  exact r_vret hC (Nat.le_of_ble_eq_true rfl) (Nat.le_of_ble_eq_true rfl) (fun V9 h => hQ _ _ ⟨rfl, h.1⟩) dJ12_checkLength_37
set_option maxHeartbeats 4000000 in
set_option maxRecDepth 100000 in
theorem metJ12_copyOfRangeByte (l : Launch) (G : xG) (hG : xGood G) (sv cap n : Nat) (f : Nat → Int32) (hcap : cap < 65536) (hfb : fB f cap) (hn : n < cap) : xWm l G yJ12_copyOfRangeByte (Cond.code yJ12_copyOfRangeByte cJ12_copyOfRangeByte 5 (some (.array .byte))) { frames := 1, locals := 60, cells := 1, slots := n } [.ref sv, .int 0, .int (nI n)] [(sv, .inl (2, cap, .inl f))] (fun v w' => ∃ (q : Nat) (g : Nat → Int32), v = some (.ref q) ∧ (∀ j, j < n → g j = f j) ∧ w' = [(sv, .inl (2, cap, .inl f)), (q, .inl (2, n, .inl g))]) (fun _ _ => False) := by
  intro V hV
  refine xMet_ofT RJ12 hG rfl (by decide) (Nat.le_of_ble_eq_true rfl) fun C hC hQ hX hl hg _ hTab => ?_
  subst hl hg
  obtain ⟨V0, hV0⟩ : ∃ V0, V0 = V := ⟨_, rfl⟩
  obtain ⟨F, hF⟩ : ∃ F, F = xF [(sv, .inl (2, cap, .inl f))] := ⟨_, rfl⟩
  refine rn.mono (J := xSt F V0 [(sv, .inl (2, cap, .inl f))]) (fun V9 h => by rw [h, hV0, hF]; exact hV.st) ?_
  show rn C (xSt F V0 [(sv, .inl (2, cap, .inl f))]) 0 0 0 [(0, .ref sv), (1, .int 0), (2, .int (nI n))] []
  refine r_iload_n hC 1 dJ12_copyOfRangeByte_0 rfl 1 rfl ?_
  refine r_iload_n hC 2 dJ12_copyOfRangeByte_1 rfl 2 rfl ?_
  refine xCall.r (r := none) (r_cS hC [.int 0, .int (nI n)] mSJ12_checkLength q1087 (fun V9 h9 => (metJ12_checkLength _ _ hG n (by omega)) V9 xIn.nil) ⟨rfl, rfl⟩ (Nat.le_of_ble_eq_true rfl) (Nat.le_of_ble_eq_true rfl) rfl (Nat.le_of_ble_eq_true rfl) dJ12_copyOfRangeByte_2) 0 0 5 rfl rfl rfl ?_
  refine r_iload_n hC 2 dJ12_copyOfRangeByte_5 rfl 6 rfl ?_
  refine r_iload_n hC 1 dJ12_copyOfRangeByte_6 rfl 7 rfl ?_
  refine r_isub hC (nI n) dJ12_copyOfRangeByte_7  (Int32.sub_zero _) 8 rfl ?_
  refine r_istore_n hC 3 [(3, .int (nI n)), (0, .ref sv), (1, .int 0), (2, .int (nI n))] dJ12_copyOfRangeByte_8 rfl (Nat.le_of_ble_eq_true rfl) rfl 9 rfl ?_
  refine r_iload_n hC 0 dJ12_copyOfRangeByte_9 rfl 10 rfl ?_
  refine r_newa (J := fun q1 => xSt F V0 [(sv, .inl (2, cap, .inl f)), (q1, .inl (2, n, .inl zI))]) hC .byte 2 n (n, .inl (zI)) rfl q224 rfl rfl naz_byte rfl (by omega) (Nat.le_of_ble_eq_true rfl) (by first | omega | (dsimp only; omega)) dJ12_copyOfRangeByte_10 (fun _ h => h.push _) 12 rfl (fun q1 => ?_)
  show rn C (xSt F V0 [(sv, .inl (2, cap, .inl f)), (q1, .inl (2, n, .inl zI))]) 1 (0 + n) 12 [(3, .int (nI n)), (0, .ref sv), (1, .int 0), (2, .int (nI n))] [.ref q1]
  refine r_astore hC 4 [(4, .ref q1), (3, .int (nI n)), (0, .ref sv), (1, .int 0), (2, .int (nI n))] dJ12_copyOfRangeByte_12 (Nat.le_of_ble_eq_true rfl) rfl 14 rfl ?_
  refine r_aload_n hC 2 dJ12_copyOfRangeByte_14 rfl 15 rfl ?_
  refine r_iload_n hC 3 dJ12_copyOfRangeByte_15 rfl 16 rfl ?_
  refine r_aload hC 0 dJ12_copyOfRangeByte_16 rfl 18 rfl ?_
  refine r_iconst hC 0 dJ12_copyOfRangeByte_18 ic_0 19 rfl ?_
  refine r_aload_n hC 2 dJ12_copyOfRangeByte_19 rfl 20 rfl ?_
  refine r_alen hC (nI cap) (t := 2) rfl (fun _ h => h.get 0 rfl) rfl dJ12_copyOfRangeByte_20 21 rfl ?_
  refine r_iload_n hC 3 dJ12_copyOfRangeByte_21 rfl 22 rfl ?_
  refine r_isub hC (nI cap) dJ12_copyOfRangeByte_22  (Int32.sub_zero _) 23 rfl ?_
  refine r_iload_n hC 1 dJ12_copyOfRangeByte_23 rfl 24 rfl ?_
  refine xCall.r (r := some (.int (x_min (nI cap) (nI n)))) (r_cS hC [.int (nI cap), .int (nI n)] mSJ4_min q841 (fun V9 h9 => (metJ4_min _ _ hG (nI cap) (nI n)) V9 xIn.nil) ⟨rfl, rfl⟩ (Nat.le_of_ble_eq_true rfl) (by first | omega | (dsimp only; omega)) rfl (Nat.le_of_ble_eq_true rfl) dJ12_copyOfRangeByte_24) 1 ((0 + n) + 0) 27 rfl rfl rfl ?_
  refine r_eqi (y := nI n) (by rw [x_minN (by omega) (by omega), Nat.min_eq_right (by omega)]) ?_
  refine r_copyB (J := xSt F V0 [(sv, .inl (2, cap, .inl f)), (q1, .inl (2, n, .inl (va_cpy f zI 0 0 n)))]) hC 0 0 n q844 (fun _ h => h.get 0 rfl) (fun _ h => h.get 1 rfl) (by omega) (by omega) (by omega) (by omega) (fun i9 hi9 => by rw [Nat.zero_add]; exact hfb i9 (by omega)) (Nat.le_of_ble_eq_true rfl) (Nat.le_of_ble_eq_true rfl) (Nat.le_of_ble_eq_true rfl) dJ12_copyOfRangeByte_27 (fun _ h => h.set 1 _ rfl) 30 rfl ?_
  refine r_aload hC 0 dJ12_copyOfRangeByte_30 rfl 32 rfl ?_
  exact r_aret hC (v := (some q1)) (Or.inr ⟨_, rfl⟩) (Nat.le_of_ble_eq_true rfl) (by first | omega | (dsimp only; omega)) (fun V9 h => hQ _ _ ⟨[(sv, .inl (2, cap, .inl f)), (q1, .inl (2, n, .inl (va_cpy f zI 0 0 n)))], ⟨q1, _, rfl, (fun j hj => (cpy_in (by omega) (by omega)).trans (congrArg f (by omega))), rfl⟩, by rw [← hV0, ← hF]; exact h⟩) dJ12_copyOfRangeByte_32
set_option maxHeartbeats 4000000 in
set_option maxRecDepth 100000 in
theorem metJ12_copyOfRangeA (l : Launch) (G : xG) (hG : xGood G) (sv cap n : Nat) (f : Nat → Int32) (hcap : cap < 65536) (hfb : fB f cap) (hn : n < cap) : xWm l G yJ12_copyOfRange (Cond.code yJ12_copyOfRange cJ12_copyOfRange 3 (some (.array .byte))) { frames := 2, locals := 84, cells := 1, slots := n } [.ref sv, .int 0, .int (nI n)] [(sv, .inl (2, cap, .inl f))] (fun v w' => ∃ (q : Nat) (g : Nat → Int32), v = some (.ref q) ∧ (∀ j, j < n → g j = f j) ∧ w' = [(sv, .inl (2, cap, .inl f)), (q, .inl (2, n, .inl g))]) (fun _ _ => False) := by
  intro V hV
  refine xMet_ofT RJ12 hG rfl (by decide) (Nat.le_of_ble_eq_true rfl) fun C hC hQ hX hl hg _ hTab => ?_
  subst hl hg
  obtain ⟨V0, hV0⟩ : ∃ V0, V0 = V := ⟨_, rfl⟩
  obtain ⟨F, hF⟩ : ∃ F, F = xF [(sv, .inl (2, cap, .inl f))] := ⟨_, rfl⟩
  refine rn.mono (J := xSt F V0 [(sv, .inl (2, cap, .inl f))]) (fun V9 h => by rw [h, hV0, hF]; exact hV.st) ?_
  show rn C (xSt F V0 [(sv, .inl (2, cap, .inl f))]) 0 0 0 [(0, .ref sv), (1, .int 0), (2, .int (nI n))] []
  refine r_iload_n hC 1 dJ12_copyOfRange_0 rfl 1 rfl ?_
  refine r_ifne hC 10 dJ12_copyOfRange_1 (by decide) 4 rfl (fun h => absurd h (by decide)) (fun _ => ?_)
  refine r_iload_n hC 2 dJ12_copyOfRange_4 rfl 5 rfl ?_
  refine r_aload_n hC 0 dJ12_copyOfRange_5 rfl 6 rfl ?_
  refine r_alen hC (nI cap) (t := 2) rfl (fun _ h => h.get 0 rfl) rfl dJ12_copyOfRange_6 7 rfl ?_
  refine r_iceq hC 17 dJ12_copyOfRange_7 (by decide) 10 rfl (fun h => absurd h (fun q9 => by have := (eq_nI (by omega) (by omega)).mp q9; omega)) (fun _ => ?_)
  refine r_aload_n hC 0 dJ12_copyOfRange_10 rfl 11 rfl ?_
  refine r_iload_n hC 1 dJ12_copyOfRange_11 rfl 12 rfl ?_
  refine r_iload_n hC 2 dJ12_copyOfRange_12 rfl 13 rfl ?_
  refine xCall.w (wr := []) (r_cS hC [.ref sv, .int 0, .int (nI n)] mSJ12_copyOfRangeByte q1084 (fun V9 h9 => (metJ12_copyOfRangeByte _ _ hG sv cap n f (by omega) hfb (by omega)) V9 (h9.in.sub [0] rfl rfl)) ⟨rfl, rfl⟩ (Nat.le_of_ble_eq_true rfl) (by first | omega | (dsimp only; omega)) rfl (Nat.le_of_ble_eq_true rfl) dJ12_copyOfRange_13) [0] [] rfl rfl rfl (by decide) 1 (0 + n) 16 rfl rfl rfl (fun v4 w5 h6 => ?_) (fun _ _ h => h.elim)
  obtain ⟨q1, g2, rfl, hg3, rfl⟩ := h6
  show rn C (xSt F V0 [(sv, .inl (2, cap, .inl f)), (q1, .inl (2, n, .inl g2))]) 1 (0 + n) 16 [(0, .ref sv), (1, .int 0), (2, .int (nI n))] [.ref q1]
  exact r_aret hC (v := (some q1)) (Or.inr ⟨_, rfl⟩) (Nat.le_of_ble_eq_true rfl) (by first | omega | (dsimp only; omega)) (fun V9 h => hQ _ _ ⟨[(sv, .inl (2, cap, .inl f)), (q1, .inl (2, n, .inl g2))], ⟨q1, g2, rfl, hg3, rfl⟩, by rw [← hV0, ← hF]; exact h⟩) dJ12_copyOfRange_16
set_option maxHeartbeats 4000000 in
set_option maxRecDepth 100000 in
theorem metJ12_copyOfRangeB (l : Launch) (G : xG) (hG : xGood G) (sv cap : Nat) (f : Nat → Int32) (hcap : cap < 65536) (hfb : fB f cap) : xWm l G yJ12_copyOfRange (Cond.code yJ12_copyOfRange cJ12_copyOfRange 3 (some (.array .byte))) { frames := 2, locals := 84, cells := 1, slots := cap } [.ref sv, .int 0, .int (nI cap)] [(sv, .inl (2, cap, .inl f))] (fun v w' => ∃ (q : Nat) (g : Nat → Int32), v = some (.ref q) ∧ (∀ j, j < cap → g j = f j) ∧ w' = [(sv, .inl (2, cap, .inl f)), (q, .inl (2, cap, .inl g))]) (fun _ _ => False) := by
  intro V hV
  refine xMet_ofT RJ12 hG rfl (by decide) (Nat.le_of_ble_eq_true rfl) fun C hC hQ hX hl hg _ hTab => ?_
  subst hl hg
  obtain ⟨V0, hV0⟩ : ∃ V0, V0 = V := ⟨_, rfl⟩
  obtain ⟨F, hF⟩ : ∃ F, F = xF [(sv, .inl (2, cap, .inl f))] := ⟨_, rfl⟩
  refine rn.mono (J := xSt F V0 [(sv, .inl (2, cap, .inl f))]) (fun V9 h => by rw [h, hV0, hF]; exact hV.st) ?_
  show rn C (xSt F V0 [(sv, .inl (2, cap, .inl f))]) 0 0 0 [(0, .ref sv), (1, .int 0), (2, .int (nI cap))] []
  refine r_iload_n hC 1 dJ12_copyOfRange_0 rfl 1 rfl ?_
  refine r_ifne hC 10 dJ12_copyOfRange_1 (by decide) 4 rfl (fun h => absurd h (by decide)) (fun _ => ?_)
  refine r_iload_n hC 2 dJ12_copyOfRange_4 rfl 5 rfl ?_
  refine r_aload_n hC 0 dJ12_copyOfRange_5 rfl 6 rfl ?_
  refine r_alen hC (nI cap) (t := 2) rfl (fun _ h => h.get 0 rfl) rfl dJ12_copyOfRange_6 7 rfl ?_
  refine r_iceq hC 17 dJ12_copyOfRange_7 (by decide) 10 rfl (fun _ => ?_) (fun h => absurd (rfl) h)
  refine r_aload_n hC 0 dJ12_copyOfRange_17 rfl 18 rfl ?_
  refine r_clone (J := fun q1 => xSt F V0 [(sv, .inl (2, cap, .inl f)), (q1, .inl (2, cap, .inl f))]) hC hG q1017 (fun _ h => h.get 0 rfl) (fun i9 hi9 => hfb i9 hi9) (Nat.le_of_ble_eq_true rfl) (Nat.le_of_ble_eq_true rfl) (Nat.le_of_ble_eq_true rfl) (by first | omega | (dsimp only; omega)) (by first | omega | (dsimp only; omega)) dJ12_copyOfRange_18 (fun _ h => h.push _) 21 rfl (fun q1 => ?_)
  show rn C (xSt F V0 [(sv, .inl (2, cap, .inl f)), (q1, .inl (2, cap, .inl f))]) 1 (0 + cap) 21 [(0, .ref sv), (1, .int 0), (2, .int (nI cap))] [.ref q1]
  refine r_castB hC (fun _ h => h.get 1 rfl) q1023 dJ12_copyOfRange_21 24 rfl ?_
  exact r_aret hC (v := (some q1)) (Or.inr ⟨_, rfl⟩) (Nat.le_of_ble_eq_true rfl) (by first | omega | (dsimp only; omega)) (fun V9 h => hQ _ _ ⟨[(sv, .inl (2, cap, .inl f)), (q1, .inl (2, cap, .inl f))], ⟨q1, _, rfl, (fun _ _ => rfl), rfl⟩, by rw [← hV0, ← hF]; exact h⟩) dJ12_copyOfRange_24
set_option maxHeartbeats 4000000 in
set_option maxRecDepth 100000 in
theorem metJ12_copyOfRange (l : Launch) (G : xG) (hG : xGood G) (sv cap n : Nat) (f : Nat → Int32) (hcap : cap < 65536) (hfb : fB f cap) (hn : n ≤ cap) : xWm l G yJ12_copyOfRange (Cond.code yJ12_copyOfRange cJ12_copyOfRange 3 (some (.array .byte))) { frames := 2, locals := 84, cells := 1, slots := n } [.ref sv, .int 0, .int (nI n)] [(sv, .inl (2, cap, .inl f))] (fun v w' => ∃ (q : Nat) (g : Nat → Int32), v = some (.ref q) ∧ (∀ j, j < n → g j = f j) ∧ w' = [(sv, .inl (2, cap, .inl f)), (q, .inl (2, n, .inl g))]) (fun _ _ => False) := by
  by_cases h : n < cap
  · exact metJ12_copyOfRangeA l G hG sv cap n f hcap hfb h
  · obtain rfl : n = cap := by omega
    exact metJ12_copyOfRangeB l G hG sv n f hcap hfb
set_option maxHeartbeats 4000000 in
set_option maxRecDepth 100000 in
theorem metJ7_init2 (l : Launch) (G : xG) (hG : xGood G) (sb sv cap n : Nat) (f : Nat → Int32) (ml : Int32) (q : Nat) (hcap : cap < 65536) (hn : n ≤ cap) (hfb : fB f cap) : xWm l G yJ7_init_2 (Cond.code yJ7_init_2 cJ7_init_2 5 none) { frames := 3, locals := 106, cells := 1, slots := n } [.ref q, .ref sb, .null] [(q, .inr (21, [.null, .int 0, .int 0, .int 0])), (sb, .inr (20, [.ref sv, .int 0, .int ml, .int (nI n)])), (sv, .inl (2, cap, .inl f))] (fun v w' => v = none ∧ ∃ (v2 : Nat) (g : Nat → Int32), (∀ j, j < n → g j = f j) ∧ w' = [(q, .inr (21, [.ref v2, .int 0, .int 0, .int 0])), (v2, .inl (2, n, .inl g)), (sb, .inr (20, [.ref sv, .int 0, .int ml, .int (nI n)])), (sv, .inl (2, cap, .inl f))]) (fun _ _ => False) := by
  intro V hV
  refine xMet_ofT RJ7 hG rfl (by decide) (Nat.le_of_ble_eq_true rfl) fun C hC hQ hX hl hg hini hTab => ?_
  subst hl hg
  replace hini := hini rfl
  obtain ⟨V0, hV0⟩ : ∃ V0, V0 = V := ⟨_, rfl⟩
  obtain ⟨F, hF⟩ : ∃ F, F = xF [(q, .inr (21, [.null, .int 0, .int 0, .int 0])), (sb, .inr (20, [.ref sv, .int 0, .int ml, .int (nI n)])), (sv, .inl (2, cap, .inl f))] := ⟨_, rfl⟩
  refine rn.mono (J := xSt F V0 [(q, .inr (21, [.null, .int 0, .int 0, .int 0])), (sb, .inr (20, [.ref sv, .int 0, .int ml, .int (nI n)])), (sv, .inl (2, cap, .inl f))]) (fun V9 h => by rw [h, hV0, hF]; exact hV.st) ?_
  show rn C (xSt F V0 [(q, .inr (21, [.null, .int 0, .int 0, .int 0])), (sb, .inr (20, [.ref sv, .int 0, .int ml, .int (nI n)])), (sv, .inl (2, cap, .inl f))]) 0 0 0 [(0, .ref q), (1, .ref sb), (2, .null)] []
  refine r_aload_n hC 0 dJ7_init_2_0 rfl 1 rfl ?_
  refine r_objInit hC q1073 (Nat.le_of_ble_eq_true rfl) (Nat.le_of_ble_eq_true rfl) (Nat.le_of_ble_eq_true rfl) dJ7_init_2_1 4 rfl ?_
  refine r_aload_n hC 1 dJ7_init_2_4 rfl 5 rfl ?_
  refine xCall.r (r := some (.ref sv)) (r_cV hC kJ6 sb [] mVJ5_getValue_J6 q1074 (fun _ h => ⟨_, h.get 1 rfl⟩) (fun V9 h9 => (metJ5_getValue _ _ hG sb sv cap n f ml) V9 (h9.in.sub [1, 2] rfl rfl)) ⟨rfl, rfl⟩ (Nat.le_of_ble_eq_true rfl) (Nat.le_of_ble_eq_true rfl) rfl (Nat.le_of_ble_eq_true rfl) dJ7_init_2_5) 0 0 8 rfl rfl rfl ?_
  refine r_astore_n hC 3 [(3, .ref sv), (0, .ref q), (1, .ref sb), (2, .null)] dJ7_init_2_8 rfl (Nat.le_of_ble_eq_true rfl) rfl 9 rfl ?_
  refine r_aload_n hC 2 dJ7_init_2_9 rfl 10 rfl ?_
  refine xCall.r (r := some (.int (nI n))) (r_cVD hC hG kJ6 sb [] mDJ6_length_J6 q1079 (fun _ h => ⟨_, h.get 1 rfl⟩) (fun V9 h9 => (metJ6_length _ _ hG sb sv cap n f ml) V9 (h9.in.sub [1, 2] rfl rfl)) ⟨rfl, rfl⟩ (Nat.le_of_ble_eq_true rfl) (Nat.le_of_ble_eq_true rfl) rfl (Nat.le_of_ble_eq_true rfl) dJ7_init_2_10) 0 0 13 rfl rfl rfl ?_
  refine r_istore hC 4 [(4, .int (nI n)), (3, .ref sv), (0, .ref q), (1, .ref sb), (2, .null)] dJ7_init_2_13 (Nat.le_of_ble_eq_true rfl) rfl 15 rfl ?_
  refine r_aload_n hC 3 dJ7_init_2_15 rfl 16 rfl ?_
  refine xCall.r (r := some (.int 1)) (r_cV hC kJ6 sb [] mVJ5_isLatin1_J6 q1080 (fun _ h => ⟨_, h.get 1 rfl⟩) (fun V9 h9 => (metJ5_isLatin1 _ _ hG sb sv cap n f ml) V9 (h9.in.sub [1] rfl rfl)) ⟨rfl, rfl⟩ (Nat.le_of_ble_eq_true rfl) (Nat.le_of_ble_eq_true rfl) rfl (Nat.le_of_ble_eq_true rfl) dJ7_init_2_16) 0 0 19 rfl rfl rfl ?_
  refine r_ifeq hC 41 dJ7_init_2_19 (by decide) 22 rfl (fun h => absurd h (by decide)) (fun _ => ?_)
  refine r_aload_n hC 2 dJ7_init_2_22 rfl 23 rfl ?_
  refine r_iconst hC 0 dJ7_init_2_23 ic_0 24 rfl ?_
  refine r_putF (J := xSt F V0 [(q, .inr (21, [.null, .int 0, .int 0, .int 0])), (sb, .inr (20, [.ref sv, .int 0, .int ml, .int (nI n)])), (sv, .inl (2, cap, .inl f))]) hC hini kJ7 1 rfl q1191 rfl rfl (fun _ h => h.get 0 rfl) (Nat.le_of_ble_eq_true rfl) (rfl) (rfl) dJ7_init_2_24 (fun _ h => h.set 0 _ rfl) 27 rfl ?_
  refine r_aload_n hC 2 dJ7_init_2_27 rfl 28 rfl ?_
  refine r_aload_n hC 1 dJ7_init_2_28 rfl 29 rfl ?_
  refine r_iconst hC 0 dJ7_init_2_29 ic_0 30 rfl ?_
  refine r_iload hC 0 dJ7_init_2_30 rfl 32 rfl ?_
  refine xCall.w (wr := [(q, .inr (21, [.null, .int 0, .int 0, .int 0])), (sb, .inr (20, [.ref sv, .int 0, .int ml, .int (nI n)]))]) (r_cS hC [.ref sv, .int 0, .int (nI n)] mSJ12_copyOfRange q1081 (fun V9 h9 => (metJ12_copyOfRange _ _ hG sv cap n f (by omega) hfb (by omega)) V9 (h9.in.sub [2] rfl rfl)) ⟨rfl, rfl⟩ (Nat.le_of_ble_eq_true rfl) (by first | omega | (dsimp only; omega)) rfl (Nat.le_of_ble_eq_true rfl) dJ7_init_2_32) [2] [0, 1] rfl rfl rfl (by decide) 1 (0 + n) 35 rfl rfl rfl (fun v4 w5 h6 => ?_) (fun _ _ h => h.elim)
  obtain ⟨q1, g2, rfl, hg3, rfl⟩ := h6
  show rn C (xSt F V0 [(q, .inr (21, [.null, .int 0, .int 0, .int 0])), (sb, .inr (20, [.ref sv, .int 0, .int ml, .int (nI n)])), (sv, .inl (2, cap, .inl f)), (q1, .inl (2, n, .inl g2))]) 1 (0 + n) 35 [(4, .int (nI n)), (3, .ref sv), (0, .ref q), (1, .ref sb), (2, .null)] [.ref q1, .ref q]
  refine r_putF (J := xSt F V0 [(q, .inr (21, [.ref q1, .int 0, .int 0, .int 0])), (sb, .inr (20, [.ref sv, .int 0, .int ml, .int (nI n)])), (sv, .inl (2, cap, .inl f)), (q1, .inl (2, n, .inl g2))]) hC hini kJ7 0 rfl q1190 rfl rfl (fun _ h => h.get 0 rfl) (Nat.le_of_ble_eq_true rfl) (rfl) (rfl) dJ7_init_2_35 (fun _ h => h.set 0 _ rfl) 38 rfl ?_
  refine r_goto hC 97 dJ7_init_2_38 (by decide) ?_
  exact r_vret hC (Nat.le_of_ble_eq_true rfl) (by first | omega | (dsimp only; omega)) (fun V9 h => hQ _ _ ⟨[(q, .inr (21, [.ref q1, .int 0, .int 0, .int 0])), (q1, .inl (2, n, .inl g2)), (sb, .inr (20, [.ref sv, .int 0, .int ml, .int (nI n)])), (sv, .inl (2, cap, .inl f))], ⟨rfl, q1, g2, hg3, rfl⟩, by rw [← hV0, ← hF]; exact h.sub [0, 3, 1, 2] rfl rfl⟩) dJ7_init_2_97
set_option maxHeartbeats 4000000 in
set_option maxRecDepth 100000 in
theorem metJ7_init (l : Launch) (G : xG) (hG : xGood G) (sb sv cap n : Nat) (f : Nat → Int32) (ml : Int32) (q : Nat) (hcap : cap < 65536) (hn : n ≤ cap) (hfb : fB f cap) : xWm l G yJ7_init (Cond.code yJ7_init cJ7_init 2 none) { frames := 4, locals := 130, cells := 1, slots := n } [.ref q, .ref sb] [(q, .inr (21, [.null, .int 0, .int 0, .int 0])), (sb, .inr (20, [.ref sv, .int 0, .int ml, .int (nI n)])), (sv, .inl (2, cap, .inl f))] (fun v w' => v = none ∧ ∃ (v2 : Nat) (g : Nat → Int32), (∀ j, j < n → g j = f j) ∧ w' = [(q, .inr (21, [.ref v2, .int 0, .int 0, .int 0])), (v2, .inl (2, n, .inl g)), (sb, .inr (20, [.ref sv, .int 0, .int ml, .int (nI n)])), (sv, .inl (2, cap, .inl f))]) (fun _ _ => False) := by
  intro V hV
  refine xMet_ofT RJ7 hG rfl (by decide) (Nat.le_of_ble_eq_true rfl) fun C hC hQ hX hl hg hini hTab => ?_
  subst hl hg
  replace hini := hini rfl
  obtain ⟨V0, hV0⟩ : ∃ V0, V0 = V := ⟨_, rfl⟩
  obtain ⟨F, hF⟩ : ∃ F, F = xF [(q, .inr (21, [.null, .int 0, .int 0, .int 0])), (sb, .inr (20, [.ref sv, .int 0, .int ml, .int (nI n)])), (sv, .inl (2, cap, .inl f))] := ⟨_, rfl⟩
  refine rn.mono (J := xSt F V0 [(q, .inr (21, [.null, .int 0, .int 0, .int 0])), (sb, .inr (20, [.ref sv, .int 0, .int ml, .int (nI n)])), (sv, .inl (2, cap, .inl f))]) (fun V9 h => by rw [h, hV0, hF]; exact hV.st) ?_
  show rn C (xSt F V0 [(q, .inr (21, [.null, .int 0, .int 0, .int 0])), (sb, .inr (20, [.ref sv, .int 0, .int ml, .int (nI n)])), (sv, .inl (2, cap, .inl f))]) 0 0 0 [(0, .ref q), (1, .ref sb)] []
  refine r_aload_n hC 0 dJ7_init_0 rfl 1 rfl ?_
  refine r_aload_n hC 1 dJ7_init_1 rfl 2 rfl ?_
  refine r_null hC dJ7_init_2 3 rfl ?_
  refine xCall.w (wr := []) (r_cI hC q [.ref sb, .null] mIJ7_init_2 q1070 (fun V9 h9 => (metJ7_init2 _ _ hG sb sv cap n f ml q hcap hn hfb) V9 (h9.in.sub [0, 1, 2] rfl rfl)) ⟨rfl, rfl⟩ (Nat.le_of_ble_eq_true rfl) (by first | omega | (dsimp only; omega)) rfl (Nat.le_of_ble_eq_true rfl) dJ7_init_3) [0, 1, 2] [] rfl rfl rfl (by decide) 1 (0 + n) 6 rfl rfl rfl (fun v4 w5 h6 => ?_) (fun _ _ h => h.elim)
  obtain ⟨rfl, v1, g2, hg3, rfl⟩ := h6
  show rn C (xSt F V0 [(q, .inr (21, [.ref v1, .int 0, .int 0, .int 0])), (v1, .inl (2, n, .inl g2)), (sb, .inr (20, [.ref sv, .int 0, .int ml, .int (nI n)])), (sv, .inl (2, cap, .inl f))]) 1 (0 + n) 6 [(0, .ref q), (1, .ref sb)] []
  exact r_vret hC (Nat.le_of_ble_eq_true rfl) (by first | omega | (dsimp only; omega)) (fun V9 h => hQ _ _ ⟨[(q, .inr (21, [.ref v1, .int 0, .int 0, .int 0])), (v1, .inl (2, n, .inl g2)), (sb, .inr (20, [.ref sv, .int 0, .int ml, .int (nI n)])), (sv, .inl (2, cap, .inl f))], ⟨rfl, v1, g2, hg3, rfl⟩, by rw [← hV0, ← hF]; exact h.sub [0, 1, 2, 3] rfl rfl⟩) dJ7_init_6
set_option maxHeartbeats 4000000 in
set_option maxRecDepth 100000 in
theorem metJ6_toString (l : Launch) (G : xG) (hG : xGood G) (sb sv cap n : Nat) (f : Nat → Int32) (ml : Int32) (hcap : cap < 65536) (hn : n ≤ cap) (hfb : fB f cap) : xWm l G yJ6_toString (Cond.code yJ6_toString cJ6_toString 1 (some (.object "java/lang/String"))) { frames := 5, locals := 151, cells := 2, slots := n + 4 } [.ref sb] [(sb, .inr (20, [.ref sv, .int 0, .int ml, .int (nI n)])), (sv, .inl (2, cap, .inl f))] (fun v w' => ∃ (q v2 : Nat) (g : Nat → Int32), v = some (.ref q) ∧ (∀ j, j < n → g j = f j) ∧ w' = [(q, .inr (21, [.ref v2, .int 0, .int 0, .int 0])), (v2, .inl (2, n, .inl g)), (sb, .inr (20, [.ref sv, .int 0, .int ml, .int (nI n)])), (sv, .inl (2, cap, .inl f))]) (fun _ _ => False) := by
  intro V hV
  refine xMet_ofT RJ6 hG rfl (by decide) (Nat.le_of_ble_eq_true rfl) fun C hC hQ hX hl hg _ hTab => ?_
  subst hl hg
  obtain ⟨V0, hV0⟩ : ∃ V0, V0 = V := ⟨_, rfl⟩
  obtain ⟨F, hF⟩ : ∃ F, F = xF [(sb, .inr (20, [.ref sv, .int 0, .int ml, .int (nI n)])), (sv, .inl (2, cap, .inl f))] := ⟨_, rfl⟩
  refine rn.mono (J := xSt F V0 [(sb, .inr (20, [.ref sv, .int 0, .int ml, .int (nI n)])), (sv, .inl (2, cap, .inl f))]) (fun V9 h => by rw [h, hV0, hF]; exact hV.st) ?_
  show rn C (xSt F V0 [(sb, .inr (20, [.ref sv, .int 0, .int ml, .int (nI n)])), (sv, .inl (2, cap, .inl f))]) 0 0 0 [(0, .ref sb)] []
  refine r_new (J := fun q1 => xSt F V0 [(sb, .inr (20, [.ref sv, .int 0, .int ml, .int (nI n)])), (sv, .inl (2, cap, .inl f)), (q1, .inr (21, [.null, .int 0, .int 0, .int 0]))]) hC [.null, .int 0, .int 0, .int 0] kJ7 q1065 q1066 q110 dfJ7 (Nat.le_of_ble_eq_true rfl) (Nat.le_of_ble_eq_true rfl) dJ6_toString_0 (fun _ h => h.push _) 3 rfl (fun q1 => ?_)
  show rn C (xSt F V0 [(sb, .inr (20, [.ref sv, .int 0, .int ml, .int (nI n)])), (sv, .inl (2, cap, .inl f)), (q1, .inr (21, [.null, .int 0, .int 0, .int 0]))]) 1 4 3 [(0, .ref sb)] [.ref q1]
  refine r_dup hC dJ6_toString_3 rfl 4 rfl ?_
  refine r_aload_n hC 0 dJ6_toString_4 rfl 5 rfl ?_
  refine xCall.w (wr := []) (r_cI hC q1 [.ref sb] mIJ7_init q1067 (fun V9 h9 => (metJ7_init _ _ hG sb sv cap n f ml q1 hcap hn hfb) V9 (h9.in.sub [2, 0, 1] rfl rfl)) ⟨rfl, rfl⟩ (Nat.le_of_ble_eq_true rfl) (by first | omega | (dsimp only; omega)) rfl (Nat.le_of_ble_eq_true rfl) dJ6_toString_5) [2, 0, 1] [] rfl rfl rfl (by decide) 2 (4 + n) 8 rfl rfl rfl (fun v5 w6 h7 => ?_) (fun _ _ h => h.elim)
  obtain ⟨rfl, v2, g3, hg4, rfl⟩ := h7
  show rn C (xSt F V0 [(q1, .inr (21, [.ref v2, .int 0, .int 0, .int 0])), (v2, .inl (2, n, .inl g3)), (sb, .inr (20, [.ref sv, .int 0, .int ml, .int (nI n)])), (sv, .inl (2, cap, .inl f))]) 2 (4 + n) 8 [(0, .ref sb)] [.ref q1]
  exact r_aret hC (v := (some q1)) (Or.inl ⟨_, rfl⟩) (Nat.le_of_ble_eq_true rfl) (by first | omega | (dsimp only; omega)) (fun V9 h => hQ _ _ ⟨[(q1, .inr (21, [.ref v2, .int 0, .int 0, .int 0])), (v2, .inl (2, n, .inl g3)), (sb, .inr (20, [.ref sv, .int 0, .int ml, .int (nI n)])), (sv, .inl (2, cap, .inl f))], ⟨q1, v2, g3, rfl, hg4, rfl⟩, by rw [← hV0, ← hF]; exact h⟩) dJ6_toString_8
