/-! ===== the JDK: StringBuilder ===== -/
set_option maxRecDepth 100000
theorem shr0 (x : Int32) : x >>> ((0 : Int32) &&& 31) = x := by
  have : ((0 : Int32) &&& 31) = 0 := by decide
  rw [this]
  simp
theorem shl0 (x : Int32) : x <<< ((0 : Int32) &&& 31) = x := by
  have : ((0 : Int32) &&& 31) = 0 := by decide
  rw [this]
  simp
theorem i8_8 (c : Int32) : c.toInt8.toInt32.toInt8.toInt32 = c.toInt8.toInt32 := by simp
theorem byte_fit (c : Int32) : fits .byte (.int c.toInt8.toInt32) = true := by
  simp only [fits, Bool.and_eq_true, decide_eq_true_eq]
  rw [Int32.le_iff_toInt_le, Int32.le_iff_toInt_le, Int8.toInt_toInt32]
  have h1 := Int8.toInt_lt c.toInt8
  have h2 := Int8.le_toInt c.toInt8
  have h3 : (-128 : Int32).toInt = -128 := rfl
  have h4 : (127 : Int32).toInt = 127 := rfl
  omega
/-- what stands in an array of bytes -/
def fB (f : Nat → Int32) (N : Nat) : Prop := ∀ i, i < N → fits .byte (.int (f i)) = true
theorem fB_z {N : Nat} : fB zI N := fun _ _ => rfl
theorem fB_up {f : Nat → Int32} {N j : Nat} {c : Int32} (h : fB f N) : fB (va_up f j c.toInt8.toInt32) N := by
  intro i hi
  by_cases e : i = j
  · subst e; rw [up_same]; exact byte_fit c
  · rw [up_ne e]; exact h i hi
theorem fB_cpy {f g : Nat → Int32} {N n0 n1 sp dp : Nat} (h : fB f n0) (hg : fB g n1) (h1 : sp + N ≤ n0) : fB (va_cpy f g sp dp N) n1 := by
  intro i hi
  unfold va_cpy
  split
  · exact h _ (by omega)
  · exact hg i hi
theorem x_minN {a b : Nat} (ha : a < 2 ^ 31) (hb : b < 2 ^ 31) : x_min (nI a) (nI b) = nI (min a b) := by
  unfold x_min
  by_cases h : b < a
  · rw [if_pos ((lt_nI hb ha).mpr h), Nat.min_eq_right (by omega)]
  · rw [if_neg (fun q => h ((lt_nI hb ha).mp q)), Nat.min_eq_left (by omega)]
theorem x_maxN {a b : Nat} (ha : a < 2 ^ 31) (hb : b < 2 ^ 31) : x_max (nI a) (nI b) = nI (max a b) := by
  unfold x_max
  by_cases h : a < b
  · rw [if_pos ((lt_nI ha hb).mpr h), Nat.max_eq_right (by omega)]
  · rw [if_neg (fun q => h ((lt_nI ha hb).mp q)), Nat.max_eq_left (by omega)]
set_option maxHeartbeats 4000000 in
set_option maxRecDepth 100000 in
theorem metJ5_init (l : Launch) (G : xG) (hG : xGood G) (q : Nat) : xWm l G yJ5_init (Cond.code yJ5_init cJ5_init 2 none) { frames := 1, locals := 20, cells := 1, slots := 16 } [.ref q, .int 16] [(q, .inr (20, [.null, .int 0, .int 0, .int 0]))] (fun v w' => v = none ∧ ∃ sv : Nat, w' = [(q, .inr (20, [.ref sv, .int 0, .int 0, .int (nI 0)])), (sv, .inl (2, 16, .inl zI))]) (fun _ _ => False) := by
  intro V hV
  refine xMet_ofT RJ5 hG rfl (by decide) (Nat.le_of_ble_eq_true rfl) fun C hC hQ hX hl hg hini hTab => ?_
  subst hl hg
  replace hini := hini rfl
  have hzCS := za_CS hG
  obtain ⟨V0, hV0⟩ : ∃ V0, V0 = V := ⟨_, rfl⟩
  obtain ⟨F, hF⟩ : ∃ F, F = xF [(q, .inr (20, [.null, .int 0, .int 0, .int 0]))] := ⟨_, rfl⟩
  refine rn.mono (J := xSt F V0 [(q, .inr (20, [.null, .int 0, .int 0, .int 0]))]) (fun V9 h => by rw [h, hV0, hF]; exact hV.st) ?_
  show rn C (xSt F V0 [(q, .inr (20, [.null, .int 0, .int 0, .int 0]))]) 0 0 0 [(0, .ref q), (1, .int 16)] []
  refine r_aload_n hC 0 dJ5_init_0 rfl 1 rfl ?_
  refine r_objInit hC q475 (Nat.le_of_ble_eq_true rfl) (Nat.le_of_ble_eq_true rfl) (Nat.le_of_ble_eq_true rfl) dJ5_init_1 4 rfl ?_
  refine r_gets hC hzCS q476 dJ5_init_4 7 rfl ?_
  refine r_ifeq hC 25 dJ5_init_7 (by decide) 10 rfl (fun h => absurd h (by decide)) (fun _ => ?_)
  refine r_aload_n hC 0 dJ5_init_10 rfl 11 rfl ?_
  refine r_iload_n hC 1 dJ5_init_11 rfl 12 rfl ?_
  refine r_newa (J := fun q1 => xSt F V0 [(q, .inr (20, [.null, .int 0, .int 0, .int 0])), (q1, .inl (2, 16, .inl zI))]) hC .byte 2 16 (16, .inl (zI)) rfl q224 rfl rfl naz_byte rfl (Nat.le_of_ble_eq_true rfl) (Nat.le_of_ble_eq_true rfl) (Nat.le_of_ble_eq_true rfl) dJ5_init_12 (fun _ h => h.push _) 14 rfl (fun q1 => ?_)
  show rn C (xSt F V0 [(q, .inr (20, [.null, .int 0, .int 0, .int 0])), (q1, .inl (2, 16, .inl zI))]) 1 16 14 [(0, .ref q), (1, .int 16)] [.ref q1, .ref q]
  refine r_put (J := xSt F V0 [(q, .inr (20, [.ref q1, .int 0, .int 0, .int 0])), (q1, .inl (2, 16, .inl zI))]) hC kJ6 0 rfl q485 rfl (fun _ h => h.get 0 rfl) (Nat.le_of_ble_eq_true rfl) (rfl) (rfl) dJ5_init_14 (fun _ h => h.set 0 _ rfl) 17 rfl ?_
  refine r_aload_n hC 0 dJ5_init_17 rfl 18 rfl ?_
  refine r_iconst hC 0 dJ5_init_18 ic_0 19 rfl ?_
  refine r_put (J := xSt F V0 [(q, .inr (20, [.ref q1, .int 0, .int 0, .int 0])), (q1, .inl (2, 16, .inl zI))]) hC kJ6 1 rfl q486 rfl (fun _ h => h.get 0 rfl) (Nat.le_of_ble_eq_true rfl) (rfl) (rfl) dJ5_init_19 (fun _ h => h.set 0 _ rfl) 22 rfl ?_
  refine r_goto hC 38 dJ5_init_22 (by decide) ?_
  exact r_vret hC (Nat.le_of_ble_eq_true rfl) (Nat.le_of_ble_eq_true rfl) (fun V9 h => hQ _ _ ⟨[(q, .inr (20, [.ref q1, .int 0, .int 0, .int (nI 0)])), (q1, .inl (2, 16, .inl zI))], ⟨rfl, q1, rfl⟩, by rw [← hV0, ← hF]; exact h⟩) dJ5_init_38
set_option maxHeartbeats 4000000 in
set_option maxRecDepth 100000 in
theorem metJ6_init (l : Launch) (G : xG) (hG : xGood G) (q : Nat) : xWm l G yJ6_init (Cond.code yJ6_init cJ6_init 1 none) { frames := 2, locals := 41, cells := 1, slots := 16 } [.ref q] [(q, .inr (20, [.null, .int 0, .int 0, .int 0]))] (fun v w' => v = none ∧ ∃ sv : Nat, w' = [(q, .inr (20, [.ref sv, .int 0, .int 0, .int (nI 0)])), (sv, .inl (2, 16, .inl zI))]) (fun _ _ => False) := by
  intro V hV
  refine xMet_ofT RJ6 hG rfl (by decide) (Nat.le_of_ble_eq_true rfl) fun C hC hQ hX hl hg hini hTab => ?_
  subst hl hg
  replace hini := hini rfl
  obtain ⟨V0, hV0⟩ : ∃ V0, V0 = V := ⟨_, rfl⟩
  obtain ⟨F, hF⟩ : ∃ F, F = xF [(q, .inr (20, [.null, .int 0, .int 0, .int 0]))] := ⟨_, rfl⟩
  refine rn.mono (J := xSt F V0 [(q, .inr (20, [.null, .int 0, .int 0, .int 0]))]) (fun V9 h => by rw [h, hV0, hF]; exact hV.st) ?_
  show rn C (xSt F V0 [(q, .inr (20, [.null, .int 0, .int 0, .int 0]))]) 0 0 0 [(0, .ref q)] []
  refine r_aload_n hC 0 dJ6_init_0 rfl 1 rfl ?_
  refine r_bipush hC 16 dJ6_init_1 bp_16 3 rfl ?_
  refine xCall.w (wr := []) (r_cI hC q [.int 16] mIJ5_init q472 (fun V9 h9 => (metJ5_init _ _ hG q) V9 (h9.in.sub [0] rfl rfl)) ⟨rfl, rfl⟩ (Nat.le_of_ble_eq_true rfl) (Nat.le_of_ble_eq_true rfl) rfl (Nat.le_of_ble_eq_true rfl) dJ6_init_3) [0] [] rfl rfl rfl (by decide) 1 16 6 rfl rfl rfl (fun v2 w3 h4 => ?_) (fun _ _ h => h.elim)
  obtain ⟨rfl, e1, rfl⟩ := h4
  show rn C (xSt F V0 [(q, .inr (20, [.ref e1, .int 0, .int 0, .int (nI 0)])), (e1, .inl (2, 16, .inl zI))]) 1 16 6 [(0, .ref q)] []
  exact r_vret hC (Nat.le_of_ble_eq_true rfl) (Nat.le_of_ble_eq_true rfl) (fun V9 h => hQ _ _ ⟨[(q, .inr (20, [.ref e1, .int 0, .int 0, .int (nI 0)])), (e1, .inl (2, 16, .inl zI))], ⟨rfl, e1, rfl⟩, by rw [← hV0, ← hF]; exact h⟩) dJ6_init_6
set_option maxHeartbeats 4000000 in
set_option maxRecDepth 100000 in
theorem metJ5_isLatin1 (l : Launch) (G : xG) (hG : xGood G) (sb sv cap n : Nat) (f : Nat → Int32) (ml : Int32) : xRm l G yJ5_isLatin1 (Cond.code yJ5_isLatin1 cJ5_isLatin1 1 (some .boolean)) { frames := 0, locals := 0, cells := 0, slots := 0 } [.ref sb] [(sb, .inr (20, [.ref sv, .int 0, .int ml, .int (nI n)]))] (some (.int 1)) := by
  intro V hV
  refine xMet_ofT RJ5 hG rfl (by decide) (Nat.le_of_ble_eq_true rfl) fun C hC hQ hX hl hg _ hTab => ?_
  subst hl hg
  have hzCS := za_CS hG
  refine rn.mono (J := xRo [(sb, .inr (20, [.ref sv, .int 0, .int ml, .int (nI n)]))] V) (fun V9 h => ⟨h, hV⟩) ?_
  show rn C (xRo [(sb, .inr (20, [.ref sv, .int 0, .int ml, .int (nI n)]))] V) 0 0 0 [(0, .ref sb)] []
  refine r_gets hC hzCS q476 dJ5_isLatin1_0 3 rfl ?_
  refine r_ifeq hC 17 dJ5_isLatin1_3 (by decide) 6 rfl (fun h => absurd h (by decide)) (fun _ => ?_)
  refine r_aload_n hC 0 dJ5_isLatin1_6 rfl 7 rfl ?_
  refine r_get (v := .int 0) hC kJ6 1 rfl q486 (fun _ h => h.get 0 rfl) rfl dJ5_isLatin1_7 10 rfl ?_
  refine r_ifne hC 17 dJ5_isLatin1_10 (by decide) 13 rfl (fun h => absurd h (by decide)) (fun _ => ?_)
  refine r_iconst hC 1 dJ5_isLatin1_13 ic_1 14 rfl ?_
  refine r_goto hC 18 dJ5_isLatin1_14 (by decide) ?_
  exact r_zret hC (by decide) (Nat.le_of_ble_eq_true rfl) (Nat.le_of_ble_eq_true rfl) (fun V9 h => hQ _ _ ⟨rfl, h.1⟩) dJ5_isLatin1_18
set_option maxHeartbeats 4000000 in
set_option maxRecDepth 100000 in
theorem metJ13_canEncode (l : Launch) (G : xG) (hG : xGood G) (c : Int32) (hc : c ≤ 255) : xRm l G yJ13_canEncode (Cond.code yJ13_canEncode cJ13_canEncode 1 (some .boolean)) { frames := 0, locals := 0, cells := 0, slots := 0 } [.int c] [] (some (.int 1)) := by
  intro V hV
  refine xMet_ofT RJ13 hG rfl (by decide) (Nat.le_of_ble_eq_true rfl) fun C hC hQ hX hl hg _ hTab => ?_
  subst hl hg
  refine rn.mono (J := xRo [] V) (fun V9 h => ⟨h, hV⟩) ?_
  show rn C (xRo [] V) 0 0 0 [(0, .int c)] []
  refine r_iload_n hC 0 dJ13_canEncode_0 rfl 1 rfl ?_
  refine r_sipush hC 255 dJ13_canEncode_1 sp_255 4 rfl ?_
  refine r_icgt hC 11 dJ13_canEncode_4 (by decide) 7 rfl (fun h => absurd h (Int32.not_lt.mpr hc)) (fun _ => ?_)
  refine r_iconst hC 1 dJ13_canEncode_7 ic_1 8 rfl ?_
  refine r_goto hC 12 dJ13_canEncode_8 (by decide) ?_
  exact r_zret hC (by decide) (Nat.le_of_ble_eq_true rfl) (Nat.le_of_ble_eq_true rfl) (fun V9 h => hQ _ _ ⟨rfl, h.1⟩) dJ13_canEncode_12
set_option maxHeartbeats 4000000 in
set_option maxRecDepth 100000 in
theorem metJ11_newLength (l : Launch) (G : xG) (hG : xGood G) (a b c : Nat) (ha : a < 65536) (hb : b < 65536) (hc : c < 65536) (h0 : 0 < c) : xRm l G yJ11_newLength (Cond.code yJ11_newLength cJ11_newLength 4 (some .int)) { frames := 1, locals := 21, cells := 0, slots := 0 } [.int (nI a), .int (nI b), .int (nI c)] [] (some (.int (nI (a + max b c)))) := by
  intro V hV
  refine xMet_ofT RJ11 hG rfl (by decide) (Nat.le_of_ble_eq_true rfl) fun C hC hQ hX hl hg _ hTab => ?_
  subst hl hg
  refine rn.mono (J := xRo [] V) (fun V9 h => ⟨h, hV⟩) ?_
  show rn C (xRo [] V) 0 0 0 [(0, .int (nI a)), (1, .int (nI b)), (2, .int (nI c))] []
  refine r_iload_n hC 0 dJ11_newLength_0 rfl 1 rfl ?_
  refine r_iload_n hC 1 dJ11_newLength_1 rfl 2 rfl ?_
  refine r_iload_n hC 2 dJ11_newLength_2 rfl 3 rfl ?_
  refine xCall.r (r := some (.int (x_max (nI b) (nI c)))) (r_cS hC [.int (nI b), .int (nI c)] mSJ4_max q1008 (fun V9 h9 => (metJ4_max _ _ hG (nI b) (nI c)) V9 xIn.nil) ⟨rfl, rfl⟩ (Nat.le_of_ble_eq_true rfl) (Nat.le_of_ble_eq_true rfl) rfl (Nat.le_of_ble_eq_true rfl) dJ11_newLength_3) 0 0 6 rfl rfl rfl ?_
  refine r_iadd hC (nI (a + max b c)) dJ11_newLength_6  (by rw [x_maxN (by omega) (by omega)]; exact nI_add a (max b c)) 7 rfl ?_
  refine r_istore_n hC 3 [(3, .int (nI (a + max b c))), (0, .int (nI a)), (1, .int (nI b)), (2, .int (nI c))] dJ11_newLength_7 rfl (Nat.le_of_ble_eq_true rfl) rfl 8 rfl ?_
  refine r_iconst hC 0 dJ11_newLength_8 ic_0 9 rfl ?_
  refine r_iload_n hC 0 dJ11_newLength_9 rfl 10 rfl ?_
  refine r_icge hC 21 dJ11_newLength_10 (by decide) 13 rfl (fun h => absurd h (fun q9 => by have := (le_nI (a := a + max b c) (b := 0) (by omega) (by omega)).mp q9; omega)) (fun _ => ?_)
  refine r_iload_n hC 0 dJ11_newLength_13 rfl 14 rfl ?_
  refine r_ldc hC q1009 dJ11_newLength_14 16 rfl ?_
  refine r_icgt hC 21 dJ11_newLength_16 (by decide) 19 rfl (fun h => absurd h (fun q9 => by rw [Int32.lt_iff_toInt_lt, nI_toInt (by omega)] at q9; have h9 : (2147483639 : Int32).toInt = 2147483639 := rfl; rw [h9] at q9; omega)) (fun _ => ?_)
  refine r_iload_n hC 0 dJ11_newLength_19 rfl 20 rfl ?_
  exact r_iret hC (Nat.le_of_ble_eq_true rfl) (Nat.le_of_ble_eq_true rfl) (fun V9 h => hQ _ _ ⟨rfl, h.1⟩) dJ11_newLength_20
set_option maxHeartbeats 4000000 in
set_option maxRecDepth 100000 in
theorem metJ12_copyOfB (l : Launch) (G : xG) (hG : xGood G) (sv cap N : Nat) (f : Nat → Int32) (hcap : cap < 65536) (hN : N < 65536) (hlt : cap < N) (hfb : fB f cap) : xWm l G yJ12_copyOf_3 (Cond.code yJ12_copyOf_3 cJ12_copyOf_3 3 (some (.array .byte))) { frames := 1, locals := 60, cells := 1, slots := N } [.ref sv, .int (nI N)] [(sv, .inl (2, cap, .inl f))] (fun v w' => ∃ q : Nat, v = some (.ref q) ∧ w' = [(sv, .inl (2, cap, .inl f)), (q, .inl (2, N, .inl (va_cpy f zI 0 0 cap)))]) (fun _ _ => False) := by
  intro V hV
  refine xMet_ofT RJ12 hG rfl (by decide) (Nat.le_of_ble_eq_true rfl) fun C hC hQ hX hl hg _ hTab => ?_
  subst hl hg
  obtain ⟨V0, hV0⟩ : ∃ V0, V0 = V := ⟨_, rfl⟩
  obtain ⟨F, hF⟩ : ∃ F, F = xF [(sv, .inl (2, cap, .inl f))] := ⟨_, rfl⟩
  refine rn.mono (J := xSt F V0 [(sv, .inl (2, cap, .inl f))]) (fun V9 h => by rw [h, hV0, hF]; exact hV.st) ?_
  show rn C (xSt F V0 [(sv, .inl (2, cap, .inl f))]) 0 0 0 [(0, .ref sv), (1, .int (nI N))] []
  refine r_iload_n hC 1 dJ12_copyOf_3_0 rfl 1 rfl ?_
  refine r_aload_n hC 0 dJ12_copyOf_3_1 rfl 2 rfl ?_
  refine r_alen hC (nI cap) (t := 2) rfl (fun _ h => h.get 0 rfl) rfl dJ12_copyOf_3_2 3 rfl ?_
  refine r_icne hC 14 dJ12_copyOf_3_3 (by decide) 6 rfl (fun _ => ?_) (fun h => absurd h (fun q9 => by have := (eq_nI (by omega) (by omega)).mp q9; omega))
  refine r_iload_n hC 1 dJ12_copyOf_3_14 rfl 15 rfl ?_
  refine r_newa (J := fun q1 => xSt F V0 [(sv, .inl (2, cap, .inl f)), (q1, .inl (2, N, .inl zI))]) hC .byte 2 N (N, .inl (zI)) rfl q224 rfl rfl naz_byte rfl (by omega) (Nat.le_of_ble_eq_true rfl) (by first | omega | (dsimp only; omega)) dJ12_copyOf_3_15 (fun _ h => h.push _) 17 rfl (fun q1 => ?_)
  show rn C (xSt F V0 [(sv, .inl (2, cap, .inl f)), (q1, .inl (2, N, .inl zI))]) 1 (0 + N) 17 [(0, .ref sv), (1, .int (nI N))] [.ref q1]
  refine r_astore_n hC 2 [(2, .ref q1), (0, .ref sv), (1, .int (nI N))] dJ12_copyOf_3_17 rfl (Nat.le_of_ble_eq_true rfl) rfl 18 rfl ?_
  refine r_aload_n hC 1 dJ12_copyOf_3_18 rfl 19 rfl ?_
  refine r_iconst hC 0 dJ12_copyOf_3_19 ic_0 20 rfl ?_
  refine r_aload_n hC 0 dJ12_copyOf_3_20 rfl 21 rfl ?_
  refine r_iconst hC 0 dJ12_copyOf_3_21 ic_0 22 rfl ?_
  refine r_aload_n hC 1 dJ12_copyOf_3_22 rfl 23 rfl ?_
  refine r_alen hC (nI cap) (t := 2) rfl (fun _ h => h.get 0 rfl) rfl dJ12_copyOf_3_23 24 rfl ?_
  refine r_iload_n hC 2 dJ12_copyOf_3_24 rfl 25 rfl ?_
  refine xCall.r (r := some (.int (x_min (nI cap) (nI N)))) (r_cS hC [.int (nI cap), .int (nI N)] mSJ4_min q841 (fun V9 h9 => (metJ4_min _ _ hG (nI cap) (nI N)) V9 xIn.nil) ⟨rfl, rfl⟩ (Nat.le_of_ble_eq_true rfl) (by first | omega | (dsimp only; omega)) rfl (Nat.le_of_ble_eq_true rfl) dJ12_copyOf_3_25) 1 ((0 + N) + 0) 28 rfl rfl rfl ?_
  refine r_eqi (y := nI cap) (by rw [x_minN (by omega) (by omega), Nat.min_eq_left (by omega)]) ?_
  refine r_copyB (J := xSt F V0 [(sv, .inl (2, cap, .inl f)), (q1, .inl (2, N, .inl (va_cpy f zI 0 0 cap)))]) hC 0 0 cap q844 (fun _ h => h.get 0 rfl) (fun _ h => h.get 1 rfl) (by omega) (by omega) (by omega) (by omega) (fun i9 hi9 => by rw [Nat.zero_add]; exact hfb i9 hi9) (Nat.le_of_ble_eq_true rfl) (Nat.le_of_ble_eq_true rfl) (Nat.le_of_ble_eq_true rfl) dJ12_copyOf_3_28 (fun _ h => h.set 1 _ rfl) 31 rfl ?_
  refine r_aload_n hC 0 dJ12_copyOf_3_31 rfl 32 rfl ?_
  exact r_aret hC (v := (some q1)) (Or.inr ⟨_, rfl⟩) (Nat.le_of_ble_eq_true rfl) (by first | omega | (dsimp only; omega)) (fun V9 h => hQ _ _ ⟨[(sv, .inl (2, cap, .inl f)), (q1, .inl (2, N, .inl (va_cpy f zI 0 0 cap)))], ⟨q1, rfl, rfl⟩, by rw [← hV0, ← hF]; exact h⟩) dJ12_copyOf_3_32
set_option maxHeartbeats 4000000 in
set_option maxRecDepth 100000 in
theorem metJ5_newCapacity (l : Launch) (G : xG) (hG : xGood G) (sb sv cap n : Nat) (f : Nat → Int32) (ml : Int32) (mn : Nat) (hcap : cap < 30000) (hmn : mn ≤ 2 * cap + 2) (hlt : cap < mn) : xRm l G yJ5_newCapacity (Cond.code yJ5_newCapacity cJ5_newCapacity 6 (some .int)) { frames := 2, locals := 44, cells := 0, slots := 0 } [.ref sb, .int (nI mn)] [(sb, .inr (20, [.ref sv, .int 0, .int ml, .int (nI n)])), (sv, .inl (2, cap, .inl f))] (some (.int (nI (2 * cap + 2)))) := by
  intro V hV
  refine xMet_ofT RJ5 hG rfl (by decide) (Nat.le_of_ble_eq_true rfl) fun C hC hQ hX hl hg _ hTab => ?_
  subst hl hg
  refine rn.mono (J := xRo [(sb, .inr (20, [.ref sv, .int 0, .int ml, .int (nI n)])), (sv, .inl (2, cap, .inl f))] V) (fun V9 h => ⟨h, hV⟩) ?_
  show rn C (xRo [(sb, .inr (20, [.ref sv, .int 0, .int ml, .int (nI n)])), (sv, .inl (2, cap, .inl f))] V) 0 0 0 [(0, .ref sb), (1, .int (nI mn))] []
  refine r_aload_n hC 0 dJ5_newCapacity_0 rfl 1 rfl ?_
  refine r_get (v := .ref sv) hC kJ6 0 rfl q485 (fun _ h => h.get 0 rfl) rfl dJ5_newCapacity_1 4 rfl ?_
  refine r_alen hC (nI cap) (t := 2) rfl (fun _ h => h.get 1 rfl) rfl dJ5_newCapacity_4 5 rfl ?_
  refine r_istore_n hC 2 [(2, .int (nI cap)), (0, .ref sb), (1, .int (nI mn))] dJ5_newCapacity_5 rfl (Nat.le_of_ble_eq_true rfl) rfl 6 rfl ?_
  refine r_iload_n hC 2 dJ5_newCapacity_6 rfl 7 rfl ?_
  refine r_aload_n hC 1 dJ5_newCapacity_7 rfl 8 rfl ?_
  refine r_get (v := .int 0) hC kJ6 1 rfl q486 (fun _ h => h.get 0 rfl) rfl dJ5_newCapacity_8 11 rfl ?_
  refine r_ishl hC (nI mn) dJ5_newCapacity_11  (shl0 _) 12 rfl ?_
  refine r_istore_n hC 3 [(3, .int (nI mn)), (2, .int (nI cap)), (0, .ref sb), (1, .int (nI mn))] dJ5_newCapacity_12 rfl (Nat.le_of_ble_eq_true rfl) rfl 13 rfl ?_
  refine r_iload_n hC 0 dJ5_newCapacity_13 rfl 14 rfl ?_
  refine r_iload_n hC 1 dJ5_newCapacity_14 rfl 15 rfl ?_
  refine r_isub hC (nI (mn - cap)) dJ5_newCapacity_15  (sb_nI (by omega) (by omega)) 16 rfl ?_
  refine r_istore hC 4 [(4, .int (nI (mn - cap))), (3, .int (nI mn)), (2, .int (nI cap)), (0, .ref sb), (1, .int (nI mn))] dJ5_newCapacity_16 (Nat.le_of_ble_eq_true rfl) rfl 18 rfl ?_
  refine r_iload_n hC 2 dJ5_newCapacity_18 rfl 19 rfl ?_
  refine r_iload hC 0 dJ5_newCapacity_19 rfl 21 rfl ?_
  refine r_iload_n hC 2 dJ5_newCapacity_21 rfl 22 rfl ?_
  refine r_iconst hC 2 dJ5_newCapacity_22 ic_2 23 rfl ?_
  refine r_aload_n hC 3 dJ5_newCapacity_23 rfl 24 rfl ?_
  refine r_get (v := .int 0) hC kJ6 1 rfl q486 (fun _ h => h.get 0 rfl) rfl dJ5_newCapacity_24 27 rfl ?_
  refine r_ishl hC 2 dJ5_newCapacity_27  (by decide) 28 rfl ?_
  refine r_iadd hC (nI (cap + 2)) dJ5_newCapacity_28  (nI_add cap 2) 29 rfl ?_
  refine xCall.r (r := some (.int (nI (cap + max (mn - cap) (cap + 2))))) (r_cS hC [.int (nI cap), .int (nI (mn - cap)), .int (nI (cap + 2))] mSJ11_newLength q1005 (fun V9 h9 => (metJ11_newLength _ _ hG cap (mn - cap) (cap + 2) (by omega) (by omega) (by omega) (by omega)) V9 xIn.nil) ⟨rfl, rfl⟩ (Nat.le_of_ble_eq_true rfl) (Nat.le_of_ble_eq_true rfl) rfl (Nat.le_of_ble_eq_true rfl) dJ5_newCapacity_29) 0 0 32 rfl rfl rfl ?_
  refine r_eqi (y := nI (2 * cap + 2)) (by congr 1; rw [Nat.max_eq_right (by omega)]; omega) ?_
  refine r_istore hC 5 [(5, .int (nI (2 * cap + 2))), (4, .int (nI (mn - cap))), (3, .int (nI mn)), (2, .int (nI cap)), (0, .ref sb), (1, .int (nI mn))] dJ5_newCapacity_32 (Nat.le_of_ble_eq_true rfl) rfl 34 rfl ?_
  refine r_iload hC 0 dJ5_newCapacity_34 rfl 36 rfl ?_
  refine r_ldc hC q1013 dJ5_newCapacity_36 38 rfl ?_
  refine r_icne hC 51 dJ5_newCapacity_38 (by decide) 41 rfl (fun _ => ?_) (fun h => absurd h (fun q9 => by have h9 := congrArg Int32.toInt q9; rw [nI_toInt (by omega)] at h9; have h8 : (2147483647 : Int32).toInt = 2147483647 := rfl; rw [h8] at h9; omega))
  refine r_iload hC 0 dJ5_newCapacity_51 rfl 53 rfl ?_
  refine r_aload_n hC 4 dJ5_newCapacity_53 rfl 54 rfl ?_
  refine r_get (v := .int 0) hC kJ6 1 rfl q486 (fun _ h => h.get 0 rfl) rfl dJ5_newCapacity_54 57 rfl ?_
  refine r_ishr hC (nI (2 * cap + 2)) dJ5_newCapacity_57  (shr0 _) 58 rfl ?_
  exact r_iret hC (Nat.le_of_ble_eq_true rfl) (Nat.le_of_ble_eq_true rfl) (fun V9 h => hQ _ _ ⟨rfl, h.1⟩) dJ5_newCapacity_58
theorem sub_le0 {a b : Nat} (h : a ≤ b) (hb : b < 2 ^ 31) : nI a - nI b ≤ 0 := by
  rw [Int32.le_iff_toInt_le, Int32.toInt_sub, nI_toInt (by omega), nI_toInt (by omega), Int.bmod_eq_of_le (by omega) (by omega), Int32.toInt_zero]
  omega
set_option maxHeartbeats 4000000 in
set_option maxRecDepth 100000 in
theorem metJ5_ensureA (l : Launch) (G : xG) (hG : xGood G) (sb sv cap n : Nat) (f : Nat → Int32) (ml : Int32) (mn : Nat) (hcap : cap < 65536) (hle : mn ≤ cap) : xRm l G yJ5_ensureCapacityInternal (Cond.code yJ5_ensureCapacityInternal cJ5_ensureCapacityInternal 3 none) { frames := 0, locals := 0, cells := 0, slots := 0 } [.ref sb, .int (nI mn)] [(sb, .inr (20, [.ref sv, .int 0, .int ml, .int (nI n)])), (sv, .inl (2, cap, .inl f))] none := by
  intro V hV
  refine xMet_ofT RJ5 hG rfl (by decide) (Nat.le_of_ble_eq_true rfl) fun C hC hQ hX hl hg _ hTab => ?_
  subst hl hg
  refine rn.mono (J := xRo [(sb, .inr (20, [.ref sv, .int 0, .int ml, .int (nI n)])), (sv, .inl (2, cap, .inl f))] V) (fun V9 h => ⟨h, hV⟩) ?_
  show rn C (xRo [(sb, .inr (20, [.ref sv, .int 0, .int ml, .int (nI n)])), (sv, .inl (2, cap, .inl f))] V) 0 0 0 [(0, .ref sb), (1, .int (nI mn))] []
  refine r_aload_n hC 0 dJ5_ensureCapacityInternal_0 rfl 1 rfl ?_
  refine r_get (v := .ref sv) hC kJ6 0 rfl q485 (fun _ h => h.get 0 rfl) rfl dJ5_ensureCapacityInternal_1 4 rfl ?_
  refine r_alen hC (nI cap) (t := 2) rfl (fun _ h => h.get 1 rfl) rfl dJ5_ensureCapacityInternal_4 5 rfl ?_
  refine r_aload_n hC 0 dJ5_ensureCapacityInternal_5 rfl 6 rfl ?_
  refine r_get (v := .int 0) hC kJ6 1 rfl q486 (fun _ h => h.get 0 rfl) rfl dJ5_ensureCapacityInternal_6 9 rfl ?_
  refine r_ishr hC (nI cap) dJ5_ensureCapacityInternal_9  (shr0 _) 10 rfl ?_
  refine r_istore_n hC 2 [(2, .int (nI cap)), (0, .ref sb), (1, .int (nI mn))] dJ5_ensureCapacityInternal_10 rfl (Nat.le_of_ble_eq_true rfl) rfl 11 rfl ?_
  refine r_iload_n hC 2 dJ5_ensureCapacityInternal_11 rfl 12 rfl ?_
  refine r_iload_n hC 0 dJ5_ensureCapacityInternal_12 rfl 13 rfl ?_
  refine r_isub hC (nI mn - nI cap) dJ5_ensureCapacityInternal_13  (rfl) 14 rfl ?_
  refine r_ifle hC 38 dJ5_ensureCapacityInternal_14 (by decide) 17 rfl (fun _ => ?_) (fun h => absurd (sub_le0 hle (by omega)) h)
  exact r_vret hC (Nat.le_of_ble_eq_true rfl) (Nat.le_of_ble_eq_true rfl) (fun V9 h => hQ _ _ ⟨rfl, h.1⟩) dJ5_ensureCapacityInternal_38
set_option maxHeartbeats 4000000 in
set_option maxRecDepth 100000 in
theorem metJ5_ensureB (l : Launch) (G : xG) (hG : xGood G) (sb sv cap n : Nat) (f : Nat → Int32) (ml : Int32) (mn : Nat) (hcap : cap < 30000) (hmn : mn ≤ 2 * cap + 2) (hlt : cap < mn) (hfb : fB f cap) : xWm l G yJ5_ensureCapacityInternal (Cond.code yJ5_ensureCapacityInternal cJ5_ensureCapacityInternal 3 none) { frames := 3, locals := 82, cells := 1, slots := 2 * cap + 2 } [.ref sb, .int (nI mn)] [(sb, .inr (20, [.ref sv, .int 0, .int ml, .int (nI n)])), (sv, .inl (2, cap, .inl f))] (fun v w' => v = none ∧ ∃ q : Nat, w' = [(sb, .inr (20, [.ref q, .int 0, .int ml, .int (nI n)])), (q, .inl (2, 2 * cap + 2, .inl (va_cpy f zI 0 0 cap)))]) (fun _ _ => False) := by
  intro V hV
  refine xMet_ofT RJ5 hG rfl (by decide) (Nat.le_of_ble_eq_true rfl) fun C hC hQ hX hl hg _ hTab => ?_
  subst hl hg
  obtain ⟨V0, hV0⟩ : ∃ V0, V0 = V := ⟨_, rfl⟩
  obtain ⟨F, hF⟩ : ∃ F, F = xF [(sb, .inr (20, [.ref sv, .int 0, .int ml, .int (nI n)])), (sv, .inl (2, cap, .inl f))] := ⟨_, rfl⟩
  refine rn.mono (J := xSt F V0 [(sb, .inr (20, [.ref sv, .int 0, .int ml, .int (nI n)])), (sv, .inl (2, cap, .inl f))]) (fun V9 h => by rw [h, hV0, hF]; exact hV.st) ?_
  show rn C (xSt F V0 [(sb, .inr (20, [.ref sv, .int 0, .int ml, .int (nI n)])), (sv, .inl (2, cap, .inl f))]) 0 0 0 [(0, .ref sb), (1, .int (nI mn))] []
  refine r_aload_n hC 0 dJ5_ensureCapacityInternal_0 rfl 1 rfl ?_
  refine r_get (v := .ref sv) hC kJ6 0 rfl q485 (fun _ h => h.get 0 rfl) rfl dJ5_ensureCapacityInternal_1 4 rfl ?_
  refine r_alen hC (nI cap) (t := 2) rfl (fun _ h => h.get 1 rfl) rfl dJ5_ensureCapacityInternal_4 5 rfl ?_
  refine r_aload_n hC 0 dJ5_ensureCapacityInternal_5 rfl 6 rfl ?_
  refine r_get (v := .int 0) hC kJ6 1 rfl q486 (fun _ h => h.get 0 rfl) rfl dJ5_ensureCapacityInternal_6 9 rfl ?_
  refine r_ishr hC (nI cap) dJ5_ensureCapacityInternal_9  (shr0 _) 10 rfl ?_
  refine r_istore_n hC 2 [(2, .int (nI cap)), (0, .ref sb), (1, .int (nI mn))] dJ5_ensureCapacityInternal_10 rfl (Nat.le_of_ble_eq_true rfl) rfl 11 rfl ?_
  refine r_iload_n hC 2 dJ5_ensureCapacityInternal_11 rfl 12 rfl ?_
  refine r_iload_n hC 0 dJ5_ensureCapacityInternal_12 rfl 13 rfl ?_
  refine r_isub hC (nI (mn - cap)) dJ5_ensureCapacityInternal_13  (sb_nI (by omega) (by omega)) 14 rfl ?_
  refine r_ifle hC 38 dJ5_ensureCapacityInternal_14 (by decide) 17 rfl (fun h => absurd h (fun q9 => by have := (le_nI (b := 0) (by omega) (by omega)).mp q9; omega)) (fun _ => ?_)
  refine r_aload_n hC 1 dJ5_ensureCapacityInternal_17 rfl 18 rfl ?_
  refine r_aload_n hC 1 dJ5_ensureCapacityInternal_18 rfl 19 rfl ?_
  refine r_get (v := .ref sv) hC kJ6 0 rfl q485 (fun _ h => h.get 0 rfl) rfl dJ5_ensureCapacityInternal_19 22 rfl ?_
  refine r_aload_n hC 1 dJ5_ensureCapacityInternal_22 rfl 23 rfl ?_
  refine r_iload_n hC 2 dJ5_ensureCapacityInternal_23 rfl 24 rfl ?_
  refine xCall.r (r := some (.int (nI (2 * cap + 2)))) (r_cVP hC hG kJ6 sb [.int (nI mn)] mPJ5_newCapacity q1001 (fun _ h => ⟨_, h.get 0 rfl⟩) (fun V9 h9 => (metJ5_newCapacity _ _ hG sb sv cap n f ml mn hcap hmn hlt) V9 (h9.in.sub [0, 1] rfl rfl)) ⟨rfl, rfl⟩ (Nat.le_of_ble_eq_true rfl) (Nat.le_of_ble_eq_true rfl) rfl (Nat.le_of_ble_eq_true rfl) dJ5_ensureCapacityInternal_24) 0 0 27 rfl rfl rfl ?_
  refine r_aload_n hC 1 dJ5_ensureCapacityInternal_27 rfl 28 rfl ?_
  refine r_get (v := .int 0) hC kJ6 1 rfl q486 (fun _ h => h.get 0 rfl) rfl dJ5_ensureCapacityInternal_28 31 rfl ?_
  refine r_ishl hC (nI (2 * cap + 2)) dJ5_ensureCapacityInternal_31  (shl0 _) 32 rfl ?_
  refine xCall.w (wr := [(sb, .inr (20, [.ref sv, .int 0, .int ml, .int (nI n)]))]) (r_cS hC [.ref sv, .int (nI (2 * cap + 2))] mSJ12_copyOf_3 q1014 (fun V9 h9 => (metJ12_copyOfB _ _ hG sv cap (2 * cap + 2) f (by omega) (by omega) (by omega) hfb) V9 (h9.in.sub [1] rfl rfl)) ⟨rfl, rfl⟩ (Nat.le_of_ble_eq_true rfl) (by first | omega | (dsimp only; omega)) rfl (Nat.le_of_ble_eq_true rfl) dJ5_ensureCapacityInternal_32) [1] [0] rfl rfl rfl (by decide) 1 (0 + 2 * cap + 2) 35 rfl rfl rfl (fun v2 w3 h4 => ?_) (fun _ _ h => h.elim)
  obtain ⟨q1, rfl, rfl⟩ := h4
  show rn C (xSt F V0 [(sb, .inr (20, [.ref sv, .int 0, .int ml, .int (nI n)])), (sv, .inl (2, cap, .inl f)), (q1, .inl (2, 2 * cap + 2, .inl (va_cpy f zI 0 0 cap)))]) 1 (0 + 2 * cap + 2) 35 [(2, .int (nI cap)), (0, .ref sb), (1, .int (nI mn))] [.ref q1, .ref sb]
  refine r_put (J := xSt F V0 [(sb, .inr (20, [.ref q1, .int 0, .int ml, .int (nI n)])), (sv, .inl (2, cap, .inl f)), (q1, .inl (2, 2 * cap + 2, .inl (va_cpy f zI 0 0 cap)))]) hC kJ6 0 rfl q485 rfl (fun _ h => h.get 0 rfl) (Nat.le_of_ble_eq_true rfl) (rfl) (rfl) dJ5_ensureCapacityInternal_35 (fun _ h => h.set 0 _ rfl) 38 rfl ?_
  exact r_vret hC (Nat.le_of_ble_eq_true rfl) (by first | omega | (dsimp only; omega)) (fun V9 h => hQ _ _ ⟨[(sb, .inr (20, [.ref q1, .int 0, .int ml, .int (nI n)])), (q1, .inl (2, 2 * cap + 2, .inl (va_cpy f zI 0 0 cap)))], ⟨rfl, q1, rfl⟩, by rw [← hV0, ← hF]; exact h.sub [0, 2] rfl rfl⟩) dJ5_ensureCapacityInternal_38
set_option maxHeartbeats 4000000 in
set_option maxRecDepth 100000 in
theorem metJ5_appendA (l : Launch) (G : xG) (hG : xGood G) (sb sv cap n : Nat) (f : Nat → Int32) (ml : Int32) (c : Int32) (hc : c ≤ 255) (hcap : cap < 65536) (hn : n < cap) : xWm l G yJ5_append (Cond.code yJ5_append cJ5_append 2 (some (.object "java/lang/AbstractStringBuilder"))) { frames := 1, locals := 22, cells := 0, slots := 0 } [.ref sb, .int c] [(sb, .inr (20, [.ref sv, .int 0, .int ml, .int (nI n)])), (sv, .inl (2, cap, .inl f))] (fun v w' => v = some (.ref sb) ∧ w' = [(sb, .inr (20, [.ref sv, .int 0, .int ml, .int (nI (n + 1))])), (sv, .inl (2, cap, .inl (va_up f n c.toInt8.toInt32)))]) (fun _ _ => False) := by
  intro V hV
  refine xMet_ofT RJ5 hG rfl (by decide) (Nat.le_of_ble_eq_true rfl) fun C hC hQ hX hl hg _ hTab => ?_
  subst hl hg
  obtain ⟨V0, hV0⟩ : ∃ V0, V0 = V := ⟨_, rfl⟩
  obtain ⟨F, hF⟩ : ∃ F, F = xF [(sb, .inr (20, [.ref sv, .int 0, .int ml, .int (nI n)])), (sv, .inl (2, cap, .inl f))] := ⟨_, rfl⟩
  refine rn.mono (J := xSt F V0 [(sb, .inr (20, [.ref sv, .int 0, .int ml, .int (nI n)])), (sv, .inl (2, cap, .inl f))]) (fun V9 h => by rw [h, hV0, hF]; exact hV.st) ?_
  show rn C (xSt F V0 [(sb, .inr (20, [.ref sv, .int 0, .int ml, .int (nI n)])), (sv, .inl (2, cap, .inl f))]) 0 0 0 [(0, .ref sb), (1, .int c)] []
  refine r_aload_n hC 0 dJ5_append_0 rfl 1 rfl ?_
  refine r_aload_n hC 0 dJ5_append_1 rfl 2 rfl ?_
  refine r_get (v := .int (nI n)) hC kJ6 3 rfl q489 (fun _ h => h.get 0 rfl) rfl dJ5_append_2 5 rfl ?_
  refine r_iconst hC 1 dJ5_append_5 ic_1 6 rfl ?_
  refine r_iadd hC (nI (n + 1)) dJ5_append_6  (nI_add n 1) 7 rfl ?_
  refine xCall.r (r := none) (r_cVP hC hG kJ6 sb [.int (nI (n + 1))] mPJ5_ensureCapacityInternal q997 (fun _ h => ⟨_, h.get 0 rfl⟩) (fun V9 h9 => (metJ5_ensureA _ _ hG sb sv cap n f ml (n + 1) (by omega) (by omega)) V9 (h9.in.sub [0, 1] rfl rfl)) ⟨rfl, rfl⟩ (Nat.le_of_ble_eq_true rfl) (Nat.le_of_ble_eq_true rfl) rfl (Nat.le_of_ble_eq_true rfl) dJ5_append_7) 0 0 10 rfl rfl rfl ?_
  refine r_aload_n hC 0 dJ5_append_10 rfl 11 rfl ?_
  refine xCall.r (r := some (.int 1)) (r_cV hC kJ6 sb [] mVJ5_isLatin1_J6 q1024 (fun _ h => ⟨_, h.get 0 rfl⟩) (fun V9 h9 => (metJ5_isLatin1 _ _ hG sb sv cap n f ml) V9 (h9.in.sub [0] rfl rfl)) ⟨rfl, rfl⟩ (Nat.le_of_ble_eq_true rfl) (Nat.le_of_ble_eq_true rfl) rfl (Nat.le_of_ble_eq_true rfl) dJ5_append_11) 0 0 14 rfl rfl rfl ?_
  refine r_ifeq hC 45 dJ5_append_14 (by decide) 17 rfl (fun h => absurd h (by decide)) (fun _ => ?_)
  refine r_iload_n hC 1 dJ5_append_17 rfl 18 rfl ?_
  refine xCall.r (r := some (.int 1)) (r_cS hC [.int c] mSJ13_canEncode q1029 (fun V9 h9 => (metJ13_canEncode _ _ hG c hc) V9 xIn.nil) ⟨rfl, rfl⟩ (Nat.le_of_ble_eq_true rfl) (Nat.le_of_ble_eq_true rfl) rfl (Nat.le_of_ble_eq_true rfl) dJ5_append_18) 0 0 21 rfl rfl rfl ?_
  refine r_ifeq hC 45 dJ5_append_21 (by decide) 24 rfl (fun h => absurd h (by decide)) (fun _ => ?_)
  refine r_aload_n hC 0 dJ5_append_24 rfl 25 rfl ?_
  refine r_get (v := .ref sv) hC kJ6 0 rfl q485 (fun _ h => h.get 0 rfl) rfl dJ5_append_25 28 rfl ?_
  refine r_aload_n hC 0 dJ5_append_28 rfl 29 rfl ?_
  refine r_dup hC dJ5_append_29 rfl 30 rfl ?_
  refine r_get (v := .int (nI n)) hC kJ6 3 rfl q489 (fun _ h => h.get 0 rfl) rfl dJ5_append_30 33 rfl ?_
  refine r_dup_x1 hC dJ5_append_33 rfl rfl 34 rfl ?_
  refine r_iconst hC 1 dJ5_append_34 ic_1 35 rfl ?_
  refine r_iadd hC (nI (n + 1)) dJ5_append_35  (nI_add n 1) 36 rfl ?_
  refine r_put (J := xSt F V0 [(sb, .inr (20, [.ref sv, .int 0, .int ml, .int (nI (n + 1))])), (sv, .inl (2, cap, .inl f))]) hC kJ6 3 rfl q489 rfl (fun _ h => h.get 0 rfl) (Nat.le_of_ble_eq_true rfl) (rfl) (rfl) dJ5_append_36 (fun _ h => h.set 0 _ rfl) 39 rfl ?_
  refine r_iload_n hC 1 dJ5_append_39 rfl 40 rfl ?_
  refine r_i2b hC c.toInt8.toInt32 dJ5_append_40 (rfl) 41 rfl ?_
  refine r_bast (J := xSt F V0 [(sb, .inr (20, [.ref sv, .int 0, .int ml, .int (nI (n + 1))])), (sv, .inl (2, cap, .inl (va_up f n c.toInt8.toInt32.toInt8.toInt32)))]) hC n (xix_n n (by omega) (by omega)) (fun _ h => h.get 1 rfl) dJ5_append_41 (fun _ h => h.set 1 _ rfl) 42 rfl ?_
  generalize hu1 : va_up f n c.toInt8.toInt32.toInt8.toInt32 = u1
  refine r_goto hC 75 dJ5_append_42 (by decide) ?_
  refine r_aload_n hC 0 dJ5_append_75 rfl 76 rfl ?_
  subst hu1
  refine rn.mono (J := xSt F V0 [(sb, .inr (20, [.ref sv, .int 0, .int ml, .int (nI (n + 1))])), (sv, .inl (2, cap, .inl (va_up f n c.toInt8.toInt32)))]) (fun _ h => by rw [i8_8] at h; exact h) ?_
  exact r_aret hC (v := (some sb)) (Or.inl ⟨_, rfl⟩) (Nat.le_of_ble_eq_true rfl) (Nat.le_of_ble_eq_true rfl) (fun V9 h => hQ _ _ ⟨[(sb, .inr (20, [.ref sv, .int 0, .int ml, .int (nI (n + 1))])), (sv, .inl (2, cap, .inl (va_up f n c.toInt8.toInt32)))], ⟨rfl, rfl⟩, by rw [← hV0, ← hF]; exact h⟩) dJ5_append_76
set_option maxHeartbeats 4000000 in
set_option maxRecDepth 100000 in
theorem metJ5_appendB (l : Launch) (G : xG) (hG : xGood G) (sb sv cap n : Nat) (f : Nat → Int32) (ml : Int32) (c : Int32) (hc : c ≤ 255) (hcap : cap < 30000) (hn : n = cap) (hfb : fB f cap) : xWm l G yJ5_append (Cond.code yJ5_append cJ5_append 2 (some (.object "java/lang/AbstractStringBuilder"))) { frames := 4, locals := 104, cells := 1, slots := 2 * cap + 2 } [.ref sb, .int c] [(sb, .inr (20, [.ref sv, .int 0, .int ml, .int (nI n)])), (sv, .inl (2, cap, .inl f))] (fun v w' => ∃ q : Nat, v = some (.ref sb) ∧ w' = [(sb, .inr (20, [.ref q, .int 0, .int ml, .int (nI (n + 1))])), (q, .inl (2, 2 * cap + 2, .inl (va_up (va_cpy f zI 0 0 cap) n c.toInt8.toInt32)))]) (fun _ _ => False) := by
  intro V hV
  refine xMet_ofT RJ5 hG rfl (by decide) (Nat.le_of_ble_eq_true rfl) fun C hC hQ hX hl hg _ hTab => ?_
  subst hl hg
  obtain ⟨V0, hV0⟩ : ∃ V0, V0 = V := ⟨_, rfl⟩
  obtain ⟨F, hF⟩ : ∃ F, F = xF [(sb, .inr (20, [.ref sv, .int 0, .int ml, .int (nI n)])), (sv, .inl (2, cap, .inl f))] := ⟨_, rfl⟩
  refine rn.mono (J := xSt F V0 [(sb, .inr (20, [.ref sv, .int 0, .int ml, .int (nI n)])), (sv, .inl (2, cap, .inl f))]) (fun V9 h => by rw [h, hV0, hF]; exact hV.st) ?_
  show rn C (xSt F V0 [(sb, .inr (20, [.ref sv, .int 0, .int ml, .int (nI n)])), (sv, .inl (2, cap, .inl f))]) 0 0 0 [(0, .ref sb), (1, .int c)] []
  refine r_aload_n hC 0 dJ5_append_0 rfl 1 rfl ?_
  refine r_aload_n hC 0 dJ5_append_1 rfl 2 rfl ?_
  refine r_get (v := .int (nI n)) hC kJ6 3 rfl q489 (fun _ h => h.get 0 rfl) rfl dJ5_append_2 5 rfl ?_
  refine r_iconst hC 1 dJ5_append_5 ic_1 6 rfl ?_
  refine r_iadd hC (nI (n + 1)) dJ5_append_6  (nI_add n 1) 7 rfl ?_
  refine xCall.w (wr := []) (r_cVP hC hG kJ6 sb [.int (nI (n + 1))] mPJ5_ensureCapacityInternal q997 (fun _ h => ⟨_, h.get 0 rfl⟩) (fun V9 h9 => (metJ5_ensureB _ _ hG sb sv cap n f ml (n + 1) (by omega) (by omega) (by omega) hfb) V9 (h9.in.sub [0, 1] rfl rfl)) ⟨rfl, rfl⟩ (Nat.le_of_ble_eq_true rfl) (by first | omega | (dsimp only; omega)) rfl (Nat.le_of_ble_eq_true rfl) dJ5_append_7) [0, 1] [] rfl rfl rfl (by decide) 1 (0 + (2 * cap + 2)) 10 rfl rfl rfl (fun v2 w3 h4 => ?_) (fun _ _ h => h.elim)
  obtain ⟨rfl, q1, rfl⟩ := h4
  show rn C (xSt F V0 [(sb, .inr (20, [.ref q1, .int 0, .int ml, .int (nI n)])), (q1, .inl (2, 2 * cap + 2, .inl (va_cpy f zI 0 0 cap)))]) 1 (0 + (2 * cap + 2)) 10 [(0, .ref sb), (1, .int c)] []
  refine r_aload_n hC 0 dJ5_append_10 rfl 11 rfl ?_
  refine xCall.r (r := some (.int 1)) (r_cV hC kJ6 sb [] mVJ5_isLatin1_J6 q1024 (fun _ h => ⟨_, h.get 0 rfl⟩) (fun V9 h9 => (metJ5_isLatin1 _ _ hG sb q1 (2 * cap + 2) n (va_cpy f zI 0 0 cap) ml) V9 (h9.in.sub [0] rfl rfl)) ⟨rfl, rfl⟩ (Nat.le_of_ble_eq_true rfl) (by first | omega | (dsimp only; omega)) rfl (Nat.le_of_ble_eq_true rfl) dJ5_append_11) 1 ((0 + (2 * cap + 2)) + 0) 14 rfl rfl rfl ?_
  refine r_ifeq hC 45 dJ5_append_14 (by decide) 17 rfl (fun h => absurd h (by decide)) (fun _ => ?_)
  refine r_iload_n hC 1 dJ5_append_17 rfl 18 rfl ?_
  refine xCall.r (r := some (.int 1)) (r_cS hC [.int c] mSJ13_canEncode q1029 (fun V9 h9 => (metJ13_canEncode _ _ hG c hc) V9 xIn.nil) ⟨rfl, rfl⟩ (Nat.le_of_ble_eq_true rfl) (by first | omega | (dsimp only; omega)) rfl (Nat.le_of_ble_eq_true rfl) dJ5_append_18) 1 (((0 + (2 * cap + 2)) + 0) + 0) 21 rfl rfl rfl ?_
  refine r_ifeq hC 45 dJ5_append_21 (by decide) 24 rfl (fun h => absurd h (by decide)) (fun _ => ?_)
  refine r_aload_n hC 0 dJ5_append_24 rfl 25 rfl ?_
  refine r_get (v := .ref q1) hC kJ6 0 rfl q485 (fun _ h => h.get 0 rfl) rfl dJ5_append_25 28 rfl ?_
  refine r_aload_n hC 0 dJ5_append_28 rfl 29 rfl ?_
  refine r_dup hC dJ5_append_29 rfl 30 rfl ?_
  refine r_get (v := .int (nI n)) hC kJ6 3 rfl q489 (fun _ h => h.get 0 rfl) rfl dJ5_append_30 33 rfl ?_
  refine r_dup_x1 hC dJ5_append_33 rfl rfl 34 rfl ?_
  refine r_iconst hC 1 dJ5_append_34 ic_1 35 rfl ?_
  refine r_iadd hC (nI (n + 1)) dJ5_append_35  (nI_add n 1) 36 rfl ?_
  refine r_put (J := xSt F V0 [(sb, .inr (20, [.ref q1, .int 0, .int ml, .int (nI (n + 1))])), (q1, .inl (2, 2 * cap + 2, .inl (va_cpy f zI 0 0 cap)))]) hC kJ6 3 rfl q489 rfl (fun _ h => h.get 0 rfl) (Nat.le_of_ble_eq_true rfl) (rfl) (rfl) dJ5_append_36 (fun _ h => h.set 0 _ rfl) 39 rfl ?_
  refine r_iload_n hC 1 dJ5_append_39 rfl 40 rfl ?_
  refine r_i2b hC c.toInt8.toInt32 dJ5_append_40 (rfl) 41 rfl ?_
  refine r_bast (J := xSt F V0 [(sb, .inr (20, [.ref q1, .int 0, .int ml, .int (nI (n + 1))])), (q1, .inl (2, 2 * cap + 2, .inl (va_up (va_cpy f zI 0 0 cap) n c.toInt8.toInt32.toInt8.toInt32)))]) hC n (xix_n n (by omega) (by omega)) (fun _ h => h.get 1 rfl) dJ5_append_41 (fun _ h => h.set 1 _ rfl) 42 rfl ?_
  generalize hu8 : va_up (va_cpy f zI 0 0 cap) n c.toInt8.toInt32.toInt8.toInt32 = u8
  refine r_goto hC 75 dJ5_append_42 (by decide) ?_
  refine r_aload_n hC 0 dJ5_append_75 rfl 76 rfl ?_
  subst hu8
  refine rn.mono (J := xSt F V0 [(sb, .inr (20, [.ref q1, .int 0, .int ml, .int (nI (n + 1))])), (q1, .inl (2, 2 * cap + 2, .inl (va_up (va_cpy f zI 0 0 cap) n c.toInt8.toInt32)))]) (fun _ h => by rw [i8_8] at h; exact h) ?_
  exact r_aret hC (v := (some sb)) (Or.inl ⟨_, rfl⟩) (Nat.le_of_ble_eq_true rfl) (by first | omega | (dsimp only; omega)) (fun V9 h => hQ _ _ ⟨[(sb, .inr (20, [.ref q1, .int 0, .int ml, .int (nI (n + 1))])), (q1, .inl (2, 2 * cap + 2, .inl (va_up (va_cpy f zI 0 0 cap) n c.toInt8.toInt32)))], ⟨q1, rfl, rfl⟩, by rw [← hV0, ← hF]; exact h⟩) dJ5_append_76
