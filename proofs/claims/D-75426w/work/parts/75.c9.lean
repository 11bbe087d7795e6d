/-! ===== the JDK: ArrayDeque ===== -/
set_option maxRecDepth 100000
def incQ (i m : Nat) : Nat := if i + 1 < m then i + 1 else 0
def decQ (i m : Nat) : Nat := if i = 0 then m - 1 else i - 1
def subQ (i j m : Nat) : Nat := if j ≤ i then i - j else i + m - j
/-- the place behind n elements from h on -/
def dqT (m h n : Nat) : Nat := if h + n < m then h + n else h + n - m
theorem lt_nI {a b : Nat} (ha : a < 2 ^ 31) (hb : b < 2 ^ 31) : nI a < nI b ↔ a < b := by
  rw [Int32.lt_iff_toInt_lt, nI_toInt ha, nI_toInt hb]; omega
theorem le_nI {a b : Nat} (ha : a < 2 ^ 31) (hb : b < 2 ^ 31) : nI a ≤ nI b ↔ a ≤ b := by
  rw [Int32.le_iff_toInt_le, nI_toInt ha, nI_toInt hb]; omega
theorem eq_nI {a b : Nat} (ha : a < 2 ^ 31) (hb : b < 2 ^ 31) : nI a = nI b ↔ a = b := by
  rw [← Int32.toInt_inj, nI_toInt ha, nI_toInt hb]; omega
theorem sb_nI {i j : Nat} (h : j ≤ i) (hi : i < 2 ^ 31) : nI i - nI j = nI (i - j) := by
  apply Int32.toInt_inj.mp
  rw [Int32.toInt_sub, nI_toInt (by omega), nI_toInt (by omega), nI_toInt (by omega), Int.bmod_eq_of_le (by omega) (by omega)]
  omega
theorem sub_nI {i j m : Nat} (h : i < j) (hj : j ≤ i + m) (hi : i + m < 2 ^ 31) : nI i - nI j + nI m = nI (i + m - j) := by
  apply Int32.toInt_inj.mp
  rw [Int32.toInt_add, Int32.toInt_sub, nI_toInt (by omega), nI_toInt (by omega), nI_toInt (by omega), nI_toInt (by omega), Int.bmod_eq_of_le (n := (i : Int) - j) (by omega) (by omega), Int.bmod_eq_of_le (by omega) (by omega)]
  omega
theorem sub_nIneg {i j : Nat} (h : i < j) (hj : j < 2 ^ 31) : ¬ 0 ≤ nI i - nI j := by
  rw [Int32.le_iff_toInt_le, Int32.toInt_sub, nI_toInt (by omega), nI_toInt (by omega), Int.bmod_eq_of_le (by omega) (by omega), Int32.toInt_zero]
  omega
section DQ
variable {m h n : Nat}
theorem dqT_lt (hh : h < m) (hn : n ≤ m) : dqT m h n < m := by unfold dqT; split <;> omega
theorem dqT_inc (hh : h < m) (hn : n + 1 ≤ m) : incQ (dqT m h n) m = dqT m h (n + 1) := by unfold incQ dqT; split <;> split <;> (try split) <;> omega
theorem dqT_hd (hh : h < m) (hn : 0 < n) (hm : n ≤ m) : dqT m (incQ h m) (n - 1) = dqT m h n := by unfold incQ dqT; split <;> split <;> (try split) <;> omega
theorem dqT_dec (hh : h < m) (hn : 0 < n) (hm : n ≤ m) : decQ (dqT m h n) m = dqT m h (n - 1) := by unfold decQ dqT; split <;> split <;> (try split) <;> (try split) <;> omega
theorem dqT_sub (hh : h < m) (hn : n < m) : subQ (dqT m h n) h m = n := by unfold subQ dqT; split <;> split <;> omega
theorem dqT_ne (hh : h < m) (hn : n < m) (h0 : 0 < n) : ¬ h = dqT m h n := by unfold dqT; split <;> omega
theorem dqT_0 (hh : h < m) : dqT m h 0 = h := by unfold dqT; rw [if_pos (by omega)]; rfl
theorem incQ_lt (hh : h < m) : incQ h m < m := by unfold incQ; split <;> omega
end DQ
set_option maxHeartbeats 4000000 in
set_option maxRecDepth 100000 in
theorem metJ1_inc (l : Launch) (G : xG) (hG : xGood G) (i m : Nat) (hi : i < m) (hm : m < 65536) : xRm l G yJ1_inc (Cond.code yJ1_inc cJ1_inc 2 (some .int)) { frames := 0, locals := 0, cells := 0, slots := 0 } [.int (nI i), .int (nI m)] [] (some (.int (nI (incQ i m)))) := by
  intro V hV
  refine xMet_ofT RJ1 hG rfl (by decide) (Nat.le_of_ble_eq_true rfl) fun C hC hQ hX hl hg _ hTab => ?_
  subst hl hg
  refine rn.mono (J := xRo [] V) (fun V9 h => ⟨h, hV⟩) ?_
  show rn C (xRo [] V) 0 0 0 [(0, .int (nI i)), (1, .int (nI m))] []
  refine r_iinc hC (nI (i + 1)) 0 0 [(0, .int (nI (i + 1))), (1, .int (nI m))] dJ1_inc_0 rfl (nI_add i 1) (Nat.le_of_ble_eq_true rfl) rfl 3 rfl ?_
  refine r_iload_n hC 0 dJ1_inc_3 rfl 4 rfl ?_
  refine r_iload_n hC 1 dJ1_inc_4 rfl 5 rfl ?_
  refine r_iclt hC 10 dJ1_inc_5 (by decide) 8 rfl (fun c1 => ?_) (fun c1 => ?_)
  · skip
    refine r_iload_n hC 0 dJ1_inc_10 rfl 11 rfl ?_
    exact r_iret hC (Nat.le_of_ble_eq_true rfl) (Nat.le_of_ble_eq_true rfl) (fun V9 h => hQ _ _ ⟨by rw [incQ, if_pos ((lt_nI (by omega) (by omega)).mp c1)], h.1⟩) dJ1_inc_11
  · skip
    refine r_iconst hC 0 dJ1_inc_8 ic_0 9 rfl ?_
    refine r_istore_n hC 0 [(0, .int 0), (1, .int (nI m))] dJ1_inc_9 rfl (Nat.le_of_ble_eq_true rfl) rfl 10 rfl ?_
    refine r_iload_n hC 0 dJ1_inc_10 rfl 11 rfl ?_
    exact r_iret hC (Nat.le_of_ble_eq_true rfl) (Nat.le_of_ble_eq_true rfl) (fun V9 h => hQ _ _ ⟨by rw [incQ, if_neg (fun h9 => c1 ((lt_nI (by omega) (by omega)).mpr h9))]; rfl, h.1⟩) dJ1_inc_11
set_option maxHeartbeats 4000000 in
set_option maxRecDepth 100000 in
theorem metJ1_dec0 (l : Launch) (G : xG) (hG : xGood G) (m : Nat) (h0 : 0 < m) (hm : m < 65536) : xRm l G yJ1_dec (Cond.code yJ1_dec cJ1_dec 2 (some .int)) { frames := 0, locals := 0, cells := 0, slots := 0 } [.int 0, .int (nI m)] [] (some (.int (nI (m - 1)))) := by
  intro V hV
  refine xMet_ofT RJ1 hG rfl (by decide) (Nat.le_of_ble_eq_true rfl) fun C hC hQ hX hl hg _ hTab => ?_
  subst hl hg
  refine rn.mono (J := xRo [] V) (fun V9 h => ⟨h, hV⟩) ?_
  show rn C (xRo [] V) 0 0 0 [(0, .int 0), (1, .int (nI m))] []
  refine r_iinc hC (-1) 0 0 [(0, .int (-1)), (1, .int (nI m))] dJ1_dec_0 rfl (by decide) (Nat.le_of_ble_eq_true rfl) rfl 3 rfl ?_
  refine r_iload_n hC 0 dJ1_dec_3 rfl 4 rfl ?_
  refine r_ifge hC 11 dJ1_dec_4 (by decide) 7 rfl (fun h => absurd h (by decide)) (fun _ => ?_)
  refine r_iload_n hC 1 dJ1_dec_7 rfl 8 rfl ?_
  refine r_iconst hC 1 dJ1_dec_8 ic_1 9 rfl ?_
  refine r_isub hC (nI (m - 1)) dJ1_dec_9  (by show nI m - nI 1 = _; exact sb_nI (by omega) (by omega)) 10 rfl ?_
  refine r_istore_n hC 0 [(0, .int (nI (m - 1))), (1, .int (nI m))] dJ1_dec_10 rfl (Nat.le_of_ble_eq_true rfl) rfl 11 rfl ?_
  refine r_iload_n hC 0 dJ1_dec_11 rfl 12 rfl ?_
  exact r_iret hC (Nat.le_of_ble_eq_true rfl) (Nat.le_of_ble_eq_true rfl) (fun V9 h => hQ _ _ ⟨rfl, h.1⟩) dJ1_dec_12
set_option maxHeartbeats 4000000 in
set_option maxRecDepth 100000 in
theorem metJ1_decS (l : Launch) (G : xG) (hG : xGood G) (i m : Nat) (hi : i + 1 < m) (hm : m < 65536) : xRm l G yJ1_dec (Cond.code yJ1_dec cJ1_dec 2 (some .int)) { frames := 0, locals := 0, cells := 0, slots := 0 } [.int (nI (i + 1)), .int (nI m)] [] (some (.int (nI i))) := by
  intro V hV
  refine xMet_ofT RJ1 hG rfl (by decide) (Nat.le_of_ble_eq_true rfl) fun C hC hQ hX hl hg _ hTab => ?_
  subst hl hg
  refine rn.mono (J := xRo [] V) (fun V9 h => ⟨h, hV⟩) ?_
  show rn C (xRo [] V) 0 0 0 [(0, .int (nI (i + 1))), (1, .int (nI m))] []
  refine r_iinc hC (nI i) 0 0 [(0, .int (nI i)), (1, .int (nI m))] dJ1_dec_0 rfl (pk_m1 _) (Nat.le_of_ble_eq_true rfl) rfl 3 rfl ?_
  refine r_iload_n hC 0 dJ1_dec_3 rfl 4 rfl ?_
  refine r_ifge hC 11 dJ1_dec_4 (by decide) 7 rfl (fun _ => ?_) (fun h => absurd (nI_pos' (by omega)) h)
  refine r_iload_n hC 0 dJ1_dec_11 rfl 12 rfl ?_
  exact r_iret hC (Nat.le_of_ble_eq_true rfl) (Nat.le_of_ble_eq_true rfl) (fun V9 h => hQ _ _ ⟨rfl, h.1⟩) dJ1_dec_12
theorem metJ1_dec (l : Launch) (G : xG) (hG : xGood G) (i m : Nat) (hi : i < m) (hm : m < 65536) : xRm l G yJ1_dec (Cond.code yJ1_dec cJ1_dec 2 (some .int)) { frames := 0, locals := 0, cells := 0, slots := 0 } [.int (nI i), .int (nI m)] [] (some (.int (nI (decQ i m)))) := by
  cases i with
  | zero => exact metJ1_dec0 l G hG m hi hm
  | succ i => exact metJ1_decS l G hG i m hi hm
set_option maxHeartbeats 4000000 in
set_option maxRecDepth 100000 in
theorem metJ1_subA (l : Launch) (G : xG) (hG : xGood G) (i j m : Nat) (hi : i < m) (hj : j < m) (hm : m < 65536) (h : j ≤ i) : xRm l G yJ1_sub (Cond.code yJ1_sub cJ1_sub 3 (some .int)) { frames := 0, locals := 0, cells := 0, slots := 0 } [.int (nI i), .int (nI j), .int (nI m)] [] (some (.int (nI (i - j)))) := by
  intro V hV
  refine xMet_ofT RJ1 hG rfl (by decide) (Nat.le_of_ble_eq_true rfl) fun C hC hQ hX hl hg _ hTab => ?_
  subst hl hg
  refine rn.mono (J := xRo [] V) (fun V9 h => ⟨h, hV⟩) ?_
  show rn C (xRo [] V) 0 0 0 [(0, .int (nI i)), (1, .int (nI j)), (2, .int (nI m))] []
  refine r_iload_n hC 0 dJ1_sub_0 rfl 1 rfl ?_
  refine r_iload_n hC 1 dJ1_sub_1 rfl 2 rfl ?_
  refine r_isub hC (nI (i - j)) dJ1_sub_2  (sb_nI h (by omega)) 3 rfl ?_
  refine r_dup hC dJ1_sub_3 rfl 4 rfl ?_
  refine r_istore_n hC 0 [(0, .int (nI (i - j))), (1, .int (nI j)), (2, .int (nI m))] dJ1_sub_4 rfl (Nat.le_of_ble_eq_true rfl) rfl 5 rfl ?_
  refine r_ifge hC 12 dJ1_sub_5 (by decide) 8 rfl (fun _ => ?_) (fun h => absurd (nI_pos' (by omega)) h)
  refine r_iload_n hC 0 dJ1_sub_12 rfl 13 rfl ?_
  exact r_iret hC (Nat.le_of_ble_eq_true rfl) (Nat.le_of_ble_eq_true rfl) (fun V9 h => hQ _ _ ⟨rfl, h.1⟩) dJ1_sub_13
set_option maxHeartbeats 4000000 in
set_option maxRecDepth 100000 in
theorem metJ1_subB (l : Launch) (G : xG) (hG : xGood G) (i j m : Nat) (hi : i < m) (hj : j < m) (hm : m < 65536) (h9 : i < j) : xRm l G yJ1_sub (Cond.code yJ1_sub cJ1_sub 3 (some .int)) { frames := 0, locals := 0, cells := 0, slots := 0 } [.int (nI i), .int (nI j), .int (nI m)] [] (some (.int (nI (i + m - j)))) := by
  intro V hV
  refine xMet_ofT RJ1 hG rfl (by decide) (Nat.le_of_ble_eq_true rfl) fun C hC hQ hX hl hg _ hTab => ?_
  subst hl hg
  refine rn.mono (J := xRo [] V) (fun V9 h => ⟨h, hV⟩) ?_
  show rn C (xRo [] V) 0 0 0 [(0, .int (nI i)), (1, .int (nI j)), (2, .int (nI m))] []
  refine r_iload_n hC 0 dJ1_sub_0 rfl 1 rfl ?_
  refine r_iload_n hC 1 dJ1_sub_1 rfl 2 rfl ?_
  refine r_isub hC (nI i - nI j) dJ1_sub_2  (rfl) 3 rfl ?_
  refine r_dup hC dJ1_sub_3 rfl 4 rfl ?_
  refine r_istore_n hC 0 [(0, .int (nI i - nI j)), (1, .int (nI j)), (2, .int (nI m))] dJ1_sub_4 rfl (Nat.le_of_ble_eq_true rfl) rfl 5 rfl ?_
  refine r_ifge hC 12 dJ1_sub_5 (by decide) 8 rfl (fun h => absurd h (sub_nIneg h9 (by omega))) (fun _ => ?_)
  refine r_iload_n hC 0 dJ1_sub_8 rfl 9 rfl ?_
  refine r_iload_n hC 2 dJ1_sub_9 rfl 10 rfl ?_
  refine r_iadd hC (nI (i + m - j)) dJ1_sub_10  (sub_nI h9 (by omega) (by omega)) 11 rfl ?_
  refine r_istore_n hC 0 [(0, .int (nI (i + m - j))), (1, .int (nI j)), (2, .int (nI m))] dJ1_sub_11 rfl (Nat.le_of_ble_eq_true rfl) rfl 12 rfl ?_
  refine r_iload_n hC 0 dJ1_sub_12 rfl 13 rfl ?_
  exact r_iret hC (Nat.le_of_ble_eq_true rfl) (Nat.le_of_ble_eq_true rfl) (fun V9 h => hQ _ _ ⟨rfl, h.1⟩) dJ1_sub_13
theorem metJ1_sub (l : Launch) (G : xG) (hG : xGood G) (i j m : Nat) (hi : i < m) (hj : j < m) (hm : m < 65536) : xRm l G yJ1_sub (Cond.code yJ1_sub cJ1_sub 3 (some .int)) { frames := 0, locals := 0, cells := 0, slots := 0 } [.int (nI i), .int (nI j), .int (nI m)] [] (some (.int (nI (subQ i j m)))) := by
  by_cases h : j ≤ i
  · have := metJ1_subA l G hG i j m hi hj hm h
    rw [subQ, if_pos h]; exact this
  · have := metJ1_subB l G hG i j m hi hj hm (by omega)
    rw [subQ, if_neg h]; exact this
set_option maxHeartbeats 4000000 in
set_option maxRecDepth 100000 in
theorem metJ1_size (l : Launch) (G : xG) (hG : xGood G) (a e m z n : Nat) (f : Nat → Option Nat) (hm : m < 65536) (hh : z < m) (hn : n < m) : xRm l G yJ1_size (Cond.code yJ1_size cJ1_size 1 (some .int)) { frames := 1, locals := 22, cells := 0, slots := 0 } [.ref a] [(a, .inr (19, [.ref e, .int (nI z), .int (nI (dqT m z n))])), (e, .inl (3, m, .inr (.inr (.inr (.inr f)))))] (some (.int (nI n))) := by
  intro V hV
  refine xMet_ofT RJ1 hG rfl (by decide) (Nat.le_of_ble_eq_true rfl) fun C hC hQ hX hl hg _ hTab => ?_
  subst hl hg
  refine rn.mono (J := xRo [(a, .inr (19, [.ref e, .int (nI z), .int (nI (dqT m z n))])), (e, .inl (3, m, .inr (.inr (.inr (.inr f)))))] V) (fun V9 h => ⟨h, hV⟩) ?_
  show rn C (xRo [(a, .inr (19, [.ref e, .int (nI z), .int (nI (dqT m z n))])), (e, .inl (3, m, .inr (.inr (.inr (.inr f)))))] V) 0 0 0 [(0, .ref a)] []
  refine r_aload_n hC 0 dJ1_size_0 rfl 1 rfl ?_
  refine r_get (v := .int (nI (dqT m z n))) hC kJ1 2 rfl q242 (fun _ h => h.get 0 rfl) rfl dJ1_size_1 4 rfl ?_
  refine r_aload_n hC 0 dJ1_size_4 rfl 5 rfl ?_
  refine r_get (v := .int (nI z)) hC kJ1 1 rfl q241 (fun _ h => h.get 0 rfl) rfl dJ1_size_5 8 rfl ?_
  refine r_aload_n hC 0 dJ1_size_8 rfl 9 rfl ?_
  refine r_get (v := .ref e) hC kJ1 0 rfl q238 (fun _ h => h.get 0 rfl) rfl dJ1_size_9 12 rfl ?_
  refine r_alen hC (nI m) (t := 3) rfl (fun _ h => h.get 1 rfl) rfl dJ1_size_12 13 rfl ?_
  refine xCall.r (r := some (.int (nI (subQ (dqT m z n) z m)))) (r_cS hC [.int (nI (dqT m z n)), .int (nI z), .int (nI m)] mSJ1_sub q612 (fun V9 h9 => (metJ1_sub _ _ hG (dqT m z n) z m (dqT_lt hh (by omega)) hh hm) V9 xIn.nil) ⟨rfl, rfl⟩ (Nat.le_of_ble_eq_true rfl) (Nat.le_of_ble_eq_true rfl) rfl (Nat.le_of_ble_eq_true rfl) dJ1_size_13) 0 0 16 rfl rfl rfl ?_
  exact r_iret hC (Nat.le_of_ble_eq_true rfl) (Nat.le_of_ble_eq_true rfl) (fun V9 h => hQ _ _ ⟨by rw [dqT_sub hh hn], h.1⟩) dJ1_size_16
set_option maxHeartbeats 4000000 in
set_option maxRecDepth 100000 in
theorem metJ1_isEmptyY (l : Launch) (G : xG) (hG : xGood G) (a e m z n : Nat) (f : Nat → Option Nat) (hm : m < 65536) (hh : z < m) (hn : n < m) (h0 : n = 0) : xRm l G yJ1_isEmpty (Cond.code yJ1_isEmpty cJ1_isEmpty 1 (some .boolean)) { frames := 0, locals := 0, cells := 0, slots := 0 } [.ref a] [(a, .inr (19, [.ref e, .int (nI z), .int (nI (dqT m z n))])), (e, .inl (3, m, .inr (.inr (.inr (.inr f)))))] (some (.int 1)) := by
  intro V hV
  refine xMet_ofT RJ1 hG rfl (by decide) (Nat.le_of_ble_eq_true rfl) fun C hC hQ hX hl hg _ hTab => ?_
  subst hl hg
  refine rn.mono (J := xRo [(a, .inr (19, [.ref e, .int (nI z), .int (nI (dqT m z n))])), (e, .inl (3, m, .inr (.inr (.inr (.inr f)))))] V) (fun V9 h => ⟨h, hV⟩) ?_
  show rn C (xRo [(a, .inr (19, [.ref e, .int (nI z), .int (nI (dqT m z n))])), (e, .inl (3, m, .inr (.inr (.inr (.inr f)))))] V) 0 0 0 [(0, .ref a)] []
  refine r_aload_n hC 0 dJ1_isEmpty_0 rfl 1 rfl ?_
  refine r_get (v := .int (nI z)) hC kJ1 1 rfl q241 (fun _ h => h.get 0 rfl) rfl dJ1_isEmpty_1 4 rfl ?_
  refine r_aload_n hC 0 dJ1_isEmpty_4 rfl 5 rfl ?_
  refine r_get (v := .int (nI (dqT m z n))) hC kJ1 2 rfl q242 (fun _ h => h.get 0 rfl) rfl dJ1_isEmpty_5 8 rfl ?_
  refine r_icne hC 15 dJ1_isEmpty_8 (by decide) 11 rfl (fun h => absurd (by rw [h0, dqT_0 hh]) h) (fun _ => ?_)
  refine r_iconst hC 1 dJ1_isEmpty_11 ic_1 12 rfl ?_
  refine r_goto hC 16 dJ1_isEmpty_12 (by decide) ?_
  exact r_zret hC (by decide) (Nat.le_of_ble_eq_true rfl) (Nat.le_of_ble_eq_true rfl) (fun V9 h => hQ _ _ ⟨rfl, h.1⟩) dJ1_isEmpty_16
set_option maxHeartbeats 4000000 in
set_option maxRecDepth 100000 in
theorem metJ1_isEmptyN (l : Launch) (G : xG) (hG : xGood G) (a e m z n : Nat) (f : Nat → Option Nat) (hm : m < 65536) (hh : z < m) (hn : n < m) (h0 : 0 < n) : xRm l G yJ1_isEmpty (Cond.code yJ1_isEmpty cJ1_isEmpty 1 (some .boolean)) { frames := 0, locals := 0, cells := 0, slots := 0 } [.ref a] [(a, .inr (19, [.ref e, .int (nI z), .int (nI (dqT m z n))])), (e, .inl (3, m, .inr (.inr (.inr (.inr f)))))] (some (.int 0)) := by
  intro V hV
  refine xMet_ofT RJ1 hG rfl (by decide) (Nat.le_of_ble_eq_true rfl) fun C hC hQ hX hl hg _ hTab => ?_
  subst hl hg
  refine rn.mono (J := xRo [(a, .inr (19, [.ref e, .int (nI z), .int (nI (dqT m z n))])), (e, .inl (3, m, .inr (.inr (.inr (.inr f)))))] V) (fun V9 h => ⟨h, hV⟩) ?_
  show rn C (xRo [(a, .inr (19, [.ref e, .int (nI z), .int (nI (dqT m z n))])), (e, .inl (3, m, .inr (.inr (.inr (.inr f)))))] V) 0 0 0 [(0, .ref a)] []
  refine r_aload_n hC 0 dJ1_isEmpty_0 rfl 1 rfl ?_
  refine r_get (v := .int (nI z)) hC kJ1 1 rfl q241 (fun _ h => h.get 0 rfl) rfl dJ1_isEmpty_1 4 rfl ?_
  refine r_aload_n hC 0 dJ1_isEmpty_4 rfl 5 rfl ?_
  refine r_get (v := .int (nI (dqT m z n))) hC kJ1 2 rfl q242 (fun _ h => h.get 0 rfl) rfl dJ1_isEmpty_5 8 rfl ?_
  refine r_icne hC 15 dJ1_isEmpty_8 (by decide) 11 rfl (fun _ => ?_) (fun h => absurd h (fun q => dqT_ne hh hn h0 ((eq_nI (by omega) (by have := dqT_lt hh (Nat.le_of_lt hn); omega)).mp q)))
  refine r_iconst hC 0 dJ1_isEmpty_15 ic_0 16 rfl ?_
  exact r_zret hC (by decide) (Nat.le_of_ble_eq_true rfl) (Nat.le_of_ble_eq_true rfl) (fun V9 h => hQ _ _ ⟨rfl, h.1⟩) dJ1_isEmpty_16
set_option maxHeartbeats 4000000 in
set_option maxRecDepth 100000 in
theorem metJ1_elementAt (l : Launch) (G : xG) (hG : xGood G) (e m i : Nat) (f : Nat → Option Nat) (hm : m < 65536) (hi : i < m) : xRm l G yJ1_elementAt (Cond.code yJ1_elementAt cJ1_elementAt 2 (some (.object "java/lang/Object"))) { frames := 0, locals := 0, cells := 0, slots := 0 } [.ref e, .int (nI i)] [(e, .inl (3, m, .inr (.inr (.inr (.inr f)))))] (some (va_rf (f i))) := by
  intro V hV
  refine xMet_ofT RJ1 hG rfl (by decide) (Nat.le_of_ble_eq_true rfl) fun C hC hQ hX hl hg _ hTab => ?_
  subst hl hg
  refine rn.mono (J := xRo [(e, .inl (3, m, .inr (.inr (.inr (.inr f)))))] V) (fun V9 h => ⟨h, hV⟩) ?_
  show rn C (xRo [(e, .inl (3, m, .inr (.inr (.inr (.inr f)))))] V) 0 0 0 [(0, .ref e), (1, .int (nI i))] []
  refine r_aload_n hC 0 dJ1_elementAt_0 rfl 1 rfl ?_
  refine r_iload_n hC 1 dJ1_elementAt_1 rfl 2 rfl ?_
  refine r_aald hC i (xix_n i (by omega) (by omega)) (t := 3) rfl rfl (fun _ h => h.get 0 rfl) (f i) (rfl) dJ1_elementAt_2 3 rfl ?_
  show rn C (xRo [(e, .inl (3, m, .inr (.inr (.inr (.inr f)))))] V) 0 0 3 [(0, .ref e), (1, .int (nI i))] [va_rf (f i)]
  exact r_aret hC (v := f i) (Or.inl ⟨_, rfl⟩) (Nat.le_of_ble_eq_true rfl) (Nat.le_of_ble_eq_true rfl) (fun V9 h => hQ _ _ ⟨rfl, h.1⟩) dJ1_elementAt_3
set_option maxHeartbeats 4000000 in
set_option maxRecDepth 100000 in
theorem metJ1_pollFirst (l : Launch) (G : xG) (hG : xGood G) (a e m z n : Nat) (f : Nat → Option Nat) (hm : m < 65536) (hh : z < m) (hn : n < m) (h0 : 0 < n) (x : Nat) (hx : f z = some x) : xWm l G yJ1_pollFirst (Cond.code yJ1_pollFirst cJ1_pollFirst 4 (some (.object "java/lang/Object"))) { frames := 1, locals := 21, cells := 0, slots := 0 } [.ref a] [(a, .inr (19, [.ref e, .int (nI z), .int (nI (dqT m z n))])), (e, .inl (3, m, .inr (.inr (.inr (.inr f)))))] (fun v w' => v = some (.ref x) ∧ w' = [(a, .inr (19, [.ref e, .int (nI (incQ z m)), .int (nI (dqT m (incQ z m) (n - 1)))])), (e, .inl (3, m, .inr (.inr (.inr (.inr (va_up f z none))))))]) (fun _ _ => False) := by
  intro V hV
  refine xMet_ofT RJ1 hG rfl (by decide) (Nat.le_of_ble_eq_true rfl) fun C hC hQ hX hl hg _ hTab => ?_
  subst hl hg
  obtain ⟨V0, hV0⟩ : ∃ V0, V0 = V := ⟨_, rfl⟩
  obtain ⟨F, hF⟩ : ∃ F, F = xF [(a, .inr (19, [.ref e, .int (nI z), .int (nI (dqT m z n))])), (e, .inl (3, m, .inr (.inr (.inr (.inr f)))))] := ⟨_, rfl⟩
  refine rn.mono (J := xSt F V0 [(a, .inr (19, [.ref e, .int (nI z), .int (nI (dqT m z n))])), (e, .inl (3, m, .inr (.inr (.inr (.inr f)))))]) (fun V9 h => by rw [h, hV0, hF]; exact hV.st) ?_
  show rn C (xSt F V0 [(a, .inr (19, [.ref e, .int (nI z), .int (nI (dqT m z n))])), (e, .inl (3, m, .inr (.inr (.inr (.inr f)))))]) 0 0 0 [(0, .ref a)] []
  refine r_aload_n hC 0 dJ1_pollFirst_0 rfl 1 rfl ?_
  refine r_get (v := .ref e) hC kJ1 0 rfl q238 (fun _ h => h.get 0 rfl) rfl dJ1_pollFirst_1 4 rfl ?_
  refine r_dup hC dJ1_pollFirst_4 rfl 5 rfl ?_
  refine r_astore_n hC 1 [(1, .ref e), (0, .ref a)] dJ1_pollFirst_5 rfl (Nat.le_of_ble_eq_true rfl) rfl 6 rfl ?_
  refine r_aload_n hC 1 dJ1_pollFirst_6 rfl 7 rfl ?_
  refine r_get (v := .int (nI z)) hC kJ1 1 rfl q241 (fun _ h => h.get 0 rfl) rfl dJ1_pollFirst_7 10 rfl ?_
  refine r_dup hC dJ1_pollFirst_10 rfl 11 rfl ?_
  refine r_istore_n hC 2 [(2, .int (nI z)), (1, .ref e), (0, .ref a)] dJ1_pollFirst_11 rfl (Nat.le_of_ble_eq_true rfl) rfl 12 rfl ?_
  refine xCall.r (r := some (va_rf (f z))) (r_cS hC [.ref e, .int (nI z)] mSJ1_elementAt q631 (fun V9 h9 => (metJ1_elementAt _ _ hG e m z _ hm hh) V9 (h9.in.sub [1] rfl rfl)) ⟨rfl, rfl⟩ (Nat.le_of_ble_eq_true rfl) (Nat.le_of_ble_eq_true rfl) rfl (Nat.le_of_ble_eq_true rfl) dJ1_pollFirst_12) 0 0 15 rfl rfl rfl ?_
  rw [show va_rf (f z) = .ref x from congrArg va_rf hx]
  show rn C (xSt F V0 [(a, .inr (19, [.ref e, .int (nI z), .int (nI (dqT m z n))])), (e, .inl (3, m, .inr (.inr (.inr (.inr f)))))]) 0 0 15 [(2, .int (nI z)), (1, .ref e), (0, .ref a)] [.ref x]
  refine r_astore_n hC 3 [(3, .ref x), (2, .int (nI z)), (1, .ref e), (0, .ref a)] dJ1_pollFirst_15 rfl (Nat.le_of_ble_eq_true rfl) rfl 16 rfl ?_
  refine r_aload_n hC 0 dJ1_pollFirst_16 rfl 17 rfl ?_
  refine r_ifnull hC dJ1_pollFirst_17 20 rfl ?_
  refine r_aload_n hC 2 dJ1_pollFirst_20 rfl 21 rfl ?_
  refine r_iload_n hC 1 dJ1_pollFirst_21 rfl 22 rfl ?_
  refine r_null hC dJ1_pollFirst_22 23 rfl ?_
  refine r_aastN (J := xSt F V0 [(a, .inr (19, [.ref e, .int (nI z), .int (nI (dqT m z n))])), (e, .inl (3, m, .inr (.inr (.inr (.inr (va_up f z none))))))]) hC z (xix_n z (by omega) (by omega)) rfl (fun _ h => h.get 1 rfl) dJ1_pollFirst_23 (fun _ h => h.set 1 _ rfl) 24 rfl ?_
  refine r_aload_n hC 3 dJ1_pollFirst_24 rfl 25 rfl ?_
  refine r_iload_n hC 1 dJ1_pollFirst_25 rfl 26 rfl ?_
  refine r_aload_n hC 2 dJ1_pollFirst_26 rfl 27 rfl ?_
  refine r_alen hC (nI m) (t := 3) rfl (fun _ h => h.get 1 rfl) rfl dJ1_pollFirst_27 28 rfl ?_
  refine xCall.r (r := some (.int (nI (incQ z m)))) (r_cS hC [.int (nI z), .int (nI m)] mSJ1_inc q634 (fun V9 h9 => (metJ1_inc _ _ hG z m hh hm) V9 xIn.nil) ⟨rfl, rfl⟩ (Nat.le_of_ble_eq_true rfl) (Nat.le_of_ble_eq_true rfl) rfl (Nat.le_of_ble_eq_true rfl) dJ1_pollFirst_28) 0 0 31 rfl rfl rfl ?_
  refine r_put (J := xSt F V0 [(a, .inr (19, [.ref e, .int (nI (incQ z m)), .int (nI (dqT m z n))])), (e, .inl (3, m, .inr (.inr (.inr (.inr (va_up f z none))))))]) hC kJ1 1 rfl q241 rfl (fun _ h => h.get 0 rfl) (Nat.le_of_ble_eq_true rfl) (rfl) (rfl) dJ1_pollFirst_31 (fun _ h => h.set 0 _ rfl) 34 rfl ?_
  refine r_aload_n hC 0 dJ1_pollFirst_34 rfl 35 rfl ?_
  have he1 : (.int (nI (dqT m z n)) : Value) = .int (nI (dqT m (incQ z m) (n - 1))) := by rw [dqT_hd hh h0 (by omega)]
  refine rn.mono (J := xSt F V0 [(a, .inr (19, [.ref e, .int (nI (incQ z m)), .int (nI (dqT m (incQ z m) (n - 1)))])), (e, .inl (3, m, .inr (.inr (.inr (.inr (va_up f z none))))))]) (fun _ h => by rw [he1] at h; exact h) ?_
  exact r_aret hC (v := (some x)) (Or.inl ⟨_, rfl⟩) (Nat.le_of_ble_eq_true rfl) (Nat.le_of_ble_eq_true rfl) (fun V9 h => hQ _ _ ⟨[(a, .inr (19, [.ref e, .int (nI (incQ z m)), .int (nI (dqT m (incQ z m) (n - 1)))])), (e, .inl (3, m, .inr (.inr (.inr (.inr (va_up f z none))))))], ⟨rfl, rfl⟩, by rw [← hV0, ← hF]; exact h⟩) dJ1_pollFirst_35
set_option maxHeartbeats 4000000 in
set_option maxRecDepth 100000 in
theorem metJ1_pollLast (l : Launch) (G : xG) (hG : xGood G) (a e m z n : Nat) (f : Nat → Option Nat) (hm : m < 65536) (hh : z < m) (hn : n < m) (h0 : 0 < n) (x : Nat) (hx : f (dqT m z (n - 1)) = some x) : xWm l G yJ1_pollLast (Cond.code yJ1_pollLast cJ1_pollLast 4 (some (.object "java/lang/Object"))) { frames := 1, locals := 21, cells := 0, slots := 0 } [.ref a] [(a, .inr (19, [.ref e, .int (nI z), .int (nI (dqT m z n))])), (e, .inl (3, m, .inr (.inr (.inr (.inr f)))))] (fun v w' => v = some (.ref x) ∧ w' = [(a, .inr (19, [.ref e, .int (nI z), .int (nI (dqT m z (n - 1)))])), (e, .inl (3, m, .inr (.inr (.inr (.inr (va_up f (dqT m z (n - 1)) none))))))]) (fun _ _ => False) := by
  intro V hV
  refine xMet_ofT RJ1 hG rfl (by decide) (Nat.le_of_ble_eq_true rfl) fun C hC hQ hX hl hg _ hTab => ?_
  subst hl hg
  obtain ⟨V0, hV0⟩ : ∃ V0, V0 = V := ⟨_, rfl⟩
  obtain ⟨F, hF⟩ : ∃ F, F = xF [(a, .inr (19, [.ref e, .int (nI z), .int (nI (dqT m z n))])), (e, .inl (3, m, .inr (.inr (.inr (.inr f)))))] := ⟨_, rfl⟩
  refine rn.mono (J := xSt F V0 [(a, .inr (19, [.ref e, .int (nI z), .int (nI (dqT m z n))])), (e, .inl (3, m, .inr (.inr (.inr (.inr f)))))]) (fun V9 h => by rw [h, hV0, hF]; exact hV.st) ?_
  show rn C (xSt F V0 [(a, .inr (19, [.ref e, .int (nI z), .int (nI (dqT m z n))])), (e, .inl (3, m, .inr (.inr (.inr (.inr f)))))]) 0 0 0 [(0, .ref a)] []
  refine r_aload_n hC 0 dJ1_pollLast_0 rfl 1 rfl ?_
  refine r_get (v := .ref e) hC kJ1 0 rfl q238 (fun _ h => h.get 0 rfl) rfl dJ1_pollLast_1 4 rfl ?_
  refine r_dup hC dJ1_pollLast_4 rfl 5 rfl ?_
  refine r_astore_n hC 1 [(1, .ref e), (0, .ref a)] dJ1_pollLast_5 rfl (Nat.le_of_ble_eq_true rfl) rfl 6 rfl ?_
  refine r_aload_n hC 1 dJ1_pollLast_6 rfl 7 rfl ?_
  refine r_get (v := .int (nI (dqT m z n))) hC kJ1 2 rfl q242 (fun _ h => h.get 0 rfl) rfl dJ1_pollLast_7 10 rfl ?_
  refine r_aload_n hC 0 dJ1_pollLast_10 rfl 11 rfl ?_
  refine r_alen hC (nI m) (t := 3) rfl (fun _ h => h.get 1 rfl) rfl dJ1_pollLast_11 12 rfl ?_
  refine xCall.r (r := some (.int (nI (decQ (dqT m z n) m)))) (r_cS hC [.int (nI (dqT m z n)), .int (nI m)] mSJ1_dec q921 (fun V9 h9 => (metJ1_dec _ _ hG (dqT m z n) m (dqT_lt hh (by omega)) hm) V9 xIn.nil) ⟨rfl, rfl⟩ (Nat.le_of_ble_eq_true rfl) (Nat.le_of_ble_eq_true rfl) rfl (Nat.le_of_ble_eq_true rfl) dJ1_pollLast_12) 0 0 15 rfl rfl rfl ?_
  refine r_eqi (y := nI (dqT m z (n - 1))) (by rw [dqT_dec hh h0 (by omega)]) ?_
  refine r_dup hC dJ1_pollLast_15 rfl 16 rfl ?_
  refine r_istore_n hC 2 [(2, .int (nI (dqT m z (n - 1)))), (1, .ref e), (0, .ref a)] dJ1_pollLast_16 rfl (Nat.le_of_ble_eq_true rfl) rfl 17 rfl ?_
  refine xCall.r (r := some (va_rf (f (dqT m z (n - 1))))) (r_cS hC [.ref e, .int (nI (dqT m z (n - 1)))] mSJ1_elementAt q631 (fun V9 h9 => (metJ1_elementAt _ _ hG e m (dqT m z (n - 1)) _ hm (dqT_lt hh (by omega))) V9 (h9.in.sub [1] rfl rfl)) ⟨rfl, rfl⟩ (Nat.le_of_ble_eq_true rfl) (Nat.le_of_ble_eq_true rfl) rfl (Nat.le_of_ble_eq_true rfl) dJ1_pollLast_17) 0 0 20 rfl rfl rfl ?_
  rw [show va_rf (f (dqT m z (n - 1))) = .ref x from congrArg va_rf hx]
  show rn C (xSt F V0 [(a, .inr (19, [.ref e, .int (nI z), .int (nI (dqT m z n))])), (e, .inl (3, m, .inr (.inr (.inr (.inr f)))))]) 0 0 20 [(2, .int (nI (dqT m z (n - 1)))), (1, .ref e), (0, .ref a)] [.ref x]
  refine r_astore_n hC 3 [(3, .ref x), (2, .int (nI (dqT m z (n - 1)))), (1, .ref e), (0, .ref a)] dJ1_pollLast_20 rfl (Nat.le_of_ble_eq_true rfl) rfl 21 rfl ?_
  refine r_aload_n hC 0 dJ1_pollLast_21 rfl 22 rfl ?_
  refine r_ifnull hC dJ1_pollLast_22 25 rfl ?_
  refine r_aload_n hC 2 dJ1_pollLast_25 rfl 26 rfl ?_
  refine r_aload_n hC 3 dJ1_pollLast_26 rfl 27 rfl ?_
  refine r_iload_n hC 1 dJ1_pollLast_27 rfl 28 rfl ?_
  refine r_dup_x1 hC dJ1_pollLast_28 rfl rfl 29 rfl ?_
  refine r_put (J := xSt F V0 [(a, .inr (19, [.ref e, .int (nI z), .int (nI (dqT m z (n - 1)))])), (e, .inl (3, m, .inr (.inr (.inr (.inr f)))))]) hC kJ1 2 rfl q242 rfl (fun _ h => h.get 0 rfl) (Nat.le_of_ble_eq_true rfl) (rfl) (rfl) dJ1_pollLast_29 (fun _ h => h.set 0 _ rfl) 32 rfl ?_
  refine r_null hC dJ1_pollLast_32 33 rfl ?_
  refine r_aastN (J := xSt F V0 [(a, .inr (19, [.ref e, .int (nI z), .int (nI (dqT m z (n - 1)))])), (e, .inl (3, m, .inr (.inr (.inr (.inr (va_up f (dqT m z (n - 1)) none))))))]) hC (dqT m z (n - 1)) (xix_n (dqT m z (n - 1)) (dqT_lt hh (by omega)) (by omega)) rfl (fun _ h => h.get 1 rfl) dJ1_pollLast_33 (fun _ h => h.set 1 _ rfl) 34 rfl ?_
  refine r_aload_n hC 0 dJ1_pollLast_34 rfl 35 rfl ?_
  exact r_aret hC (v := (some x)) (Or.inl ⟨_, rfl⟩) (Nat.le_of_ble_eq_true rfl) (Nat.le_of_ble_eq_true rfl) (fun V9 h => hQ _ _ ⟨[(a, .inr (19, [.ref e, .int (nI z), .int (nI (dqT m z (n - 1)))])), (e, .inl (3, m, .inr (.inr (.inr (.inr (va_up f (dqT m z (n - 1)) none))))))], ⟨rfl, rfl⟩, by rw [← hV0, ← hF]; exact h⟩) dJ1_pollLast_35
