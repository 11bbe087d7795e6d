/-! ===== the class: Scanner: numbers ===== -/
set_option maxRecDepth 100000
def cval (T : Nat → Int32) (g : Nat) : Nat → Int32
  | 0 => 0
  | n + 1 => (x_minL 2000000000 (10 * (cval T g n).toInt64 + (T (g + n)).toInt64 - 48)).toInt32
theorem bt_fig {T : Nat → Int32} {en i : Nat} : btQ T en i 48 57 = (decide (i < en) && figQ (T i)) := by
  unfold btQ figQ; rw [Bool.and_assoc]
theorem run_in {P : Int32 → Bool} {bf : Nat → Int32} : ∀ f p q, p ≤ q → q < scn P bf f p → P (bf q) = true := by
  intro f
  induction f with
  | zero => intro p q h1 h2; rw [scn] at h2; omega
  | succ f ih =>
    intro p q h1 h2
    rw [scn] at h2
    split at h2
    · rename_i hp
      by_cases h : p = q
      · subst h; exact hp
      · exact ih (p + 1) q (by omega) h2
    · omega
theorem run_out {P : Int32 → Bool} {bf : Nat → Int32} : ∀ f p, scn P bf f p < p + f → P (bf (scn P bf f p)) = false := by
  intro f
  induction f with
  | zero => intro p h; rw [scn] at h; omega
  | succ f ih =>
    intro p h
    rw [scn] at h ⊢
    split
    · rename_i hp
      rw [if_pos hp] at h
      exact ih (p + 1) (by omega)
    · rename_i hp
      simpa using hp
theorem fig_in {T : Nat → Int32} {en g p : Nat} (hg : g ≤ p) (hp : p < runE figQ T en g) (hge : g ≤ en) : btQ T en p 48 57 = true := by
  rw [bt_fig, decide_eq_true (Nat.lt_of_lt_of_le hp (runE_le hge)), run_in _ _ _ hg hp]; rfl
theorem fig_out {T : Nat → Int32} {en g : Nat} (hge : g ≤ en) : btQ T en (runE figQ T en g) 48 57 = false := by
  rw [bt_fig]
  by_cases h : runE figQ T en g < en
  · rw [show figQ (T (runE figQ T en g)) = false from run_out _ _ (by unfold runE at h; omega)]; simp
  · rw [decide_eq_false h]; rfl
set_option maxHeartbeats 4000000 in
set_option maxRecDepth 100000 in
theorem lpX8_digits {C : xC} {F : Nat → Prop} {V0 : xV} (hG : xGood (xGG C)) (hC : xCtx C RX8 cX8_digits 2 (some .int) { frames := 1, locals := 23, cells := 0, slots := 0 }) (sc tx sy en bg nx : Nat) (kd vl : Int32) (wd : Option Nat) (T : Nat → Int32) (hen : en ≤ 600) (g : Nat) (hge : g ≤ en) (kx : rn C (xSt F V0 [(sc, .inr (7, [.ref tx, .int (nI en), .ref sy, .int kd, .int (nI bg), .int (nI (runE figQ T en g)), .int vl, va_rf wd])), (tx, .inl (2, 600, .inl T))]) 0 0 59 [(1, .int (cval T g ((runE figQ T en g) - g))), (0, .ref sc)] []) : ∀ (d p : Nat), p + d = runE figQ T en g → g ≤ p → rn C (xSt F V0 [(sc, .inr (7, [.ref tx, .int (nI en), .ref sy, .int kd, .int (nI bg), .int (nI p), .int vl, va_rf wd])), (tx, .inl (2, 600, .inl T))]) 0 0 2 [(1, .int (cval T g (p - g))), (0, .ref sc)] [] := by
  have hE := runE_le (P := figQ) (bf := T) hge
  intro d
  induction d with
  | zero =>
    intro p hd hgp
    obtain rfl : p = runE figQ T en g := by omega
    have hb := fig_out (T := T) hge
    generalize runE figQ T en g = p at *
    refine r_aload_n hC 1 dX8_digits_2 rfl 3 rfl ?_
    refine r_aload_n hC 1 dX8_digits_3 rfl 4 rfl ?_
    refine r_get (v := .int (nI p)) hC kX8 5 rfl q1272 (fun _ h => h.get 0 rfl) rfl dX8_digits_4 7 rfl ?_
    refine r_bipush hC 48 dX8_digits_7 bp_48 9 rfl ?_
    refine r_bipush hC 57 dX8_digits_9 bp_57 11 rfl ?_
    refine xCall.r (r := some (.int 0)) (r_cV hC kX8 sc [.int (nI p), .int 48, .int 57] mVX8_isBetween q980 (fun _ h => ⟨_, h.get 0 rfl⟩) (fun V9 h9 => (xRm_v (metX8_isBetween _ _ hG sc tx sy en bg p kd vl wd T hen p 48 57 (by omega)) (show _ = some (Value.int 0) by rw [hb]; rfl)) V9 (h9.in.sub [0, 1] rfl rfl)) ⟨rfl, rfl⟩ (Nat.le_of_ble_eq_true rfl) (Nat.le_of_ble_eq_true rfl) rfl (Nat.le_of_ble_eq_true rfl) dX8_digits_11) 0 0 14 rfl rfl rfl ?_
    refine r_ifeq hC 59 dX8_digits_14 (by decide) 17 rfl (fun _ => ?_) (fun h => absurd h (by decide))
    refine rn.sub (lv' := [(1, .int (cval T g (p - g))), (0, .ref sc)]) [0, 1] rfl ?_
    exact kx
  | succ d ih =>
    intro p hd hgp
    have hb := fig_in (T := T) hgp (by omega) hge
    have hlt := bt_lt hb
    refine r_aload_n hC 1 dX8_digits_2 rfl 3 rfl ?_
    refine r_aload_n hC 1 dX8_digits_3 rfl 4 rfl ?_
    refine r_get (v := .int (nI p)) hC kX8 5 rfl q1272 (fun _ h => h.get 0 rfl) rfl dX8_digits_4 7 rfl ?_
    refine r_bipush hC 48 dX8_digits_7 bp_48 9 rfl ?_
    refine r_bipush hC 57 dX8_digits_9 bp_57 11 rfl ?_
    refine xCall.r (r := some (.int 1)) (r_cV hC kX8 sc [.int (nI p), .int 48, .int 57] mVX8_isBetween q980 (fun _ h => ⟨_, h.get 0 rfl⟩) (fun V9 h9 => (xRm_v (metX8_isBetween _ _ hG sc tx sy en bg p kd vl wd T hen p 48 57 (by omega)) (show _ = some (Value.int 1) by rw [hb]; rfl)) V9 (h9.in.sub [0, 1] rfl rfl)) ⟨rfl, rfl⟩ (Nat.le_of_ble_eq_true rfl) (Nat.le_of_ble_eq_true rfl) rfl (Nat.le_of_ble_eq_true rfl) dX8_digits_11) 0 0 14 rfl rfl rfl ?_
    refine r_ifeq hC 59 dX8_digits_14 (by decide) 17 rfl (fun h => absurd h (by decide)) (fun _ => ?_)
    refine r_ldc2 hC q1207 dX8_digits_17 20 rfl ?_
    refine r_ldc2 hC q1208 dX8_digits_20 23 rfl ?_
    refine r_iload_n hC 0 dX8_digits_23 rfl 24 rfl ?_
    refine r_i2l hC ((cval T g (p - g)).toInt64) dX8_digits_24 (rfl) 25 rfl ?_
    refine r_lmul hC (10 * ((cval T g (p - g)).toInt64)) dX8_digits_25  (rfl) 26 rfl ?_
    refine r_aload_n hC 1 dX8_digits_26 rfl 27 rfl ?_
    refine r_get (v := .ref tx) hC kX8 0 rfl q1263 (fun _ h => h.get 0 rfl) rfl dX8_digits_27 30 rfl ?_
    refine r_aload_n hC 1 dX8_digits_30 rfl 31 rfl ?_
    refine r_get (v := .int (nI p)) hC kX8 5 rfl q1272 (fun _ h => h.get 0 rfl) rfl dX8_digits_31 34 rfl ?_
    refine r_bald hC p (xix_n p (by omega) (Nat.le_of_ble_eq_true rfl)) (fun _ h => h.get 1 rfl) (T p) (rfl) dX8_digits_34 35 rfl ?_
    refine r_i2l hC ((T p).toInt64) dX8_digits_35 (rfl) 36 rfl ?_
    refine r_ladd hC ((10 * ((cval T g (p - g)).toInt64)) + ((T p).toInt64)) dX8_digits_36  (rfl) 37 rfl ?_
    refine r_ldc2 hC q1209 dX8_digits_37 40 rfl ?_
    refine r_lsub hC (((10 * ((cval T g (p - g)).toInt64)) + ((T p).toInt64)) - 48) dX8_digits_40  (rfl) 41 rfl ?_
    refine xCall.r (r := some (.long (x_minL 2000000000 (((10 * ((cval T g (p - g)).toInt64)) + ((T p).toInt64)) - 48)))) (r_cS hC [.long 2000000000, .long (((10 * ((cval T g (p - g)).toInt64)) + ((T p).toInt64)) - 48)] mSJ4_min_2 q1210 (fun V9 h9 => (metJ4_min_2 _ _ hG 2000000000 (((10 * ((cval T g (p - g)).toInt64)) + ((T p).toInt64)) - 48)) V9 xIn.nil) ⟨rfl, rfl⟩ (Nat.le_of_ble_eq_true rfl) (Nat.le_of_ble_eq_true rfl) rfl (Nat.le_of_ble_eq_true rfl) dX8_digits_41) 0 0 44 rfl rfl rfl ?_
    refine r_l2i hC ((x_minL 2000000000 (((10 * ((cval T g (p - g)).toInt64)) + ((T p).toInt64)) - 48)).toInt32) dX8_digits_44 (rfl) 45 rfl ?_
    refine r_istore_n hC 1 [(1, .int ((x_minL 2000000000 (((10 * ((cval T g (p - g)).toInt64)) + ((T p).toInt64)) - 48)).toInt32)), (0, .ref sc)] dX8_digits_45 rfl (Nat.le_of_ble_eq_true rfl) rfl 46 rfl ?_
    refine r_aload_n hC 1 dX8_digits_46 rfl 47 rfl ?_
    refine r_dup hC dX8_digits_47 rfl 48 rfl ?_
    refine r_get (v := .int (nI p)) hC kX8 5 rfl q1272 (fun _ h => h.get 0 rfl) rfl dX8_digits_48 51 rfl ?_
    refine r_iconst hC 1 dX8_digits_51 ic_1 52 rfl ?_
    refine r_iadd hC (nI (p + 1)) dX8_digits_52  (nI_add p 1) 53 rfl ?_
    refine r_put (J := xSt F V0 [(sc, .inr (7, [.ref tx, .int (nI en), .ref sy, .int kd, .int (nI bg), .int (nI (p + 1)), .int vl, va_rf wd])), (tx, .inl (2, 600, .inl T))]) hC kX8 5 rfl q1272 rfl (fun _ h => h.get 0 rfl) (Nat.le_of_ble_eq_true rfl) (rfl) (rfl) dX8_digits_53 (fun _ h => h.set 0 _ rfl) 56 rfl ?_
    refine r_goto hC 2 dX8_digits_56 (by decide) ?_
    refine rn.sub (lv' := [(1, .int ((x_minL 2000000000 (((10 * ((cval T g (p - g)).toInt64)) + ((T p).toInt64)) - 48)).toInt32)), (0, .ref sc)]) [0, 1] rfl ?_
    have e9 : (.int ((x_minL 2000000000 (((10 * ((cval T g (p - g)).toInt64)) + ((T p).toInt64)) - 48)).toInt32) : Value) = .int (cval T g (p + 1 - g)) := by rw [show p + 1 - g = (p - g) + 1 by omega, cval, show g + (p - g) = p by omega]
    rw [e9]
    exact ih (p + 1) (by omega) (by omega)
set_option maxHeartbeats 4000000 in
set_option maxRecDepth 100000 in
theorem metX8_digits (l : Launch) (G : xG) (hG : xGood G) (sc tx sy en bg g : Nat) (kd vl : Int32) (wd : Option Nat) (T : Nat → Int32) (hen : en ≤ 600) (hge : g ≤ en) : xWm l G yX8_digits (Cond.code yX8_digits cX8_digits 2 (some .int)) { frames := 1, locals := 23, cells := 0, slots := 0 } [.ref sc] [(sc, .inr (7, [.ref tx, .int (nI en), .ref sy, .int kd, .int (nI bg), .int (nI g), .int vl, va_rf wd])), (tx, .inl (2, 600, .inl T))] (fun v w' => v = some (.int (cval T g (runE figQ T en g - g))) ∧ w' = [(sc, .inr (7, [.ref tx, .int (nI en), .ref sy, .int kd, .int (nI bg), .int (nI (runE figQ T en g)), .int vl, va_rf wd])), (tx, .inl (2, 600, .inl T))]) (fun _ _ => False) := by
  intro V hV
  refine xMet_ofT RX8 hG rfl (by decide) (Nat.le_of_ble_eq_true rfl) fun C hC hQ hX hl hg _ hTab => ?_
  subst hl hg
  obtain ⟨V0, hV0⟩ : ∃ V0, V0 = V := ⟨_, rfl⟩
  obtain ⟨F, hF⟩ : ∃ F, F = xF [(sc, .inr (7, [.ref tx, .int (nI en), .ref sy, .int kd, .int (nI bg), .int (nI g), .int vl, va_rf wd])), (tx, .inl (2, 600, .inl T))] := ⟨_, rfl⟩
  refine rn.mono (J := xSt F V0 [(sc, .inr (7, [.ref tx, .int (nI en), .ref sy, .int kd, .int (nI bg), .int (nI g), .int vl, va_rf wd])), (tx, .inl (2, 600, .inl T))]) (fun V9 h => by rw [h, hV0, hF]; exact hV.st) ?_
  show rn C (xSt F V0 [(sc, .inr (7, [.ref tx, .int (nI en), .ref sy, .int kd, .int (nI bg), .int (nI g), .int vl, va_rf wd])), (tx, .inl (2, 600, .inl T))]) 0 0 0 [(0, .ref sc)] []
  refine r_iconst hC 0 dX8_digits_0 ic_0 1 rfl ?_
  refine r_istore_n hC 1 [(1, .int 0), (0, .ref sc)] dX8_digits_1 rfl (Nat.le_of_ble_eq_true rfl) rfl 2 rfl ?_
  refine rn.sub (lv' := [(1, .int 0), (0, .ref sc)]) [0, 1] rfl ?_
  have h9 := fun kx => lpX8_digits (F := F) (V0 := V0) hG hC sc tx sy en bg g kd vl wd T hen g hge kx (runE figQ T en g - g) g (by have := runE_ge (P := figQ) (bf := T) (e := en) (p := g); omega) (Nat.le_refl _)
  rw [show g - g = 0 by omega] at h9
  refine h9 ?_
  clear h9
  refine r_iload_n hC 0 dX8_digits_59 rfl 60 rfl ?_
  exact r_iret hC (Nat.le_of_ble_eq_true rfl) (Nat.le_of_ble_eq_true rfl) (fun V9 h => hQ _ _ ⟨[(sc, .inr (7, [.ref tx, .int (nI en), .ref sy, .int kd, .int (nI bg), .int (nI (runE figQ T en g)), .int vl, va_rf wd])), (tx, .inl (2, 600, .inl T))], ⟨rfl, rfl⟩, by rw [← hV0, ← hF]; exact h⟩) dX8_digits_60
