/-! ===== the class: Reader.read ===== -/
set_option maxRecDepth 100000
/-- the row as the class holds it: where nothing was read yet, the row it began with -/
def mixK (k : Nat) (z : Nat → Int64) : Nat → Int64 := fun q => if q = 1 ∨ (6 ≤ q ∧ q < 6 + 5 * k) then z q else rowC q
theorem mix_up1 {k : Nat} {z : Nat → Int64} {v : Int64} : va_up (mixK k z) 1 v = mixK k (va_up z 1 v) := by
  funext q
  by_cases e : q = 1
  · subst e
    rw [up_same]
    unfold mixK
    rw [if_pos (Or.inl rfl), up_same]
  · rw [up_ne e]
    unfold mixK
    split
    · rw [up_ne e]
    · rfl
theorem set1_mix {T : Nat → Int32} {en k : Nat} {ps : PS} {dt z : Nat → Int64} : set1 T en ps dt (mixK k z) = (set1 T en ps dt z).map (fun x => (x.1, x.2.1, mixK k x.2.2)) := by
  unfold set1
  repeat' split
  all_goals first
    | rfl
    | (rw [mix_up1]; rfl)
theorem set1N_mix {T : Nat → Int32} {en k : Nat} {ps : PS} {dt z : Nat → Int64} : set1N T en ps dt (mixK k z) = set1N T en ps dt z := by
  unfold set1N
  rw [set1_mix]
  cases set1 T en ps dt z <;> rfl
theorem bdR_mix {T : Nat → Int32} {en k : Nat} {ps : PS} {z : Nat → Int64} : bdR T en k ps (mixK k z) = mixK (k + 1) (bdR T en k ps z) := by
  funext q
  unfold bdR
  by_cases h4 : q = 6 + 5 * k + 4
  · rw [h4, up_same]; unfold mixK; rw [if_pos (Or.inr ⟨by omega, by omega⟩), up_same]
  rw [up_ne h4]
  by_cases h3 : q = 6 + 5 * k + 3
  · rw [h3, up_same]; unfold mixK; rw [if_pos (Or.inr ⟨by omega, by omega⟩), up_ne (by omega), up_same]
  rw [up_ne h3]
  by_cases h2 : q = 6 + 5 * k + 2
  · rw [h2, up_same]; unfold mixK; rw [if_pos (Or.inr ⟨by omega, by omega⟩), up_ne (by omega), up_ne (by omega), up_same]
  rw [up_ne h2]
  by_cases h1 : q = 6 + 5 * k + 1
  · rw [h1, up_same]; unfold mixK; rw [if_pos (Or.inr ⟨by omega, by omega⟩), up_ne (by omega), up_ne (by omega), up_ne (by omega), up_same]
  rw [up_ne h1]
  by_cases h0 : q = 6 + 5 * k + 0
  · rw [h0, up_same]; unfold mixK; rw [if_pos (Or.inr ⟨by omega, by omega⟩), up_ne (by omega), up_ne (by omega), up_ne (by omega), up_ne (by omega), up_same]
  rw [up_ne h0]
  unfold mixK
  by_cases h : q = 1 ∨ (6 ≤ q ∧ q < 6 + 5 * k)
  · rw [if_pos h, if_pos (by omega), up_ne h4, up_ne h3, up_ne h2, up_ne h1, up_ne h0]
  · rw [if_neg h, if_neg (by omega)]
theorem mix_in {k q : Nat} {z : Nat → Int64} (h : 6 ≤ q ∧ q < 6 + 5 * k) : mixK k z q = z q := if_pos (Or.inr h)
theorem sameQ_mix {k a c : Nat} {r : Nat → Int64} (ha : a < k) (hc : c < k) : sameQ (mixK k r) a c = sameQ r a c := by
  unfold sameQ
  rw [mix_in ⟨by omega, by omega⟩, mix_in ⟨by omega, by omega⟩, mix_in ⟨by omega, by omega⟩, mix_in ⟨by omega, by omega⟩]
theorem clQ_mix {k : Nat} {r : Nat → Int64} (hk : k < 3) : clQ (mixK (k + 1) r) k = clQ r k := by
  rcases (show k = 0 ∨ k = 1 ∨ k = 2 by omega) with rfl | rfl | rfl
  · rfl
  · exact sameQ_mix (by decide) (by decide)
  · rw [clQ_2, clQ_2, sameQ_mix (by decide) (by decide), sameQ_mix (by decide) (by decide)]
theorem bd7_mix {T : Nat → Int32} {en k : Nat} {ps : PS} {z : Nat → Int64} (hk : k < 3) : bd7 T en k ps (mixK k z) = bd7 T en k ps z := by
  unfold bd7 bd6
  rw [bdR_mix, clQ_mix hk]
theorem prR_mix {k : Nat} {z : Nat → Int64} (h : prR z k) : prR (mixK k z) k := by
  intro j hj
  rw [mix_in ⟨by omega, by omega⟩, mix_in ⟨by omega, by omega⟩]
  exact h j hj
theorem rowC_mix : rowC = mixK 0 z0 := by
  funext q
  unfold mixK
  split
  · rename_i h
    rcases h with rfl | h
    · rfl
    · omega
  · rfl
theorem mix_3 {z : Nat → Int64} (h : ∀ q, q ≠ 1 → (q < 6 ∨ 21 ≤ q) → z q = 0) : mixK 3 z = z := by
  funext q
  unfold mixK
  split
  · rfl
  · rename_i hn
    rw [h q (fun e => hn (Or.inl e)) (by omega)]
    unfold rowC
    rw [up_ne (by omega), up_ne (by omega), up_ne (by omega), up_ne (by omega), up_ne (by omega)]
    rfl
theorem setL_0 {T : Nat → Int32} {en : Nat} : ∀ (f : Nat) (ps : PS) (dt dr : Nat → Int64), (∀ q, q ≠ 1 → dr q = 0) → ∀ q, q ≠ 1 → (setL T en f ps dt dr).2.2 q = 0 := by
  intro f
  induction f with
  | zero => intro ps dt dr h; exact h
  | succ f ih =>
    intro ps dt dr h
    rw [setL]
    cases hs : set1 T en ps dt dr with
    | none => exact h
    | some x =>
      refine ih _ _ _ ?_
      unfold set1 at hs
      repeat' (first | (split at hs) | (injection hs with hs; subst hs))
      all_goals first
        | exact absurd hs (by simp)
        | exact h
        | (intro q hq; exact (up_ne hq).trans (h q hq))
theorem bdR_out {T : Nat → Int32} {en k : Nat} {ps : PS} {dr : Nat → Int64} {q : Nat} (h : q < 6 + 5 * k ∨ 6 + 5 * k + 5 ≤ q) : bdR T en k ps dr q = dr q := by
  unfold bdR
  rw [up_ne (by omega), up_ne (by omega), up_ne (by omega), up_ne (by omega), up_ne (by omega)]
theorem ld_0 {T : Nat → Int32} {en : Nat} : ∀ q, q ≠ 1 → (q < 6 ∨ 21 ≤ q) → ldR T en q = 0 := by
  intro q h1 h2
  unfold ldR ldR2 ldR1
  rw [bdR_out (by omega), bdR_out (by omega), bdR_out (by omega)]
  exact setL_0 _ _ _ _ (fun _ _ => rfl) q h1
theorem prR_0 {z : Nat → Int64} : prR z 0 := fun j hj => absurd hj (Nat.not_lt_zero j)
theorem prR_1 {T : Nat → Int32} {en : Nat} : prR (ldR1 T en) 1 := prR_bd (by decide) prR_0
theorem prR_2 {T : Nat → Int32} {en : Nat} : prR (ldR2 T en) 2 := prR_bd (by decide) prR_1
theorem sg_5b {T : Nat → Int32} {en : Nat} {ps : PS} : -100000 ≤ (sgnV T en 100000 ps).toInt ∧ (sgnV T en 100000 ps).toInt ≤ 100000 := by
  have h := sgnV_rg (T := T) (en := en) (hi := 100000) (ps := ps) (by decide) (by decide)
  have e : (100000 : Int64).toInt = 100000 := rfl
  rw [e] at h
  exact h
theorem bdR_1 {T : Nat → Int32} {en k : Nat} {ps : PS} {dr : Nat → Int64} : bdR T en k ps dr (6 + 5 * k + 1) = sgnV T en 100000 (bd1 T en ps) := by
  unfold bdR
  rw [up_ne (by omega), up_ne (by omega), up_ne (by omega), up_same]
theorem bdR_2 {T : Nat → Int32} {en k : Nat} {ps : PS} {dr : Nat → Int64} : bdR T en k ps dr (6 + 5 * k + 2) = sgnV T en 100000 (bd2 T en ps) := by
  unfold bdR
  rw [up_ne (by omega), up_ne (by omega), up_same]
theorem plR_bd {T : Nat → Int32} {en k j : Nat} {ps : PS} {dr : Nat → Int64} (h : ∀ i, i < k → (-100000 ≤ (dr (6 + 5 * i + 1)).toInt ∧ (dr (6 + 5 * i + 1)).toInt ≤ 100000) ∧ -100000 ≤ (dr (6 + 5 * i + 2)).toInt ∧ (dr (6 + 5 * i + 2)).toInt ≤ 100000) (hj : j < k + 1) : (-100000 ≤ (bdR T en k ps dr (6 + 5 * j + 1)).toInt ∧ (bdR T en k ps dr (6 + 5 * j + 1)).toInt ≤ 100000) ∧ -100000 ≤ (bdR T en k ps dr (6 + 5 * j + 2)).toInt ∧ (bdR T en k ps dr (6 + 5 * j + 2)).toInt ≤ 100000 := by
  by_cases e : j = k
  · subst e
    rw [bdR_1, bdR_2]
    exact ⟨sg_5b, sg_5b⟩
  · rw [bdR_out (by omega), bdR_out (by omega)]
    exact h j (by omega)
theorem plR_ld {T : Nat → Int32} {en : Nat} : plR (ldR T en) := fun k hk => plR_bd (fun i hi => plR_bd (fun i hi => plR_bd (fun i hi => absurd hi (Nat.not_lt_zero i)) hi) hi) hk
theorem pot_set1 {T : Nat → Int32} {en : Nat} {ps : PS} {dt dr : Nat → Int64} : potP T en (set1N T en ps dt dr) ≤ potP T en ps := by
  have hS : ∀ lo hi : Int64, potP T en (setP T en lo hi ps) ≤ potP T en ps := fun lo hi => Nat.le_trans pot_must (Nat.le_trans pot_num pot_nxP)
  have hC : potP T en (schP T en ps) ≤ potP T en ps := Nat.le_trans pot_must (Nat.le_trans pot_schQ pot_nxP)
  unfold set1N
  cases hs : set1 T en ps dt dr with
  | none => exact Nat.le_refl _
  | some x =>
    unfold set1 at hs
    repeat' (first | (split at hs) | (injection hs with hs; subst hs))
    all_goals first
      | exact absurd hs (by simp)
      | exact hS _ _
      | exact hC
theorem pot_bd7 {T : Nat → Int32} {en k : Nat} {ps : PS} {dr : Nat → Int64} : potP T en (bd7 T en k ps dr) ≤ potP T en ps := Nat.le_trans pot_must (Nat.le_trans pot_bd6 (Nat.le_trans pot_sgn (Nat.le_trans pot_sgn (Nat.le_trans pot_sgn (Nat.le_trans pot_sgn (Nat.le_trans pot_num pot_exp))))))
theorem setL_bad {T : Nat → Int32} {en : Nat} {x : Int32 × Nat} {dt dr : Nat → Int64} : ∀ f : Nat, setL T en f (.error x) dt dr = (.error x, dt, dr) := by
  intro f
  cases f with
  | zero => rfl
  | succ f => rw [setL, set1_bad rfl]
theorem setL_err {T : Nat → Int32} {en f g : Nat} {x : Int32 × Nat} {dt dr : Nat → Int64} (h : set1N T en (.ok g) dt dr = .error x) : (setL T en (f + 1) (.ok g) dt dr).1 = .error x := by
  unfold set1N at h
  rw [setL]
  cases hs : set1 T en (.ok g) dt dr with
  | none => rw [hs] at h; cases h
  | some y =>
    rw [hs] at h
    dsimp only at h ⊢
    rw [h, setL_bad]
theorem ld_e0 {T : Nat → Int32} {en : Nat} {x : Int32 × Nat} (h : (ldS T en).1 = .error x) : ldB1 T en = .error x := by
  unfold ldB1
  rw [h]
  exact bd0_e exp_e
theorem ld_e1 {T : Nat → Int32} {en : Nat} {x : Int32 × Nat} (h : ldB1 T en = .error x) : ldB2 T en = .error x := by
  unfold ldB2
  rw [h]
  exact bd0_e exp_e
theorem ld_e2 {T : Nat → Int32} {en : Nat} {x : Int32 × Nat} (h : ldB2 T en = .error x) : ldB3 T en = .error x := by
  unfold ldB3
  rw [h]
  exact bd0_e exp_e
theorem ld_e3 {T : Nat → Int32} {en : Nat} {x : Int32 × Nat} (h : ldB3 T en = .error x) : ldP T en = .error x := by
  unfold ldP
  rw [h]
  rfl
set_option maxHeartbeats 4000000 in
set_option maxRecDepth 100000 in
theorem metJ2_init_2_X13 (l : Launch) (G : xG) (hG : xGood G) (q : Nat) (cz : Nat) : xWm l G yJ2_init_2 (Cond.code yJ2_init_2 cJ2_init_2 5 none) { frames := 1, locals := 20, cells := 0, slots := 0 } [.ref q, .null, .ref cz, .int 0, .int 0] [(q, .inr (11, [.null, .null, .null, .null, .null, .int 0]))] (fun v w' => v = none ∧ w' = [(q, .inr (11, [.ref cz, .null, .null, .null, .null, .int 0]))]) (fun _ _ => False) := by
  intro V hV
  refine xMet_ofT RJ2 hG rfl (by decide) (Nat.le_of_ble_eq_true rfl) fun C hC hQ hX hl hg hini hTab => ?_
  subst hl hg
  replace hini := hini rfl
  obtain ⟨oS, hzS⟩ := zq_S hG
  obtain ⟨oU, hzU⟩ := zq_U hG
  obtain ⟨V0, hV0⟩ : ∃ V0, V0 = V := ⟨_, rfl⟩
  obtain ⟨F, hF⟩ : ∃ F, F = xF [(q, .inr (11, [.null, .null, .null, .null, .null, .int 0]))] := ⟨_, rfl⟩
  refine rn.mono (J := xSt F V0 [(q, .inr (11, [.null, .null, .null, .null, .null, .int 0]))]) (fun V9 h => by rw [h, hV0, hF]; exact hV.st) ?_
  show rn C (xSt F V0 [(q, .inr (11, [.null, .null, .null, .null, .null, .int 0]))]) 0 0 0 [(0, .ref q), (1, .null), (2, .ref cz), (3, .int 0), (4, .int 0)] []
  refine r_aload_n hC 0 dJ2_init_2_0 rfl 1 rfl ?_
  refine r_objInit hC q365 (Nat.le_of_ble_eq_true rfl) (Nat.le_of_ble_eq_true rfl) (Nat.le_of_ble_eq_true rfl) dJ2_init_2_1 4 rfl ?_
  refine r_aload_n hC 0 dJ2_init_2_4 rfl 5 rfl ?_
  refine r_aload_n hC 0 dJ2_init_2_5 rfl 6 rfl ?_
  refine r_put (J := xSt F V0 [(q, .inr (11, [.ref q, .null, .null, .null, .null, .int 0]))]) hC kX13 0 rfl q397 rfl (fun _ h => h.get 0 rfl) (Nat.le_of_ble_eq_true rfl) (rfl) (rfl) dJ2_init_2_6 (fun _ h => h.set 0 _ rfl) 9 rfl ?_
  refine r_aload_n hC 0 dJ2_init_2_9 rfl 10 rfl ?_
  refine r_gets hC hzU q366 dJ2_init_2_10 13 rfl ?_
  refine r_put (J := xSt F V0 [(q, .inr (11, [.ref q, va_rf oU, .null, .null, .null, .int 0]))]) hC kX13 1 rfl q398 rfl (fun _ h => h.get 0 rfl) (Nat.le_of_ble_eq_true rfl) (by cases oU <;> rfl) (by cases oU <;> rfl) dJ2_init_2_13 (fun _ h => h.set 0 _ rfl) 16 rfl ?_
  refine r_aload_n hC 0 dJ2_init_2_16 rfl 17 rfl ?_
  refine r_gets hC hzS q368 dJ2_init_2_17 20 rfl ?_
  refine r_put (J := xSt F V0 [(q, .inr (11, [.ref q, va_rf oU, va_rf oS, .null, .null, .int 0]))]) hC kX13 2 rfl q399 rfl (fun _ h => h.get 0 rfl) (Nat.le_of_ble_eq_true rfl) (by cases oS <;> rfl) (by cases oS <;> rfl) dJ2_init_2_20 (fun _ h => h.set 0 _ rfl) 23 rfl ?_
  refine r_iload hC 4 dJ2_init_2_23 rfl 25 rfl ?_
  refine r_ifeq hC 36 dJ2_init_2_25 (by decide) 28 rfl (fun _ => ?_) (fun h => absurd h (by decide))
  refine r_aload_n hC 0 dJ2_init_2_36 rfl 37 rfl ?_
  refine r_null hC dJ2_init_2_37 38 rfl ?_
  refine r_put (J := xSt F V0 [(q, .inr (11, [.ref q, .null, va_rf oS, .null, .null, .int 0]))]) hC kX13 1 rfl q398 rfl (fun _ h => h.get 0 rfl) (Nat.le_of_ble_eq_true rfl) (rfl) (rfl) dJ2_init_2_38 (fun _ h => h.set 0 _ rfl) 41 rfl ?_
  refine r_aload_n hC 0 dJ2_init_2_41 rfl 42 rfl ?_
  refine r_aload_nN hC 1 dJ2_init_2_42 rfl 43 rfl ?_
  refine r_put (J := xSt F V0 [(q, .inr (11, [.ref q, .null, va_rf oS, .null, .null, .int 0]))]) hC kX13 3 rfl q396 rfl (fun _ h => h.get 0 rfl) (Nat.le_of_ble_eq_true rfl) (rfl) (rfl) dJ2_init_2_43 (fun _ h => h.set 0 _ rfl) 46 rfl ?_
  refine r_aload_n hC 0 dJ2_init_2_46 rfl 47 rfl ?_
  refine r_aload_n hC 2 dJ2_init_2_47 rfl 48 rfl ?_
  refine r_put (J := xSt F V0 [(q, .inr (11, [.ref cz, .null, va_rf oS, .null, .null, .int 0]))]) hC kX13 0 rfl q397 rfl (fun _ h => h.get 0 rfl) (Nat.le_of_ble_eq_true rfl) (rfl) (rfl) dJ2_init_2_48 (fun _ h => h.set 0 _ rfl) 51 rfl ?_
  refine r_iload_n hC 3 dJ2_init_2_51 rfl 52 rfl ?_
  refine r_ifne hC 60 dJ2_init_2_52 (by decide) 55 rfl (fun h => absurd h (by decide)) (fun _ => ?_)
  refine r_aload_n hC 0 dJ2_init_2_55 rfl 56 rfl ?_
  refine r_null hC dJ2_init_2_56 57 rfl ?_
  refine r_put (J := xSt F V0 [(q, .inr (11, [.ref cz, .null, .null, .null, .null, .int 0]))]) hC kX13 2 rfl q399 rfl (fun _ h => h.get 0 rfl) (Nat.le_of_ble_eq_true rfl) (rfl) (rfl) dJ2_init_2_57 (fun _ h => h.set 0 _ rfl) 60 rfl ?_
  exact r_vret hC (Nat.le_of_ble_eq_true rfl) (Nat.le_of_ble_eq_true rfl) (fun V9 h => hQ _ _ ⟨[(q, .inr (11, [.ref cz, .null, .null, .null, .null, .int 0]))], ⟨rfl, rfl⟩, by rw [← hV0, ← hF]; exact h⟩) dJ2_init_2_60
set_option maxHeartbeats 4000000 in
set_option maxRecDepth 100000 in
theorem metJ3_init_X13 (l : Launch) (G : xG) (hG : xGood G) (q : Nat) (cz : Nat) : xWm l G yJ3_init (Cond.code yJ3_init cJ3_init 5 none) { frames := 2, locals := 44, cells := 0, slots := 0 } [.ref q, .null, .ref cz, .int 0, .int 0] [(q, .inr (11, [.null, .null, .null, .null, .null, .int 0]))] (fun v w' => v = none ∧ w' = [(q, .inr (11, [.ref cz, .null, .null, .null, .null, .int 0]))]) (fun _ _ => False) := by
  intro V hV
  refine xMet_ofT RJ3 hG rfl (by decide) (Nat.le_of_ble_eq_true rfl) fun C hC hQ hX hl hg hini hTab => ?_
  subst hl hg
  replace hini := hini rfl
  obtain ⟨V0, hV0⟩ : ∃ V0, V0 = V := ⟨_, rfl⟩
  obtain ⟨F, hF⟩ : ∃ F, F = xF [(q, .inr (11, [.null, .null, .null, .null, .null, .int 0]))] := ⟨_, rfl⟩
  refine rn.mono (J := xSt F V0 [(q, .inr (11, [.null, .null, .null, .null, .null, .int 0]))]) (fun V9 h => by rw [h, hV0, hF]; exact hV.st) ?_
  show rn C (xSt F V0 [(q, .inr (11, [.null, .null, .null, .null, .null, .int 0]))]) 0 0 0 [(0, .ref q), (1, .null), (2, .ref cz), (3, .int 0), (4, .int 0)] []
  refine r_aload_n hC 0 dJ3_init_0 rfl 1 rfl ?_
  refine r_aload_nN hC 1 dJ3_init_1 rfl 2 rfl ?_
  refine r_aload_n hC 2 dJ3_init_2 rfl 3 rfl ?_
  refine r_iload_n hC 3 dJ3_init_3 rfl 4 rfl ?_
  refine r_iload hC 4 dJ3_init_4 rfl 6 rfl ?_
  refine xCall.w (wr := []) (r_cI hC q [.null, .ref cz, .int 0, .int 0] mIJ2_init_2 q392 (fun V9 h9 => (metJ2_init_2_X13 _ _ hG q cz) V9 (h9.in.sub [0] rfl rfl)) ⟨rfl, rfl⟩ (Nat.le_of_ble_eq_true rfl) (Nat.le_of_ble_eq_true rfl) rfl (Nat.le_of_ble_eq_true rfl) dJ3_init_6) [0] [] rfl rfl rfl (by decide) 0 0 9 rfl rfl rfl (fun v1 w2 h3 => ?_) (fun _ _ h => h.elim)
  obtain ⟨rfl, rfl⟩ := h3
  show rn C (xSt F V0 [(q, .inr (11, [.ref cz, .null, .null, .null, .null, .int 0]))]) 0 0 9 [(0, .ref q), (1, .null), (2, .ref cz), (3, .int 0), (4, .int 0)] []
  exact r_vret hC (Nat.le_of_ble_eq_true rfl) (Nat.le_of_ble_eq_true rfl) (fun V9 h => hQ _ _ ⟨[(q, .inr (11, [.ref cz, .null, .null, .null, .null, .int 0]))], ⟨rfl, rfl⟩, by rw [← hV0, ← hF]; exact h⟩) dJ3_init_9
set_option maxHeartbeats 4000000 in
set_option maxRecDepth 100000 in
theorem metX13_init (l : Launch) (G : xG) (hG : xGood G) (q cz : Nat) : xWm l G yX13_init (Cond.code yX13_init cX13_init 2 none) { frames := 3, locals := 68, cells := 0, slots := 0 } [.ref q, .ref cz] [(q, .inr (11, [.null, .null, .null, .null, .null, .int 0]))] (fun v w' => v = none ∧ w' = [(q, .inr (11, [.ref cz, .null, .null, .null, .null, .int 0]))]) (fun _ _ => False) := by
  intro V hV
  refine xMet_ofT RX13 hG rfl (by decide) (Nat.le_of_ble_eq_true rfl) fun C hC hQ hX hl hg hini hTab => ?_
  subst hl hg
  replace hini := hini rfl
  obtain ⟨V0, hV0⟩ : ∃ V0, V0 = V := ⟨_, rfl⟩
  obtain ⟨F, hF⟩ : ∃ F, F = xF [(q, .inr (11, [.null, .null, .null, .null, .null, .int 0]))] := ⟨_, rfl⟩
  refine rn.mono (J := xSt F V0 [(q, .inr (11, [.null, .null, .null, .null, .null, .int 0]))]) (fun V9 h => by rw [h, hV0, hF]; exact hV.st) ?_
  show rn C (xSt F V0 [(q, .inr (11, [.null, .null, .null, .null, .null, .int 0]))]) 0 0 0 [(0, .ref q), (1, .ref cz)] []
  refine r_aload_n hC 0 dX13_init_0 rfl 1 rfl ?_
  refine r_null hC dX13_init_1 2 rfl ?_
  refine r_aload_n hC 1 dX13_init_2 rfl 3 rfl ?_
  refine r_iconst hC 0 dX13_init_3 ic_0 4 rfl ?_
  refine r_iconst hC 0 dX13_init_4 ic_0 5 rfl ?_
  refine xCall.w (wr := []) (r_cI hC q [.null, .ref cz, .int 0, .int 0] mIJ3_init q1454 (fun V9 h9 => (metJ3_init_X13 _ _ hG q cz) V9 (h9.in.sub [0] rfl rfl)) ⟨rfl, rfl⟩ (Nat.le_of_ble_eq_true rfl) (Nat.le_of_ble_eq_true rfl) rfl (Nat.le_of_ble_eq_true rfl) dX13_init_5) [0] [] rfl rfl rfl (by decide) 0 0 8 rfl rfl rfl (fun v1 w2 h3 => ?_) (fun _ _ h => h.elim)
  obtain ⟨rfl, rfl⟩ := h3
  show rn C (xSt F V0 [(q, .inr (11, [.ref cz, .null, .null, .null, .null, .int 0]))]) 0 0 8 [(0, .ref q), (1, .ref cz)] []
  exact r_vret hC (Nat.le_of_ble_eq_true rfl) (Nat.le_of_ble_eq_true rfl) (fun V9 h => hQ _ _ ⟨[(q, .inr (11, [.ref cz, .null, .null, .null, .null, .int 0]))], ⟨rfl, rfl⟩, by rw [← hV0, ← hF]; exact h⟩) dX13_init_8
set_option maxHeartbeats 4000000 in
set_option maxRecDepth 100000 in
theorem metX7_init (l : Launch) (G : xG) (hG : xGood G) (rd sc : Nat) : xWm l G yX7_init (Cond.code yX7_init cX7_init 2 none) { frames := 7, locals := 156, cells := 16, slots := 78 } [.ref rd, .ref sc] [(rd, .inr (6, [.null, .null, .null]))] (fun v w' => v = none ∧ ∃ (o u : Nat → Nat) (e : Nat), w' = [(rd, .inr (6, [.ref sc, .ref (u 0), .ref (o 0)])), (u 0, .inr (1, [.ref (o 0), .ref (u 1), .ref (u 2), .ref (u 3), .int (nI 0), .int 0, .long (enQ told0 rowC), .long (enQ told0 rowC)])), (o 0, .inr (2, [.ref (o 1), .ref (o 2), .ref (o 3), .ref (o 4), .ref (o 5), .ref (o 6), .ref (o 7), .ref (o 8), .ref (o 9), .ref (o 10), .int ((rowC 0).toInt32)])), (o 1, .inl (0, 6, .inl (seF told0 rowC))), (o 2, .inl (0, 3, .inl (maF rowC))), (o 3, .inl (0, 3, .inl (plX rowC))), (o 4, .inl (0, 3, .inl (plY rowC))), (o 5, .inl (1, 3, .inr (.inl (moX rowC)))), (o 6, .inl (1, 3, .inr (.inl (moY rowC)))), (o 7, .inl (0, 3, .inl zI)), (o 8, .inl (0, 3, .inl zI)), (o 9, .inl (1, 3, .inr (.inl zJ))), (o 10, .inl (1, 3, .inr (.inl zJ))), (u 1, .inr (19, [.ref e, .int (nI 0), .int (nI (dqT 17 0 0))])), (e, .inl (3, 17, .inr (.inr (.inr (.inr nQ))))), (u 2, .inl (0, 3, .inl zI)), (u 3, .inl (0, 3, .inl zI))]) (fun _ _ => False) := by
  intro V hV
  refine xMet_ofT RX7 hG rfl (by decide) (Nat.le_of_ble_eq_true rfl) fun C hC hQ hX hl hg hini hTab => ?_
  subst hl hg
  replace hini := hini rfl
  obtain ⟨V0, hV0⟩ : ∃ V0, V0 = V := ⟨_, rfl⟩
  obtain ⟨F, hF⟩ : ∃ F, F = xF [(rd, .inr (6, [.null, .null, .null]))] := ⟨_, rfl⟩
  refine rn.mono (J := xSt F V0 [(rd, .inr (6, [.null, .null, .null]))]) (fun V9 h => by rw [h, hV0, hF]; exact hV.st) ?_
  show rn C (xSt F V0 [(rd, .inr (6, [.null, .null, .null]))]) 0 0 0 [(0, .ref rd), (1, .ref sc)] []
  refine r_aload_n hC 0 dX7_init_0 rfl 1 rfl ?_
  refine r_objInit hC q1296 (Nat.le_of_ble_eq_true rfl) (Nat.le_of_ble_eq_true rfl) (Nat.le_of_ble_eq_true rfl) dX7_init_1 4 rfl ?_
  refine r_aload_n hC 0 dX7_init_4 rfl 5 rfl ?_
  refine r_new (J := fun q1 => xSt F V0 [(rd, .inr (6, [.null, .null, .null])), (q1, .inr (1, [.null, .null, .null, .null, .int 0, .int 0, .long 0, .long 0]))]) hC [.null, .null, .null, .null, .int 0, .int 0, .long 0, .long 0] kX2 q1297 q162 q100 dfX2 (Nat.le_of_ble_eq_true rfl) (Nat.le_of_ble_eq_true rfl) dX7_init_5 (fun _ h => h.push _) 8 rfl (fun q1 => ?_)
  show rn C (xSt F V0 [(rd, .inr (6, [.null, .null, .null])), (q1, .inr (1, [.null, .null, .null, .null, .int 0, .int 0, .long 0, .long 0]))]) 1 8 8 [(0, .ref rd), (1, .ref sc)] [.ref q1, .ref rd]
  refine r_dup hC dX7_init_8 rfl 9 rfl ?_
  refine xCall.w (wr := [(rd, .inr (6, [.null, .null, .null]))]) (r_cIN hC hG q1 [] mIX2_init q1298 (fun V9 h9 => (metX2_init _ _ hG q1) V9 (h9.in.sub [1] rfl rfl)) ⟨rfl, rfl⟩ (Nat.le_of_ble_eq_true rfl) (Nat.le_of_ble_eq_true rfl) rfl (Nat.le_of_ble_eq_true rfl) dX7_init_9) [1] [0] rfl rfl rfl (by decide) 16 78 12 rfl rfl rfl (fun v5 w6 h7 => ?_) (fun _ _ h => h.elim)
  obtain ⟨rfl, o2, u3, e4, eu3, rfl⟩ := h7
  subst eu3
  show rn C (xSt F V0 [(rd, .inr (6, [.null, .null, .null])), (u3 0, .inr (1, [.ref (o2 0), .ref (u3 1), .ref (u3 2), .ref (u3 3), .int (nI 0), .int 0, .long (enQ told0 rowC), .long (enQ told0 rowC)])), (o2 0, .inr (2, [.ref (o2 1), .ref (o2 2), .ref (o2 3), .ref (o2 4), .ref (o2 5), .ref (o2 6), .ref (o2 7), .ref (o2 8), .ref (o2 9), .ref (o2 10), .int ((rowC 0).toInt32)])), (o2 1, .inl (0, 6, .inl (seF told0 rowC))), (o2 2, .inl (0, 3, .inl (maF rowC))), (o2 3, .inl (0, 3, .inl (plX rowC))), (o2 4, .inl (0, 3, .inl (plY rowC))), (o2 5, .inl (1, 3, .inr (.inl (moX rowC)))), (o2 6, .inl (1, 3, .inr (.inl (moY rowC)))), (o2 7, .inl (0, 3, .inl zI)), (o2 8, .inl (0, 3, .inl zI)), (o2 9, .inl (1, 3, .inr (.inl zJ))), (o2 10, .inl (1, 3, .inr (.inl zJ))), (u3 1, .inr (19, [.ref e4, .int (nI 0), .int (nI (dqT 17 0 0))])), (e4, .inl (3, 17, .inr (.inr (.inr (.inr nQ))))), (u3 2, .inl (0, 3, .inl zI)), (u3 3, .inl (0, 3, .inl zI))]) 16 78 12 [(0, .ref rd), (1, .ref sc)] [.ref (u3 0), .ref rd]
  refine r_putF (J := xSt F V0 [(rd, .inr (6, [.null, .ref (u3 0), .null])), (u3 0, .inr (1, [.ref (o2 0), .ref (u3 1), .ref (u3 2), .ref (u3 3), .int (nI 0), .int 0, .long (enQ told0 rowC), .long (enQ told0 rowC)])), (o2 0, .inr (2, [.ref (o2 1), .ref (o2 2), .ref (o2 3), .ref (o2 4), .ref (o2 5), .ref (o2 6), .ref (o2 7), .ref (o2 8), .ref (o2 9), .ref (o2 10), .int ((rowC 0).toInt32)])), (o2 1, .inl (0, 6, .inl (seF told0 rowC))), (o2 2, .inl (0, 3, .inl (maF rowC))), (o2 3, .inl (0, 3, .inl (plX rowC))), (o2 4, .inl (0, 3, .inl (plY rowC))), (o2 5, .inl (1, 3, .inr (.inl (moX rowC)))), (o2 6, .inl (1, 3, .inr (.inl (moY rowC)))), (o2 7, .inl (0, 3, .inl zI)), (o2 8, .inl (0, 3, .inl zI)), (o2 9, .inl (1, 3, .inr (.inl zJ))), (o2 10, .inl (1, 3, .inr (.inl zJ))), (u3 1, .inr (19, [.ref e4, .int (nI 0), .int (nI (dqT 17 0 0))])), (e4, .inl (3, 17, .inr (.inr (.inr (.inr nQ))))), (u3 2, .inl (0, 3, .inl zI)), (u3 3, .inl (0, 3, .inl zI))]) hC hini kX7 1 rfl q1300 rfl rfl (fun _ h => h.get 0 rfl) (Nat.le_of_ble_eq_true rfl) (rfl) (rfl) dX7_init_12 (fun _ h => h.set 0 _ rfl) 15 rfl ?_
  refine r_aload_n hC 0 dX7_init_15 rfl 16 rfl ?_
  refine r_aload_n hC 0 dX7_init_16 rfl 17 rfl ?_
  refine r_get (v := .ref (u3 0)) hC kX7 1 rfl q1300 (fun _ h => h.get 0 rfl) rfl dX7_init_17 20 rfl ?_
  refine r_getN (v := .ref (o2 0)) hC hG kX2 0 rfl q289 (fun _ h => h.get 1 rfl) rfl dX7_init_20 23 rfl ?_
  refine r_putF (J := xSt F V0 [(rd, .inr (6, [.null, .ref (u3 0), .ref (o2 0)])), (u3 0, .inr (1, [.ref (o2 0), .ref (u3 1), .ref (u3 2), .ref (u3 3), .int (nI 0), .int 0, .long (enQ told0 rowC), .long (enQ told0 rowC)])), (o2 0, .inr (2, [.ref (o2 1), .ref (o2 2), .ref (o2 3), .ref (o2 4), .ref (o2 5), .ref (o2 6), .ref (o2 7), .ref (o2 8), .ref (o2 9), .ref (o2 10), .int ((rowC 0).toInt32)])), (o2 1, .inl (0, 6, .inl (seF told0 rowC))), (o2 2, .inl (0, 3, .inl (maF rowC))), (o2 3, .inl (0, 3, .inl (plX rowC))), (o2 4, .inl (0, 3, .inl (plY rowC))), (o2 5, .inl (1, 3, .inr (.inl (moX rowC)))), (o2 6, .inl (1, 3, .inr (.inl (moY rowC)))), (o2 7, .inl (0, 3, .inl zI)), (o2 8, .inl (0, 3, .inl zI)), (o2 9, .inl (1, 3, .inr (.inl zJ))), (o2 10, .inl (1, 3, .inr (.inl zJ))), (u3 1, .inr (19, [.ref e4, .int (nI 0), .int (nI (dqT 17 0 0))])), (e4, .inl (3, 17, .inr (.inr (.inr (.inr nQ))))), (u3 2, .inl (0, 3, .inl zI)), (u3 3, .inl (0, 3, .inl zI))]) hC hini kX7 2 rfl q1301 rfl rfl (fun _ h => h.get 0 rfl) (Nat.le_of_ble_eq_true rfl) (rfl) (rfl) dX7_init_23 (fun _ h => h.set 0 _ rfl) 26 rfl ?_
  refine r_aload_n hC 0 dX7_init_26 rfl 27 rfl ?_
  refine r_aload_n hC 1 dX7_init_27 rfl 28 rfl ?_
  refine r_putF (J := xSt F V0 [(rd, .inr (6, [.ref sc, .ref (u3 0), .ref (o2 0)])), (u3 0, .inr (1, [.ref (o2 0), .ref (u3 1), .ref (u3 2), .ref (u3 3), .int (nI 0), .int 0, .long (enQ told0 rowC), .long (enQ told0 rowC)])), (o2 0, .inr (2, [.ref (o2 1), .ref (o2 2), .ref (o2 3), .ref (o2 4), .ref (o2 5), .ref (o2 6), .ref (o2 7), .ref (o2 8), .ref (o2 9), .ref (o2 10), .int ((rowC 0).toInt32)])), (o2 1, .inl (0, 6, .inl (seF told0 rowC))), (o2 2, .inl (0, 3, .inl (maF rowC))), (o2 3, .inl (0, 3, .inl (plX rowC))), (o2 4, .inl (0, 3, .inl (plY rowC))), (o2 5, .inl (1, 3, .inr (.inl (moX rowC)))), (o2 6, .inl (1, 3, .inr (.inl (moY rowC)))), (o2 7, .inl (0, 3, .inl zI)), (o2 8, .inl (0, 3, .inl zI)), (o2 9, .inl (1, 3, .inr (.inl zJ))), (o2 10, .inl (1, 3, .inr (.inl zJ))), (u3 1, .inr (19, [.ref e4, .int (nI 0), .int (nI (dqT 17 0 0))])), (e4, .inl (3, 17, .inr (.inr (.inr (.inr nQ))))), (u3 2, .inl (0, 3, .inl zI)), (u3 3, .inl (0, 3, .inl zI))]) hC hini kX7 0 rfl q1299 rfl rfl (fun _ h => h.get 0 rfl) (Nat.le_of_ble_eq_true rfl) (rfl) (rfl) dX7_init_28 (fun _ h => h.set 0 _ rfl) 31 rfl ?_
  exact r_vret hC (Nat.le_of_ble_eq_true rfl) (Nat.le_of_ble_eq_true rfl) (fun V9 h => hQ _ _ ⟨[(rd, .inr (6, [.ref sc, .ref (u3 0), .ref (o2 0)])), (u3 0, .inr (1, [.ref (o2 0), .ref (u3 1), .ref (u3 2), .ref (u3 3), .int (nI 0), .int 0, .long (enQ told0 rowC), .long (enQ told0 rowC)])), (o2 0, .inr (2, [.ref (o2 1), .ref (o2 2), .ref (o2 3), .ref (o2 4), .ref (o2 5), .ref (o2 6), .ref (o2 7), .ref (o2 8), .ref (o2 9), .ref (o2 10), .int ((rowC 0).toInt32)])), (o2 1, .inl (0, 6, .inl (seF told0 rowC))), (o2 2, .inl (0, 3, .inl (maF rowC))), (o2 3, .inl (0, 3, .inl (plX rowC))), (o2 4, .inl (0, 3, .inl (plY rowC))), (o2 5, .inl (1, 3, .inr (.inl (moX rowC)))), (o2 6, .inl (1, 3, .inr (.inl (moY rowC)))), (o2 7, .inl (0, 3, .inl zI)), (o2 8, .inl (0, 3, .inl zI)), (o2 9, .inl (1, 3, .inr (.inl zJ))), (o2 10, .inl (1, 3, .inr (.inl zJ))), (u3 1, .inr (19, [.ref e4, .int (nI 0), .int (nI (dqT 17 0 0))])), (e4, .inl (3, 17, .inr (.inr (.inr (.inr nQ))))), (u3 2, .inl (0, 3, .inl zI)), (u3 3, .inl (0, 3, .inl zI))], ⟨rfl, o2, u3, e4, rfl⟩, by rw [← hV0, ← hF]; exact h.sub [0, 1, 2, 3, 4, 5, 6, 7, 8, 9, 10, 11, 12, 13, 14, 15, 16] rfl rfl⟩) dX7_init_31
theorem metX7_settingM (l : Launch) (G : xG) (hG : xGood G) (sc tx sy en : Nat) (T B : Nat → Int32) (m : Nat) (hE : scE G sy en T B m) (g : Nat) (tw : xW) (htw : tokW sc tx sy en T B m g tw) (rd md : Nat) (o : Nat → Nat) (hs45 : syQ B m 45 = true) (hs59 : syQ B m 59 = true) (ck : Int32) (dt z : Nat → Int64) : xWm l G yX7_setting (Cond.code yX7_setting cX7_setting 1 (some .boolean)) { frames := 11, locals := 275, cells := 6 * (potP T en (.ok g) - potP T en (set1N T en (.ok g) dt z)), slots := 50 * (potP T en (.ok g) - potP T en (set1N T en (.ok g) dt z)) } [.ref rd] ([(rd, .inr (6, [.ref sc, .ref md, .ref (o 0)])), (o 0, .inr (2, [.ref (o 1), .ref (o 2), .ref (o 3), .ref (o 4), .ref (o 5), .ref (o 6), .ref (o 7), .ref (o 8), .ref (o 9), .ref (o 10), .int ck])), (o 1, .inl (0, 6, .inl (seF dt (mixK 0 z)))), (o 2, .inl (0, 3, .inl (maF (mixK 0 z)))), (o 3, .inl (0, 3, .inl (plX (mixK 0 z)))), (o 4, .inl (0, 3, .inl (plY (mixK 0 z)))), (o 5, .inl (1, 3, .inr (.inl (moX (mixK 0 z))))), (o 6, .inl (1, 3, .inr (.inl (moY (mixK 0 z)))))] ++ tw) (fun v w' => ∃ (tw' : xW), (v = some (.int 1) ∧ ∃ (g' : Nat) (dt' z' : Nat → Int64), set1 T en (.ok g) dt z = some (.ok g', dt', z') ∧ tokW sc tx sy en T B m g' tw' ∧ w' = ([(rd, .inr (6, [.ref sc, .ref md, .ref (o 0)])), (o 0, .inr (2, [.ref (o 1), .ref (o 2), .ref (o 3), .ref (o 4), .ref (o 5), .ref (o 6), .ref (o 7), .ref (o 8), .ref (o 9), .ref (o 10), .int ck])), (o 1, .inl (0, 6, .inl (seF dt' (mixK 0 z')))), (o 2, .inl (0, 3, .inl (maF (mixK 0 z')))), (o 3, .inl (0, 3, .inl (plX (mixK 0 z')))), (o 4, .inl (0, 3, .inl (plY (mixK 0 z')))), (o 5, .inl (1, 3, .inr (.inl (moX (mixK 0 z'))))), (o 6, .inl (1, 3, .inr (.inl (moY (mixK 0 z')))))] ++ tw')) ∨ (v = some (.int 0) ∧ set1 T en (.ok g) dt z = none ∧ tokW sc tx sy en T B m g tw' ∧ w' = ([(rd, .inr (6, [.ref sc, .ref md, .ref (o 0)])), (o 0, .inr (2, [.ref (o 1), .ref (o 2), .ref (o 3), .ref (o 4), .ref (o 5), .ref (o 6), .ref (o 7), .ref (o 8), .ref (o 9), .ref (o 10), .int ck])), (o 1, .inl (0, 6, .inl (seF dt (mixK 0 z)))), (o 2, .inl (0, 3, .inl (maF (mixK 0 z)))), (o 3, .inl (0, 3, .inl (plX (mixK 0 z)))), (o 4, .inl (0, 3, .inl (plY (mixK 0 z)))), (o 5, .inl (1, 3, .inr (.inl (moX (mixK 0 z))))), (o 6, .inl (1, 3, .inr (.inl (moY (mixK 0 z)))))] ++ tw'))) (fun q w' => ∃ (c : Int32) (g1 : Nat), set1N T en (.ok g) dt z = .error (c, g1) ∧ w' = [exK 10 c q g1]) := by
  have h := metX7_setting l G hG sc tx sy en T B m hE g tw htw rd md o hs45 hs59 ck dt (mixK 0 z)
  rw [set1N_mix, set1_mix] at h
  refine h.imp2 (fun v w' h9 => ?_) (fun _ _ h => h)
  obtain ⟨tw', h9 | h9⟩ := h9
  · obtain ⟨h1, g', dt', dr', h2, h3, h4⟩ := h9
    cases hs : set1 T en (.ok g) dt z with
    | none => rw [hs] at h2; cases h2
    | some x =>
      rw [hs] at h2
      obtain ⟨x1, x2, x3⟩ := x
      have h2 : some (x1, x2, mixK 0 x3) = some ((.ok g' : PS), dt', dr') := h2
      injection h2 with h2
      injection h2 with e1 e2
      injection e2 with e2 e3
      subst e1 e2 e3
      exact ⟨tw', Or.inl ⟨h1, g', x2, x3, rfl, h3, h4⟩⟩
  · obtain ⟨h1, h2, h3, h4⟩ := h9
    cases hs : set1 T en (.ok g) dt z with
    | none => exact ⟨tw', Or.inr ⟨h1, rfl, h3, h4⟩⟩
    | some x => rw [hs] at h2; cases h2
theorem metX7_bodyM0 (l : Launch) (G : xG) (hG : xGood G) (sc tx sy en : Nat) (T B : Nat → Int32) (m : Nat) (hE : scE G sy en T B m) (g : Nat) (tw : xW) (htw : tokW sc tx sy en T B m g tw) (rd md : Nat) (o : Nat → Nat) (hs45 : syQ B m 45 = true) (hs59 : syQ B m 59 = true) (ck : Int32) (dt z : Nat → Int64) (hpr : prR z 0) (z' : Nat → Int64) (hz : z' = bdR T en 0 (.ok g) z) : xWm l G yX7_body (Cond.code yX7_body cX7_body 3 none) { frames := 10, locals := 258, cells := 6 * (potP T en (.ok g) - potP T en (bd7 T en 0 (.ok g) z)), slots := 50 * (potP T en (.ok g) - potP T en (bd7 T en 0 (.ok g) z)) } [.ref rd, .int 0] ([(rd, .inr (6, [.ref sc, .ref md, .ref (o 0)])), (o 0, .inr (2, [.ref (o 1), .ref (o 2), .ref (o 3), .ref (o 4), .ref (o 5), .ref (o 6), .ref (o 7), .ref (o 8), .ref (o 9), .ref (o 10), .int ck])), (o 1, .inl (0, 6, .inl (seF dt (mixK 0 z)))), (o 2, .inl (0, 3, .inl (maF (mixK 0 z)))), (o 3, .inl (0, 3, .inl (plX (mixK 0 z)))), (o 4, .inl (0, 3, .inl (plY (mixK 0 z)))), (o 5, .inl (1, 3, .inr (.inl (moX (mixK 0 z))))), (o 6, .inl (1, 3, .inr (.inl (moY (mixK 0 z)))))] ++ tw) (fun v w' => ∃ (g' : Nat) (tw' : xW), bd7 T en 0 (.ok g) z = .ok g' ∧ v = none ∧ tokW sc tx sy en T B m g' tw' ∧ w' = ([(rd, .inr (6, [.ref sc, .ref md, .ref (o 0)])), (o 0, .inr (2, [.ref (o 1), .ref (o 2), .ref (o 3), .ref (o 4), .ref (o 5), .ref (o 6), .ref (o 7), .ref (o 8), .ref (o 9), .ref (o 10), .int ck])), (o 1, .inl (0, 6, .inl (seF dt (mixK 1 z')))), (o 2, .inl (0, 3, .inl (maF (mixK 1 z')))), (o 3, .inl (0, 3, .inl (plX (mixK 1 z')))), (o 4, .inl (0, 3, .inl (plY (mixK 1 z')))), (o 5, .inl (1, 3, .inr (.inl (moX (mixK 1 z'))))), (o 6, .inl (1, 3, .inr (.inl (moY (mixK 1 z')))))] ++ tw')) (fun q w' => ∃ (c : Int32) (g1 : Nat), bd7 T en 0 (.ok g) z = .error (c, g1) ∧ w' = [exK 10 c q g1]) := by
  subst hz
  have h := metX7_body0 l G hG sc tx sy en T B m hE g tw htw rd md o hs45 hs59 ck dt (mixK 0 z) (prR_mix hpr)
  rw [bd7_mix (by decide), bdR_mix] at h
  exact h
theorem metX7_bodyM1 (l : Launch) (G : xG) (hG : xGood G) (sc tx sy en : Nat) (T B : Nat → Int32) (m : Nat) (hE : scE G sy en T B m) (g : Nat) (tw : xW) (htw : tokW sc tx sy en T B m g tw) (rd md : Nat) (o : Nat → Nat) (hs45 : syQ B m 45 = true) (hs59 : syQ B m 59 = true) (ck : Int32) (dt z : Nat → Int64) (hpr : prR z 1) (z' : Nat → Int64) (hz : z' = bdR T en 1 (.ok g) z) : xWm l G yX7_body (Cond.code yX7_body cX7_body 3 none) { frames := 10, locals := 258, cells := 6 * (potP T en (.ok g) - potP T en (bd7 T en 1 (.ok g) z)), slots := 50 * (potP T en (.ok g) - potP T en (bd7 T en 1 (.ok g) z)) } [.ref rd, .int 1] ([(rd, .inr (6, [.ref sc, .ref md, .ref (o 0)])), (o 0, .inr (2, [.ref (o 1), .ref (o 2), .ref (o 3), .ref (o 4), .ref (o 5), .ref (o 6), .ref (o 7), .ref (o 8), .ref (o 9), .ref (o 10), .int ck])), (o 1, .inl (0, 6, .inl (seF dt (mixK 1 z)))), (o 2, .inl (0, 3, .inl (maF (mixK 1 z)))), (o 3, .inl (0, 3, .inl (plX (mixK 1 z)))), (o 4, .inl (0, 3, .inl (plY (mixK 1 z)))), (o 5, .inl (1, 3, .inr (.inl (moX (mixK 1 z))))), (o 6, .inl (1, 3, .inr (.inl (moY (mixK 1 z)))))] ++ tw) (fun v w' => ∃ (g' : Nat) (tw' : xW), bd7 T en 1 (.ok g) z = .ok g' ∧ v = none ∧ tokW sc tx sy en T B m g' tw' ∧ w' = ([(rd, .inr (6, [.ref sc, .ref md, .ref (o 0)])), (o 0, .inr (2, [.ref (o 1), .ref (o 2), .ref (o 3), .ref (o 4), .ref (o 5), .ref (o 6), .ref (o 7), .ref (o 8), .ref (o 9), .ref (o 10), .int ck])), (o 1, .inl (0, 6, .inl (seF dt (mixK 2 z')))), (o 2, .inl (0, 3, .inl (maF (mixK 2 z')))), (o 3, .inl (0, 3, .inl (plX (mixK 2 z')))), (o 4, .inl (0, 3, .inl (plY (mixK 2 z')))), (o 5, .inl (1, 3, .inr (.inl (moX (mixK 2 z'))))), (o 6, .inl (1, 3, .inr (.inl (moY (mixK 2 z')))))] ++ tw')) (fun q w' => ∃ (c : Int32) (g1 : Nat), bd7 T en 1 (.ok g) z = .error (c, g1) ∧ w' = [exK 10 c q g1]) := by
  subst hz
  have h := metX7_body1 l G hG sc tx sy en T B m hE g tw htw rd md o hs45 hs59 ck dt (mixK 1 z) (prR_mix hpr)
  rw [bd7_mix (by decide), bdR_mix] at h
  exact h
theorem metX7_bodyM2 (l : Launch) (G : xG) (hG : xGood G) (sc tx sy en : Nat) (T B : Nat → Int32) (m : Nat) (hE : scE G sy en T B m) (g : Nat) (tw : xW) (htw : tokW sc tx sy en T B m g tw) (rd md : Nat) (o : Nat → Nat) (hs45 : syQ B m 45 = true) (hs59 : syQ B m 59 = true) (ck : Int32) (dt z : Nat → Int64) (hpr : prR z 2) (z' : Nat → Int64) (hz : z' = bdR T en 2 (.ok g) z) : xWm l G yX7_body (Cond.code yX7_body cX7_body 3 none) { frames := 10, locals := 258, cells := 6 * (potP T en (.ok g) - potP T en (bd7 T en 2 (.ok g) z)), slots := 50 * (potP T en (.ok g) - potP T en (bd7 T en 2 (.ok g) z)) } [.ref rd, .int 2] ([(rd, .inr (6, [.ref sc, .ref md, .ref (o 0)])), (o 0, .inr (2, [.ref (o 1), .ref (o 2), .ref (o 3), .ref (o 4), .ref (o 5), .ref (o 6), .ref (o 7), .ref (o 8), .ref (o 9), .ref (o 10), .int ck])), (o 1, .inl (0, 6, .inl (seF dt (mixK 2 z)))), (o 2, .inl (0, 3, .inl (maF (mixK 2 z)))), (o 3, .inl (0, 3, .inl (plX (mixK 2 z)))), (o 4, .inl (0, 3, .inl (plY (mixK 2 z)))), (o 5, .inl (1, 3, .inr (.inl (moX (mixK 2 z))))), (o 6, .inl (1, 3, .inr (.inl (moY (mixK 2 z)))))] ++ tw) (fun v w' => ∃ (g' : Nat) (tw' : xW), bd7 T en 2 (.ok g) z = .ok g' ∧ v = none ∧ tokW sc tx sy en T B m g' tw' ∧ w' = ([(rd, .inr (6, [.ref sc, .ref md, .ref (o 0)])), (o 0, .inr (2, [.ref (o 1), .ref (o 2), .ref (o 3), .ref (o 4), .ref (o 5), .ref (o 6), .ref (o 7), .ref (o 8), .ref (o 9), .ref (o 10), .int ck])), (o 1, .inl (0, 6, .inl (seF dt (mixK 3 z')))), (o 2, .inl (0, 3, .inl (maF (mixK 3 z')))), (o 3, .inl (0, 3, .inl (plX (mixK 3 z')))), (o 4, .inl (0, 3, .inl (plY (mixK 3 z')))), (o 5, .inl (1, 3, .inr (.inl (moX (mixK 3 z'))))), (o 6, .inl (1, 3, .inr (.inl (moY (mixK 3 z')))))] ++ tw')) (fun q w' => ∃ (c : Int32) (g1 : Nat), bd7 T en 2 (.ok g) z = .error (c, g1) ∧ w' = [exK 10 c q g1]) := by
  subst hz
  have h := metX7_body2 l G hG sc tx sy en T B m hE g tw htw rd md o hs45 hs59 ck dt (mixK 2 z) (prR_mix hpr)
  rw [bd7_mix (by decide), bdR_mix] at h
  exact h
theorem rd_catch {C : xC} {F : Nat → Prop} {V0 : xV} {rm : Room} (hG : xGood (xGG C)) (hC : xCtx C RX7 cX7_read 3 (some (.object "ThreeBodies$State")) rm) (hTab : xTab C [((0 : Nat), (50 : Nat), (53 : Nat), (126 : Nat)), ((0 : Nat), (50 : Nat), (53 : Nat), (128 : Nat)), ((0 : Nat), (50 : Nat), (53 : Nat), (104 : Nat))]) {k n pc : Nat} {lv : List (Nat × Value)} {st : List Value} {wr : xW} {c : Int32} {g1 q : Nat} (hcov : ∀ ct : Nat, covers (⟨0, 50, 53, ct⟩ : ExceptionTableEntry) pc = true) (kk : rn C (xSt F V0 (wr ++ [exK 10 c q g1])) k n 53 lv [.ref q]) : rx C (xSt F V0 (wr ++ [exK 10 c q g1])) k n pc lv st q := by
  by_cases h1 : c = 1
  · subst h1
    exact rx_catch hC hG kX10 hTab [] ⟨0, 50, 53, 126⟩ [⟨0, 50, 53, 128⟩, ⟨0, 50, 53, 104⟩] rfl (fun _ h => by cases h) (hcov _) (by decide) q1313 q1352 (fun _ h => ⟨_, h.mem (e := .inr (8, [.int (nI g1), .null, .null, .null, .null, .null, .int 0])) (List.mem_append_right _ List.mem_cons_self)⟩) kk
  · by_cases h2 : c = 2
    · subst h2
      exact rx_catch hC hG kX11 hTab [⟨0, 50, 53, 126⟩] ⟨0, 50, 53, 128⟩ [⟨0, 50, 53, 104⟩] rfl (List.forall_mem_cons.mpr ⟨Or.inr ⟨by decide, "ThreeBodies$SyntaxException", q1313, (nr_at 347 rfl)⟩, fun _ h => by cases h⟩) (hcov _) (by decide) q1314 q1374 (fun _ h => ⟨_, h.mem (e := .inr (9, [.int (nI g1), .null, .null, .null, .null, .null, .int 0])) (List.mem_append_right _ List.mem_cons_self)⟩) kk
    · have e : exK 10 c q g1 = (q, .inr (10, [.int (nI g1), .null, .null, .null, .null, .null, .int 0])) := by unfold exK; rw [if_neg h1, if_neg h2]
      exact rx_catch hC hG kX12 hTab [⟨0, 50, 53, 126⟩, ⟨0, 50, 53, 128⟩] ⟨0, 50, 53, 104⟩ [] rfl (List.forall_mem_cons.mpr ⟨Or.inr ⟨by decide, "ThreeBodies$SyntaxException", q1313, (nr_at 348 rfl)⟩, List.forall_mem_cons.mpr ⟨Or.inr ⟨by decide, "ThreeBodies$RangeException", q1314, (nr_at 380 rfl)⟩, fun _ h => by cases h⟩⟩) (hcov _) (by decide) q1315 q1427 (fun _ h => ⟨_, h.mem (e := .inr (10, [.int (nI g1), .null, .null, .null, .null, .null, .int 0])) (List.mem_append_right _ (by rw [e]; exact List.mem_cons_self))⟩) kk
set_option maxHeartbeats 4000000 in
set_option maxRecDepth 100000 in
theorem lpX7_read {C : xC} {F : Nat → Prop} {V0 : xV} (hG : xGood (xGG C)) (hC : xCtx C RX7 cX7_read 3 (some (.object "ThreeBodies$State")) { frames := 12, locals := 295, cells := 3622, slots := 30140 }) (hTab : xTab C [((0 : Nat), (50 : Nat), (53 : Nat), (126 : Nat)), ((0 : Nat), (50 : Nat), (53 : Nat), (128 : Nat)), ((0 : Nat), (50 : Nat), (53 : Nat), (104 : Nat))]) (sc tx sy en : Nat) (T B : Nat → Int32) (m : Nat) (hE : scE (xGG C) sy en T B m) (rd : Nat) (o u : Nat → Nat) (hs45 : syQ B m 45 = true) (hs59 : syQ B m 59 = true) (ck : Int32) (lo hi : Int64) (Rr : PS × (Nat → Int64) × (Nat → Int64)) (kx : ∀ (g' : Nat) (tw' : xW) (k' n' : Nat), Rr.1 = .ok g' → tokW sc tx sy en T B m g' tw' → k' + 6 * potP T en (.ok g') ≤ 3612 → n' + 50 * potP T en (.ok g') ≤ 30100 → rn C (xSt F V0 ([(rd, .inr (6, [.ref sc, .ref (u 0), .ref (o 0)])), (u 0, .inr (1, [.ref (o 0), .ref (u 1), .ref (u 2), .ref (u 3), .int (nI 0), .int 0, .long lo, .long hi])), (o 0, .inr (2, [.ref (o 1), .ref (o 2), .ref (o 3), .ref (o 4), .ref (o 5), .ref (o 6), .ref (o 7), .ref (o 8), .ref (o 9), .ref (o 10), .int ck])), (o 1, .inl (0, 6, .inl (seF Rr.2.1 (mixK 0 Rr.2.2)))), (o 2, .inl (0, 3, .inl (maF (mixK 0 Rr.2.2)))), (o 3, .inl (0, 3, .inl (plX (mixK 0 Rr.2.2)))), (o 4, .inl (0, 3, .inl (plY (mixK 0 Rr.2.2)))), (o 5, .inl (1, 3, .inr (.inl (moX (mixK 0 Rr.2.2))))), (o 6, .inl (1, 3, .inr (.inl (moY (mixK 0 Rr.2.2)))))] ++ tw')) k' n' 14 [(0, .ref rd)] []) (kE : ∀ (c : Int32) (g1 q k' n' : Nat), Rr.1 = .error (c, g1) → k' ≤ 3612 → n' ≤ 30100 → rn C (xSt F V0 [exK 10 c q g1]) k' n' 53 [(0, .ref rd)] [.ref q]) : ∀ (f g : Nat) (tw : xW) (dt z : Nat → Int64) (k n : Nat), tokW sc tx sy en T B m g tw → muP en (.ok g) ≤ f → k + 6 * potP T en (.ok g) ≤ 3612 → n + 50 * potP T en (.ok g) ≤ 30100 → setL T en f (.ok g) dt z = Rr → rn C (xSt F V0 ([(rd, .inr (6, [.ref sc, .ref (u 0), .ref (o 0)])), (u 0, .inr (1, [.ref (o 0), .ref (u 1), .ref (u 2), .ref (u 3), .int (nI 0), .int 0, .long lo, .long hi])), (o 0, .inr (2, [.ref (o 1), .ref (o 2), .ref (o 3), .ref (o 4), .ref (o 5), .ref (o 6), .ref (o 7), .ref (o 8), .ref (o 9), .ref (o 10), .int ck])), (o 1, .inl (0, 6, .inl (seF dt (mixK 0 z)))), (o 2, .inl (0, 3, .inl (maF (mixK 0 z)))), (o 3, .inl (0, 3, .inl (plX (mixK 0 z)))), (o 4, .inl (0, 3, .inl (plY (mixK 0 z)))), (o 5, .inl (1, 3, .inr (.inl (moX (mixK 0 z))))), (o 6, .inl (1, 3, .inr (.inl (moY (mixK 0 z)))))] ++ tw)) k n 2 [(1, .int 1), (0, .ref rd)] [] := by
  intro f
  induction f with
  | zero =>
    intro g tw dt z k n htw hmu hk hn hR
    exact absurd (show en - g + 1 ≤ 0 from hmu) (by omega)
  | succ f ih =>
    intro g tw dt z k n htw hmu hk hn hR
    refine r_iload_n hC 0 dX7_read_2 rfl 3 rfl ?_
    refine r_ifeq hC 14 dX7_read_3 (by decide) 6 rfl (fun h => absurd h (by decide)) (fun _ => ?_)
    refine r_aload_n hC 1 dX7_read_6 rfl 7 rfl ?_
    have hps := pot_set1 (T := T) (en := en) (ps := .ok g) (dt := dt) (dr := z)
    refine xCall.ct (wcx := [(rd, .inr (6, [.ref sc, .ref (u 0), .ref (o 0)])), (o 0, .inr (2, [.ref (o 1), .ref (o 2), .ref (o 3), .ref (o 4), .ref (o 5), .ref (o 6), .ref (o 7), .ref (o 8), .ref (o 9), .ref (o 10), .int ck])), (o 1, .inl (0, 6, .inl (seF dt (mixK 0 z)))), (o 2, .inl (0, 3, .inl (maF (mixK 0 z)))), (o 3, .inl (0, 3, .inl (plX (mixK 0 z)))), (o 4, .inl (0, 3, .inl (plY (mixK 0 z)))), (o 5, .inl (1, 3, .inr (.inl (moX (mixK 0 z))))), (o 6, .inl (1, 3, .inr (.inl (moY (mixK 0 z)))))]) (wr := [(u 0, .inr (1, [.ref (o 0), .ref (u 1), .ref (u 2), .ref (u 3), .int (nI 0), .int 0, .long lo, .long hi]))]) (r_cV hC kX7 rd [] mVX7_setting q1316 (fun _ h => ⟨_, h.get 0 rfl⟩) (fun V9 h9 => (metX7_settingM _ _ hG sc tx sy en T B m hE g tw htw rd (u 0) o hs45 hs59 ck dt z) V9 (h9.in.cut (wcx := [(rd, .inr (6, [.ref sc, .ref (u 0), .ref (o 0)])), (o 0, .inr (2, [.ref (o 1), .ref (o 2), .ref (o 3), .ref (o 4), .ref (o 5), .ref (o 6), .ref (o 7), .ref (o 8), .ref (o 9), .ref (o 10), .int ck])), (o 1, .inl (0, 6, .inl (seF dt (mixK 0 z)))), (o 2, .inl (0, 3, .inl (maF (mixK 0 z)))), (o 3, .inl (0, 3, .inl (plX (mixK 0 z)))), (o 4, .inl (0, 3, .inl (plY (mixK 0 z)))), (o 5, .inl (1, 3, .inr (.inl (moX (mixK 0 z))))), (o 6, .inl (1, 3, .inr (.inl (moY (mixK 0 z)))))]) (wr := [(u 0, .inr (1, [.ref (o 0), .ref (u 1), .ref (u 2), .ref (u 3), .int (nI 0), .int 0, .long lo, .long hi]))]) [0, 2, 3, 4, 5, 6, 7, 8] [1] 9 rfl rfl rfl rfl)) ⟨rfl, rfl⟩ (by first | omega | (dsimp only; omega)) (by first | omega | (dsimp only; omega)) rfl (Nat.le_of_ble_eq_true rfl) dX7_read_7) [0, 2, 3, 4, 5, 6, 7, 8] [1] 9 rfl rfl rfl rfl (k + 6 * (potP T en (.ok g) - potP T en (set1N T en (.ok g) dt z))) (n + 50 * (potP T en (.ok g) - potP T en (set1N T en (.ok g) dt z))) 10 rfl rfl rfl (fun v9 w9 h9 => ?_) (fun q9 w9 h9 => ?_)
    · obtain ⟨tw2, ⟨rfl, g2, dt2, z2, hs, ht2, rfl⟩ | ⟨rfl, hs, ht2, rfl⟩⟩ := h9
      · skip
        refine rn.mono (J := xSt F V0 ([(u 0, .inr (1, [.ref (o 0), .ref (u 1), .ref (u 2), .ref (u 3), .int (nI 0), .int 0, .long lo, .long hi])), (rd, .inr (6, [.ref sc, .ref (u 0), .ref (o 0)])), (o 0, .inr (2, [.ref (o 1), .ref (o 2), .ref (o 3), .ref (o 4), .ref (o 5), .ref (o 6), .ref (o 7), .ref (o 8), .ref (o 9), .ref (o 10), .int ck])), (o 1, .inl (0, 6, .inl (seF dt2 (mixK 0 z2)))), (o 2, .inl (0, 3, .inl (maF (mixK 0 z2)))), (o 3, .inl (0, 3, .inl (plX (mixK 0 z2)))), (o 4, .inl (0, 3, .inl (plY (mixK 0 z2)))), (o 5, .inl (1, 3, .inr (.inl (moX (mixK 0 z2))))), (o 6, .inl (1, 3, .inr (.inl (moY (mixK 0 z2)))))] ++ tw2)) (fun _ h => by rw [← List.append_assoc] at h; exact h) ?_
        show rn C (xSt F V0 ([(u 0, .inr (1, [.ref (o 0), .ref (u 1), .ref (u 2), .ref (u 3), .int (nI 0), .int 0, .long lo, .long hi])), (rd, .inr (6, [.ref sc, .ref (u 0), .ref (o 0)])), (o 0, .inr (2, [.ref (o 1), .ref (o 2), .ref (o 3), .ref (o 4), .ref (o 5), .ref (o 6), .ref (o 7), .ref (o 8), .ref (o 9), .ref (o 10), .int ck])), (o 1, .inl (0, 6, .inl (seF dt2 (mixK 0 z2)))), (o 2, .inl (0, 3, .inl (maF (mixK 0 z2)))), (o 3, .inl (0, 3, .inl (plX (mixK 0 z2)))), (o 4, .inl (0, 3, .inl (plY (mixK 0 z2)))), (o 5, .inl (1, 3, .inr (.inl (moX (mixK 0 z2))))), (o 6, .inl (1, 3, .inr (.inl (moY (mixK 0 z2)))))] ++ tw2)) (k + 6 * (potP T en (.ok g) - potP T en (set1N T en (.ok g) dt z))) (n + 50 * (potP T en (.ok g) - potP T en (set1N T en (.ok g) dt z))) 10 [(1, .int 1), (0, .ref rd)] [.int 1]
        refine r_istore_n hC 1 [(1, .int 1), (0, .ref rd)] dX7_read_10 rfl (Nat.le_of_ble_eq_true rfl) rfl 11 rfl ?_
        refine r_goto hC 2 dX7_read_11 (by decide) ?_
        refine rn.mono (J := xSt F V0 ([(rd, .inr (6, [.ref sc, .ref (u 0), .ref (o 0)])), (u 0, .inr (1, [.ref (o 0), .ref (u 1), .ref (u 2), .ref (u 3), .int (nI 0), .int 0, .long lo, .long hi])), (o 0, .inr (2, [.ref (o 1), .ref (o 2), .ref (o 3), .ref (o 4), .ref (o 5), .ref (o 6), .ref (o 7), .ref (o 8), .ref (o 9), .ref (o 10), .int ck])), (o 1, .inl (0, 6, .inl (seF dt2 (mixK 0 z2)))), (o 2, .inl (0, 3, .inl (maF (mixK 0 z2)))), (o 3, .inl (0, 3, .inl (plX (mixK 0 z2)))), (o 4, .inl (0, 3, .inl (plY (mixK 0 z2)))), (o 5, .inl (1, 3, .inr (.inl (moX (mixK 0 z2))))), (o 6, .inl (1, 3, .inr (.inl (moY (mixK 0 z2)))))] ++ tw2)) (fun _ h => h.ordT [1, 0, 2, 3, 4, 5, 6, 7, 8] 9 rfl rfl rfl) ?_
        refine rn.sub (lv' := [(1, .int 1), (0, .ref rd)]) [0, 1] rfl ?_
        have e9 : set1N T en (.ok g) dt z = .ok g2 := by unfold set1N; rw [hs]
        have e8 : potP T en (set1N T en (.ok g) dt z) = potP T en (.ok g2) := by rw [e9]
        exact ih g2 tw2 dt2 z2 _ _ ht2 (by have := mu_set1 hs; dsimp only at this; omega) (by omega) (by omega) (by rw [← hR, setL, hs])
      · skip
        refine rn.mono (J := xSt F V0 ([(u 0, .inr (1, [.ref (o 0), .ref (u 1), .ref (u 2), .ref (u 3), .int (nI 0), .int 0, .long lo, .long hi])), (rd, .inr (6, [.ref sc, .ref (u 0), .ref (o 0)])), (o 0, .inr (2, [.ref (o 1), .ref (o 2), .ref (o 3), .ref (o 4), .ref (o 5), .ref (o 6), .ref (o 7), .ref (o 8), .ref (o 9), .ref (o 10), .int ck])), (o 1, .inl (0, 6, .inl (seF dt (mixK 0 z)))), (o 2, .inl (0, 3, .inl (maF (mixK 0 z)))), (o 3, .inl (0, 3, .inl (plX (mixK 0 z)))), (o 4, .inl (0, 3, .inl (plY (mixK 0 z)))), (o 5, .inl (1, 3, .inr (.inl (moX (mixK 0 z))))), (o 6, .inl (1, 3, .inr (.inl (moY (mixK 0 z)))))] ++ tw2)) (fun _ h => by rw [← List.append_assoc] at h; exact h) ?_
        show rn C (xSt F V0 ([(u 0, .inr (1, [.ref (o 0), .ref (u 1), .ref (u 2), .ref (u 3), .int (nI 0), .int 0, .long lo, .long hi])), (rd, .inr (6, [.ref sc, .ref (u 0), .ref (o 0)])), (o 0, .inr (2, [.ref (o 1), .ref (o 2), .ref (o 3), .ref (o 4), .ref (o 5), .ref (o 6), .ref (o 7), .ref (o 8), .ref (o 9), .ref (o 10), .int ck])), (o 1, .inl (0, 6, .inl (seF dt (mixK 0 z)))), (o 2, .inl (0, 3, .inl (maF (mixK 0 z)))), (o 3, .inl (0, 3, .inl (plX (mixK 0 z)))), (o 4, .inl (0, 3, .inl (plY (mixK 0 z)))), (o 5, .inl (1, 3, .inr (.inl (moX (mixK 0 z))))), (o 6, .inl (1, 3, .inr (.inl (moY (mixK 0 z)))))] ++ tw2)) (k + 6 * (potP T en (.ok g) - potP T en (set1N T en (.ok g) dt z))) (n + 50 * (potP T en (.ok g) - potP T en (set1N T en (.ok g) dt z))) 10 [(1, .int 1), (0, .ref rd)] [.int 0]
        refine r_istore_n hC 1 [(1, .int 0), (0, .ref rd)] dX7_read_10 rfl (Nat.le_of_ble_eq_true rfl) rfl 11 rfl ?_
        refine r_goto hC 2 dX7_read_11 (by decide) ?_
        refine r_iload_n hC 0 dX7_read_2 rfl 3 rfl ?_
        refine r_ifeq hC 14 dX7_read_3 (by decide) 6 rfl (fun _ => ?_) (fun h => absurd h (by decide))
        have e9 : setL T en (f + 1) (.ok g) dt z = (.ok g, dt, z) := by rw [setL, hs]
        obtain rfl := hR.symm.trans e9
        refine rn.mono (J := xSt F V0 ([(rd, .inr (6, [.ref sc, .ref (u 0), .ref (o 0)])), (u 0, .inr (1, [.ref (o 0), .ref (u 1), .ref (u 2), .ref (u 3), .int (nI 0), .int 0, .long lo, .long hi])), (o 0, .inr (2, [.ref (o 1), .ref (o 2), .ref (o 3), .ref (o 4), .ref (o 5), .ref (o 6), .ref (o 7), .ref (o 8), .ref (o 9), .ref (o 10), .int ck])), (o 1, .inl (0, 6, .inl (seF dt (mixK 0 z)))), (o 2, .inl (0, 3, .inl (maF (mixK 0 z)))), (o 3, .inl (0, 3, .inl (plX (mixK 0 z)))), (o 4, .inl (0, 3, .inl (plY (mixK 0 z)))), (o 5, .inl (1, 3, .inr (.inl (moX (mixK 0 z))))), (o 6, .inl (1, 3, .inr (.inl (moY (mixK 0 z)))))] ++ tw2)) (fun _ h => h.ordT [1, 0, 2, 3, 4, 5, 6, 7, 8] 9 rfl rfl rfl) ?_
        refine rn.sub (lv' := [(0, .ref rd)]) [1] rfl ?_
        have e8 : potP T en (set1N T en (.ok g) dt z) = potP T en (.ok g) := by unfold set1N; rw [hs]
        exact kx g tw2 _ _ rfl ht2 (by omega) (by omega)
    · obtain ⟨c9, g9, hx9, rfl⟩ := h9
      refine rd_catch hG hC hTab (fun _ => by decide) ?_
      refine rn.mono (J := xSt F V0 [exK 10 c9 q9 g9]) (fun _ h => h.sub [1] rfl rfl) ?_
      refine rn.sub (lv' := [(0, .ref rd)]) [1] rfl ?_
      have e8 : potP T en (set1N T en (.ok g) dt z) = 0 := by rw [hx9]; rfl
      exact kE c9 g9 q9 _ _ (by rw [← hR]; exact setL_err hx9) (by omega) (by omega)
set_option maxHeartbeats 4000000 in
set_option maxRecDepth 100000 in
theorem metX7_read (l : Launch) (G : xG) (hG : xGood G) (sc tx sy en : Nat) (T B : Nat → Int32) (m : Nat) (hE : scE G sy en T B m) (g : Nat) (tw : xW) (htw : tokW sc tx sy en T B m g tw) (rd : Nat) (o u : Nat → Nat) (hs45 : syQ B m 45 = true) (hs59 : syQ B m 59 = true) (lo hi : Int64) (hg0 : g = tBeg T en 0) (ck0 : Int32) (hck : ck0 = (rowC 0).toInt32) : xWm l G yX7_read (Cond.codeWith yX7_read cX7_read 3 (some (.object "ThreeBodies$State")) [((0 : Nat), (50 : Nat), (53 : Nat), (126 : Nat)), ((0 : Nat), (50 : Nat), (53 : Nat), (128 : Nat)), ((0 : Nat), (50 : Nat), (53 : Nat), (104 : Nat))]) { frames := 12, locals := 295, cells := 3622, slots := 30140 } [.ref rd] ([(rd, .inr (6, [.ref sc, .ref (u 0), .ref (o 0)])), (u 0, .inr (1, [.ref (o 0), .ref (u 1), .ref (u 2), .ref (u 3), .int (nI 0), .int 0, .long lo, .long hi])), (o 0, .inr (2, [.ref (o 1), .ref (o 2), .ref (o 3), .ref (o 4), .ref (o 5), .ref (o 6), .ref (o 7), .ref (o 8), .ref (o 9), .ref (o 10), .int ck0])), (o 1, .inl (0, 6, .inl (seF told0 rowC))), (o 2, .inl (0, 3, .inl (maF rowC))), (o 3, .inl (0, 3, .inl (plX rowC))), (o 4, .inl (0, 3, .inl (plY rowC))), (o 5, .inl (1, 3, .inr (.inl (moX rowC)))), (o 6, .inl (1, 3, .inr (.inl (moY rowC))))] ++ tw) (fun v w' => v = some (.ref (u 0)) ∧ okP (ldP T en) = true ∧ ∃ (tw' : xW), w' = ([(rd, .inr (6, [.ref sc, .ref (u 0), .ref (o 0)])), (u 0, .inr (1, [.ref (o 0), .ref (u 1), .ref (u 2), .ref (u 3), .int (nI 0), .int 0, .long (enQ ((ldS T en).2.1) (ldR T en)), .long (enQ ((ldS T en).2.1) (ldR T en))])), (o 0, .inr (2, [.ref (o 1), .ref (o 2), .ref (o 3), .ref (o 4), .ref (o 5), .ref (o 6), .ref (o 7), .ref (o 8), .ref (o 9), .ref (o 10), .int (((ldR T en) 0).toInt32)])), (o 1, .inl (0, 6, .inl (seF ((ldS T en).2.1) (ldR T en)))), (o 2, .inl (0, 3, .inl (maF (ldR T en)))), (o 3, .inl (0, 3, .inl (plX (ldR T en)))), (o 4, .inl (0, 3, .inl (plY (ldR T en)))), (o 5, .inl (1, 3, .inr (.inl (moX (ldR T en))))), (o 6, .inl (1, 3, .inr (.inl (moY (ldR T en)))))] ++ tw')) (fun q w' => ∃ (c : Int32) (g1 q1 : Nat), ldP T en = .error (c, g1) ∧ w' = [(q, .inr (11, [.ref q1, .null, .null, .null, .null, .int 0])), exK 10 c q1 g1]) := by
  intro V hV
  refine xMet_ofW RX7 hG rfl (by decide) (Nat.le_of_ble_eq_true rfl) fun C hC hQ hX hl hg _ hTab => ?_
  subst hl hg
  obtain ⟨V0, hV0⟩ : ∃ V0, V0 = V := ⟨_, rfl⟩
  obtain ⟨F, hF⟩ : ∃ F, F = xF ([(rd, .inr (6, [.ref sc, .ref (u 0), .ref (o 0)])), (u 0, .inr (1, [.ref (o 0), .ref (u 1), .ref (u 2), .ref (u 3), .int (nI 0), .int 0, .long lo, .long hi])), (o 0, .inr (2, [.ref (o 1), .ref (o 2), .ref (o 3), .ref (o 4), .ref (o 5), .ref (o 6), .ref (o 7), .ref (o 8), .ref (o 9), .ref (o 10), .int ck0])), (o 1, .inl (0, 6, .inl (seF told0 rowC))), (o 2, .inl (0, 3, .inl (maF rowC))), (o 3, .inl (0, 3, .inl (plX rowC))), (o 4, .inl (0, 3, .inl (plY rowC))), (o 5, .inl (1, 3, .inr (.inl (moX rowC)))), (o 6, .inl (1, 3, .inr (.inl (moY rowC))))] ++ tw) := ⟨_, rfl⟩
  refine rn.mono (J := xSt F V0 ([(rd, .inr (6, [.ref sc, .ref (u 0), .ref (o 0)])), (u 0, .inr (1, [.ref (o 0), .ref (u 1), .ref (u 2), .ref (u 3), .int (nI 0), .int 0, .long lo, .long hi])), (o 0, .inr (2, [.ref (o 1), .ref (o 2), .ref (o 3), .ref (o 4), .ref (o 5), .ref (o 6), .ref (o 7), .ref (o 8), .ref (o 9), .ref (o 10), .int ck0])), (o 1, .inl (0, 6, .inl (seF told0 rowC))), (o 2, .inl (0, 3, .inl (maF rowC))), (o 3, .inl (0, 3, .inl (plX rowC))), (o 4, .inl (0, 3, .inl (plY rowC))), (o 5, .inl (1, 3, .inr (.inl (moX rowC)))), (o 6, .inl (1, 3, .inr (.inl (moY rowC))))] ++ tw)) (fun V9 h => by rw [h, hV0, hF]; exact hV.st) ?_
  show rn C (xSt F V0 ([(rd, .inr (6, [.ref sc, .ref (u 0), .ref (o 0)])), (u 0, .inr (1, [.ref (o 0), .ref (u 1), .ref (u 2), .ref (u 3), .int (nI 0), .int 0, .long lo, .long hi])), (o 0, .inr (2, [.ref (o 1), .ref (o 2), .ref (o 3), .ref (o 4), .ref (o 5), .ref (o 6), .ref (o 7), .ref (o 8), .ref (o 9), .ref (o 10), .int ck0])), (o 1, .inl (0, 6, .inl (seF told0 rowC))), (o 2, .inl (0, 3, .inl (maF rowC))), (o 3, .inl (0, 3, .inl (plX rowC))), (o 4, .inl (0, 3, .inl (plY rowC))), (o 5, .inl (1, 3, .inr (.inl (moX rowC)))), (o 6, .inl (1, 3, .inr (.inl (moY rowC))))] ++ tw)) 0 0 0 [(0, .ref rd)] []
  refine r_iconst hC 1 dX7_read_0 ic_1 1 rfl ?_
  refine r_istore_n hC 1 [(1, .int 1), (0, .ref rd)] dX7_read_1 rfl (Nat.le_of_ble_eq_true rfl) rfl 2 rfl ?_
  have hE9 : ∀ (c : Int32) (g1 q k' n' : Nat), ldP T en = .error (c, g1) → k' ≤ 3613 → n' ≤ 30120 → rn C (xSt F V0 [exK 10 c q g1]) k' n' 53 [(0, .ref rd)] [.ref q] := by
    intro c g1 q k' n' hlp hk9 hn9
    refine r_astore_n hC 1 [(1, .ref q), (0, .ref rd)] dX7_read_53 rfl (Nat.le_of_ble_eq_true rfl) rfl 54 rfl ?_
    refine r_new (J := fun q1 => xSt F V0 [exK 10 c q g1, (q1, .inr (11, [.null, .null, .null, .null, .null, .int 0]))]) hC [.null, .null, .null, .null, .null, .int 0] kX13 q1442 q1443 q130 dfX13 (by first | omega | (dsimp only; omega)) (by first | omega | (dsimp only; omega)) dX7_read_54 (fun _ h => h.push _) 57 rfl (fun q1 => ?_)
    show rn C (xSt F V0 [exK 10 c q g1, (q1, .inr (11, [.null, .null, .null, .null, .null, .int 0]))]) (k' + 1) (n' + 6) 57 [(1, .ref q), (0, .ref rd)] [.ref q1]
    refine r_dup hC dX7_read_57 rfl 58 rfl ?_
    refine r_aload_n hC 0 dX7_read_58 rfl 59 rfl ?_
    refine xCall.w (wr := [exK 10 c q g1]) (r_cI hC q1 [.ref q] mIX13_init q1451 (fun V9 h9 => (metX13_init _ _ hG q1 q) V9 (h9.in.sub [1] rfl rfl)) ⟨rfl, rfl⟩ (by first | omega | (dsimp only; omega)) (by first | omega | (dsimp only; omega)) rfl (Nat.le_of_ble_eq_true rfl) dX7_read_59) [1] [0] rfl rfl rfl (by decide) ((k' + 1) + 0) ((n' + 6) + 0) 62 rfl rfl rfl (fun v2 w3 h4 => ?_) (fun _ _ h => h.elim)
    obtain ⟨rfl, rfl⟩ := h4
    show rn C (xSt F V0 [exK 10 c q g1, (q1, .inr (11, [.ref q, .null, .null, .null, .null, .int 0]))]) ((k' + 1) + 0) ((n' + 6) + 0) 62 [(1, .ref q), (0, .ref rd)] [.ref q1]
    refine r_athrow hC (fun _ h => h.get 1 rfl) dX7_read_62 ?_
    exact rx_out hC hTab (by decide) (by first | omega | (dsimp only; omega)) (by first | omega | (dsimp only; omega)) (fun V9 h => hX _ _ ⟨[(q1, .inr (11, [.ref q, .null, .null, .null, .null, .int 0])), exK 10 c q g1], ⟨c, g1, q, hlp, rfl⟩, by rw [← hV0, ← hF]; exact h.sub [1, 0] rfl rfl⟩)
  have hp0 := pot_le (T := T) (g := g) hE.1
  refine rn.sub (lv' := [(1, .int 1), (0, .ref rd)]) [0, 1] rfl ?_
  refine rn.mono (J := xSt F V0 ([(rd, .inr (6, [.ref sc, .ref (u 0), .ref (o 0)])), (u 0, .inr (1, [.ref (o 0), .ref (u 1), .ref (u 2), .ref (u 3), .int (nI 0), .int 0, .long lo, .long hi])), (o 0, .inr (2, [.ref (o 1), .ref (o 2), .ref (o 3), .ref (o 4), .ref (o 5), .ref (o 6), .ref (o 7), .ref (o 8), .ref (o 9), .ref (o 10), .int ck0])), (o 1, .inl (0, 6, .inl (seF told0 (mixK 0 z0)))), (o 2, .inl (0, 3, .inl (maF (mixK 0 z0)))), (o 3, .inl (0, 3, .inl (plX (mixK 0 z0)))), (o 4, .inl (0, 3, .inl (plY (mixK 0 z0)))), (o 5, .inl (1, 3, .inr (.inl (moX (mixK 0 z0))))), (o 6, .inl (1, 3, .inr (.inl (moY (mixK 0 z0)))))] ++ tw)) (fun _ h => by rw [rowC_mix] at h; exact h) ?_
  refine lpX7_read hG hC hTab sc tx sy en T B m hE rd o u hs45 hs59 ck0 lo hi (ldS T en) (fun g3 tw3 k3 n3 hR3 ht3 hk3 hn3 => ?_) (fun c9 g9 q9 k9 n9 hR9 hk9 hn9 => hE9 c9 g9 q9 k9 n9 (ld_e3 (ld_e2 (ld_e1 (ld_e0 hR9)))) (by omega) (by omega)) (en + 1) g tw told0 z0 0 0 htw (by show en - g + 1 ≤ en + 1; omega) (by omega) (by omega) (by unfold ldS; rw [hg0])
  have hq1 : potP T en (ldB1 T en) ≤ potP T en (ldS T en).1 := pot_bd7
  have hq2 : potP T en (ldB2 T en) ≤ potP T en (ldB1 T en) := pot_bd7
  have hq3 : potP T en (ldB3 T en) ≤ potP T en (ldB2 T en) := pot_bd7
  have hq0 : potP T en (ldS T en).1 = potP T en (.ok g3) := by rw [hR3]
  show rn C (xSt F V0 ([(rd, .inr (6, [.ref sc, .ref (u 0), .ref (o 0)])), (u 0, .inr (1, [.ref (o 0), .ref (u 1), .ref (u 2), .ref (u 3), .int (nI 0), .int 0, .long lo, .long hi])), (o 0, .inr (2, [.ref (o 1), .ref (o 2), .ref (o 3), .ref (o 4), .ref (o 5), .ref (o 6), .ref (o 7), .ref (o 8), .ref (o 9), .ref (o 10), .int ck0])), (o 1, .inl (0, 6, .inl (seF ((ldS T en).2.1) (mixK 0 ((ldS T en).2.2))))), (o 2, .inl (0, 3, .inl (maF (mixK 0 ((ldS T en).2.2))))), (o 3, .inl (0, 3, .inl (plX (mixK 0 ((ldS T en).2.2))))), (o 4, .inl (0, 3, .inl (plY (mixK 0 ((ldS T en).2.2))))), (o 5, .inl (1, 3, .inr (.inl (moX (mixK 0 ((ldS T en).2.2)))))), (o 6, .inl (1, 3, .inr (.inl (moY (mixK 0 ((ldS T en).2.2))))))] ++ tw3)) k3 n3 14 [(0, .ref rd)] []
  refine r_iconst hC 0 dX7_read_14 ic_0 15 rfl ?_
  refine r_istore_n hC 2 [(2, .int 0), (0, .ref rd)] dX7_read_15 rfl (Nat.le_of_ble_eq_true rfl) rfl 16 rfl ?_
  refine r_iload_n hC 0 dX7_read_16 rfl 17 rfl ?_
  refine r_iconst hC 3 dX7_read_17 ic_3 18 rfl ?_
  refine r_icge hC 32 dX7_read_18 (by decide) 21 rfl (fun h => absurd h (by decide)) (fun _ => ?_)
  refine r_aload_n hC 1 dX7_read_21 rfl 22 rfl ?_
  refine r_iload_n hC 0 dX7_read_22 rfl 23 rfl ?_
  have : potP T en (bd7 T en 0 (.ok g3) ((ldS T en).2.2)) = potP T en (ldB1 T en) := by show _ = potP T en (bd7 T en 0 ((ldS T en).1) ((ldS T en).2.2)); rw [hR3]
  have : potP T en (.ok g3) = potP T en ((ldS T en).1) := by rw [hR3]
  refine xCall.ct (wcx := [(rd, .inr (6, [.ref sc, .ref (u 0), .ref (o 0)])), (o 0, .inr (2, [.ref (o 1), .ref (o 2), .ref (o 3), .ref (o 4), .ref (o 5), .ref (o 6), .ref (o 7), .ref (o 8), .ref (o 9), .ref (o 10), .int ck0])), (o 1, .inl (0, 6, .inl (seF ((ldS T en).2.1) (mixK 0 ((ldS T en).2.2))))), (o 2, .inl (0, 3, .inl (maF (mixK 0 ((ldS T en).2.2))))), (o 3, .inl (0, 3, .inl (plX (mixK 0 ((ldS T en).2.2))))), (o 4, .inl (0, 3, .inl (plY (mixK 0 ((ldS T en).2.2))))), (o 5, .inl (1, 3, .inr (.inl (moX (mixK 0 ((ldS T en).2.2)))))), (o 6, .inl (1, 3, .inr (.inl (moY (mixK 0 ((ldS T en).2.2))))))]) (wr := [(u 0, .inr (1, [.ref (o 0), .ref (u 1), .ref (u 2), .ref (u 3), .int (nI 0), .int 0, .long lo, .long hi]))]) (r_cV hC kX7 rd [.int 0] mVX7_body q1414 (fun _ h => ⟨_, h.get 0 rfl⟩) (fun V9 h9 => (metX7_bodyM0 _ _ hG sc tx sy en T B m hE g3 tw3 ht3 rd (u 0) o hs45 hs59 ck0 ((ldS T en).2.1) ((ldS T en).2.2) prR_0 (ldR1 T en) (by show bdR T en 0 ((ldS T en).1) ((ldS T en).2.2) = _; rw [hR3])) V9 (h9.in.cut (wcx := [(rd, .inr (6, [.ref sc, .ref (u 0), .ref (o 0)])), (o 0, .inr (2, [.ref (o 1), .ref (o 2), .ref (o 3), .ref (o 4), .ref (o 5), .ref (o 6), .ref (o 7), .ref (o 8), .ref (o 9), .ref (o 10), .int ck0])), (o 1, .inl (0, 6, .inl (seF ((ldS T en).2.1) (mixK 0 ((ldS T en).2.2))))), (o 2, .inl (0, 3, .inl (maF (mixK 0 ((ldS T en).2.2))))), (o 3, .inl (0, 3, .inl (plX (mixK 0 ((ldS T en).2.2))))), (o 4, .inl (0, 3, .inl (plY (mixK 0 ((ldS T en).2.2))))), (o 5, .inl (1, 3, .inr (.inl (moX (mixK 0 ((ldS T en).2.2)))))), (o 6, .inl (1, 3, .inr (.inl (moY (mixK 0 ((ldS T en).2.2))))))]) (wr := [(u 0, .inr (1, [.ref (o 0), .ref (u 1), .ref (u 2), .ref (u 3), .int (nI 0), .int 0, .long lo, .long hi]))]) [0, 2, 3, 4, 5, 6, 7, 8] [1] 9 rfl rfl rfl rfl)) ⟨rfl, rfl⟩ (by first | omega | (dsimp only; omega)) (by first | omega | (dsimp only; omega)) rfl (Nat.le_of_ble_eq_true rfl) dX7_read_23) [0, 2, 3, 4, 5, 6, 7, 8] [1] 9 rfl rfl rfl rfl (k3 + (6 * (potP T en (.ok g3) - potP T en (bd7 T en 0 (.ok g3) ((ldS T en).2.2))))) (n3 + (50 * (potP T en (.ok g3) - potP T en (bd7 T en 0 (.ok g3) ((ldS T en).2.2))))) 26 rfl rfl rfl (fun v16 w17 h18 => ?_) (fun q19 w20 h21 => ?_)
  · skip
    obtain ⟨g8, tw15, hp9, rfl, ht10, rfl⟩ := h18
    refine rn.mono (J := xSt F V0 ([(u 0, .inr (1, [.ref (o 0), .ref (u 1), .ref (u 2), .ref (u 3), .int (nI 0), .int 0, .long lo, .long hi])), (rd, .inr (6, [.ref sc, .ref (u 0), .ref (o 0)])), (o 0, .inr (2, [.ref (o 1), .ref (o 2), .ref (o 3), .ref (o 4), .ref (o 5), .ref (o 6), .ref (o 7), .ref (o 8), .ref (o 9), .ref (o 10), .int ck0])), (o 1, .inl (0, 6, .inl (seF ((ldS T en).2.1) (mixK 1 (ldR1 T en))))), (o 2, .inl (0, 3, .inl (maF (mixK 1 (ldR1 T en))))), (o 3, .inl (0, 3, .inl (plX (mixK 1 (ldR1 T en))))), (o 4, .inl (0, 3, .inl (plY (mixK 1 (ldR1 T en))))), (o 5, .inl (1, 3, .inr (.inl (moX (mixK 1 (ldR1 T en)))))), (o 6, .inl (1, 3, .inr (.inl (moY (mixK 1 (ldR1 T en))))))] ++ tw15)) (fun _ h => by rw [← List.append_assoc] at h; exact h) ?_
    show rn C (xSt F V0 ([(u 0, .inr (1, [.ref (o 0), .ref (u 1), .ref (u 2), .ref (u 3), .int (nI 0), .int 0, .long lo, .long hi])), (rd, .inr (6, [.ref sc, .ref (u 0), .ref (o 0)])), (o 0, .inr (2, [.ref (o 1), .ref (o 2), .ref (o 3), .ref (o 4), .ref (o 5), .ref (o 6), .ref (o 7), .ref (o 8), .ref (o 9), .ref (o 10), .int ck0])), (o 1, .inl (0, 6, .inl (seF ((ldS T en).2.1) (mixK 1 (ldR1 T en))))), (o 2, .inl (0, 3, .inl (maF (mixK 1 (ldR1 T en))))), (o 3, .inl (0, 3, .inl (plX (mixK 1 (ldR1 T en))))), (o 4, .inl (0, 3, .inl (plY (mixK 1 (ldR1 T en))))), (o 5, .inl (1, 3, .inr (.inl (moX (mixK 1 (ldR1 T en)))))), (o 6, .inl (1, 3, .inr (.inl (moY (mixK 1 (ldR1 T en))))))] ++ tw15)) (k3 + (6 * (potP T en (.ok g3) - potP T en (bd7 T en 0 (.ok g3) ((ldS T en).2.2))))) (n3 + (50 * (potP T en (.ok g3) - potP T en (bd7 T en 0 (.ok g3) ((ldS T en).2.2))))) 26 [(2, .int 0), (0, .ref rd)] []
    have he11 : ldB1 T en = .ok g8 := by show bd7 T en 0 ((ldS T en).1) ((ldS T en).2.2) = _; rw [hR3]; exact hp9
    have : potP T en (ldB1 T en) = potP T en (.ok g8) := by rw [he11]
    refine r_iinc hC 1 2 0 [(2, .int 1), (0, .ref rd)] dX7_read_26 rfl (by decide) (Nat.le_of_ble_eq_true rfl) rfl 29 rfl ?_
    refine r_goto hC 16 dX7_read_29 (by decide) ?_
    refine r_iload_n hC 0 dX7_read_16 rfl 17 rfl ?_
    refine r_iconst hC 3 dX7_read_17 ic_3 18 rfl ?_
    refine r_icge hC 32 dX7_read_18 (by decide) 21 rfl (fun h => absurd h (by decide)) (fun _ => ?_)
    refine r_aload_n hC 1 dX7_read_21 rfl 22 rfl ?_
    refine r_iload_n hC 0 dX7_read_22 rfl 23 rfl ?_
    have : potP T en (bd7 T en 1 (.ok g8) (ldR1 T en)) = potP T en (ldB2 T en) := by show _ = potP T en (bd7 T en 1 (ldB1 T en) (ldR1 T en)); rw [he11]
    have : potP T en (.ok g8) = potP T en (ldB1 T en) := by rw [he11]
    refine xCall.ct (wcx := [(rd, .inr (6, [.ref sc, .ref (u 0), .ref (o 0)])), (o 0, .inr (2, [.ref (o 1), .ref (o 2), .ref (o 3), .ref (o 4), .ref (o 5), .ref (o 6), .ref (o 7), .ref (o 8), .ref (o 9), .ref (o 10), .int ck0])), (o 1, .inl (0, 6, .inl (seF ((ldS T en).2.1) (mixK 1 (ldR1 T en))))), (o 2, .inl (0, 3, .inl (maF (mixK 1 (ldR1 T en))))), (o 3, .inl (0, 3, .inl (plX (mixK 1 (ldR1 T en))))), (o 4, .inl (0, 3, .inl (plY (mixK 1 (ldR1 T en))))), (o 5, .inl (1, 3, .inr (.inl (moX (mixK 1 (ldR1 T en)))))), (o 6, .inl (1, 3, .inr (.inl (moY (mixK 1 (ldR1 T en))))))]) (wr := [(u 0, .inr (1, [.ref (o 0), .ref (u 1), .ref (u 2), .ref (u 3), .int (nI 0), .int 0, .long lo, .long hi]))]) (r_cV hC kX7 rd [.int 1] mVX7_body q1414 (fun _ h => ⟨_, h.get 1 rfl⟩) (fun V9 h9 => (metX7_bodyM1 _ _ hG sc tx sy en T B m hE g8 tw15 ht10 rd (u 0) o hs45 hs59 ck0 ((ldS T en).2.1) (ldR1 T en) prR_1 (ldR2 T en) (by show bdR T en 1 (ldB1 T en) (ldR1 T en) = _; rw [he11])) V9 (h9.in.cut (wcx := [(rd, .inr (6, [.ref sc, .ref (u 0), .ref (o 0)])), (o 0, .inr (2, [.ref (o 1), .ref (o 2), .ref (o 3), .ref (o 4), .ref (o 5), .ref (o 6), .ref (o 7), .ref (o 8), .ref (o 9), .ref (o 10), .int ck0])), (o 1, .inl (0, 6, .inl (seF ((ldS T en).2.1) (mixK 1 (ldR1 T en))))), (o 2, .inl (0, 3, .inl (maF (mixK 1 (ldR1 T en))))), (o 3, .inl (0, 3, .inl (plX (mixK 1 (ldR1 T en))))), (o 4, .inl (0, 3, .inl (plY (mixK 1 (ldR1 T en))))), (o 5, .inl (1, 3, .inr (.inl (moX (mixK 1 (ldR1 T en)))))), (o 6, .inl (1, 3, .inr (.inl (moY (mixK 1 (ldR1 T en))))))]) (wr := [(u 0, .inr (1, [.ref (o 0), .ref (u 1), .ref (u 2), .ref (u 3), .int (nI 0), .int 0, .long lo, .long hi]))]) [1, 2, 3, 4, 5, 6, 7, 8] [0] 9 rfl rfl rfl rfl)) ⟨rfl, rfl⟩ (by first | omega | (dsimp only; omega)) (by first | omega | (dsimp only; omega)) rfl (Nat.le_of_ble_eq_true rfl) dX7_read_23) [1, 2, 3, 4, 5, 6, 7, 8] [0] 9 rfl rfl rfl rfl ((k3 + (6 * (potP T en (.ok g3) - potP T en (bd7 T en 0 (.ok g3) ((ldS T en).2.2))))) + (6 * (potP T en (.ok g8) - potP T en (bd7 T en 1 (.ok g8) (ldR1 T en))))) ((n3 + (50 * (potP T en (.ok g3) - potP T en (bd7 T en 0 (.ok g3) ((ldS T en).2.2))))) + (50 * (potP T en (.ok g8) - potP T en (bd7 T en 1 (.ok g8) (ldR1 T en))))) 26 rfl rfl rfl (fun v30 w31 h32 => ?_) (fun q33 w34 h35 => ?_)
    · skip
      obtain ⟨g22, tw29, hp23, rfl, ht24, rfl⟩ := h32
      refine rn.mono (J := xSt F V0 ([(u 0, .inr (1, [.ref (o 0), .ref (u 1), .ref (u 2), .ref (u 3), .int (nI 0), .int 0, .long lo, .long hi])), (rd, .inr (6, [.ref sc, .ref (u 0), .ref (o 0)])), (o 0, .inr (2, [.ref (o 1), .ref (o 2), .ref (o 3), .ref (o 4), .ref (o 5), .ref (o 6), .ref (o 7), .ref (o 8), .ref (o 9), .ref (o 10), .int ck0])), (o 1, .inl (0, 6, .inl (seF ((ldS T en).2.1) (mixK 2 (ldR2 T en))))), (o 2, .inl (0, 3, .inl (maF (mixK 2 (ldR2 T en))))), (o 3, .inl (0, 3, .inl (plX (mixK 2 (ldR2 T en))))), (o 4, .inl (0, 3, .inl (plY (mixK 2 (ldR2 T en))))), (o 5, .inl (1, 3, .inr (.inl (moX (mixK 2 (ldR2 T en)))))), (o 6, .inl (1, 3, .inr (.inl (moY (mixK 2 (ldR2 T en))))))] ++ tw29)) (fun _ h => by rw [← List.append_assoc] at h; exact h) ?_
      show rn C (xSt F V0 ([(u 0, .inr (1, [.ref (o 0), .ref (u 1), .ref (u 2), .ref (u 3), .int (nI 0), .int 0, .long lo, .long hi])), (rd, .inr (6, [.ref sc, .ref (u 0), .ref (o 0)])), (o 0, .inr (2, [.ref (o 1), .ref (o 2), .ref (o 3), .ref (o 4), .ref (o 5), .ref (o 6), .ref (o 7), .ref (o 8), .ref (o 9), .ref (o 10), .int ck0])), (o 1, .inl (0, 6, .inl (seF ((ldS T en).2.1) (mixK 2 (ldR2 T en))))), (o 2, .inl (0, 3, .inl (maF (mixK 2 (ldR2 T en))))), (o 3, .inl (0, 3, .inl (plX (mixK 2 (ldR2 T en))))), (o 4, .inl (0, 3, .inl (plY (mixK 2 (ldR2 T en))))), (o 5, .inl (1, 3, .inr (.inl (moX (mixK 2 (ldR2 T en)))))), (o 6, .inl (1, 3, .inr (.inl (moY (mixK 2 (ldR2 T en))))))] ++ tw29)) ((k3 + (6 * (potP T en (.ok g3) - potP T en (bd7 T en 0 (.ok g3) ((ldS T en).2.2))))) + (6 * (potP T en (.ok g8) - potP T en (bd7 T en 1 (.ok g8) (ldR1 T en))))) ((n3 + (50 * (potP T en (.ok g3) - potP T en (bd7 T en 0 (.ok g3) ((ldS T en).2.2))))) + (50 * (potP T en (.ok g8) - potP T en (bd7 T en 1 (.ok g8) (ldR1 T en))))) 26 [(2, .int 1), (0, .ref rd)] []
      have he25 : ldB2 T en = .ok g22 := by show bd7 T en 1 (ldB1 T en) (ldR1 T en) = _; rw [he11]; exact hp23
      have : potP T en (ldB2 T en) = potP T en (.ok g22) := by rw [he25]
      refine r_iinc hC 2 2 0 [(2, .int 2), (0, .ref rd)] dX7_read_26 rfl (by decide) (Nat.le_of_ble_eq_true rfl) rfl 29 rfl ?_
      refine r_goto hC 16 dX7_read_29 (by decide) ?_
      refine r_iload_n hC 0 dX7_read_16 rfl 17 rfl ?_
      refine r_iconst hC 3 dX7_read_17 ic_3 18 rfl ?_
      refine r_icge hC 32 dX7_read_18 (by decide) 21 rfl (fun h => absurd h (by decide)) (fun _ => ?_)
      refine r_aload_n hC 1 dX7_read_21 rfl 22 rfl ?_
      refine r_iload_n hC 0 dX7_read_22 rfl 23 rfl ?_
      have : potP T en (bd7 T en 2 (.ok g22) (ldR2 T en)) = potP T en (ldB3 T en) := by show _ = potP T en (bd7 T en 2 (ldB2 T en) (ldR2 T en)); rw [he25]
      have : potP T en (.ok g22) = potP T en (ldB2 T en) := by rw [he25]
      refine xCall.ct (wcx := [(rd, .inr (6, [.ref sc, .ref (u 0), .ref (o 0)])), (o 0, .inr (2, [.ref (o 1), .ref (o 2), .ref (o 3), .ref (o 4), .ref (o 5), .ref (o 6), .ref (o 7), .ref (o 8), .ref (o 9), .ref (o 10), .int ck0])), (o 1, .inl (0, 6, .inl (seF ((ldS T en).2.1) (mixK 2 (ldR2 T en))))), (o 2, .inl (0, 3, .inl (maF (mixK 2 (ldR2 T en))))), (o 3, .inl (0, 3, .inl (plX (mixK 2 (ldR2 T en))))), (o 4, .inl (0, 3, .inl (plY (mixK 2 (ldR2 T en))))), (o 5, .inl (1, 3, .inr (.inl (moX (mixK 2 (ldR2 T en)))))), (o 6, .inl (1, 3, .inr (.inl (moY (mixK 2 (ldR2 T en))))))]) (wr := [(u 0, .inr (1, [.ref (o 0), .ref (u 1), .ref (u 2), .ref (u 3), .int (nI 0), .int 0, .long lo, .long hi]))]) (r_cV hC kX7 rd [.int 2] mVX7_body q1414 (fun _ h => ⟨_, h.get 1 rfl⟩) (fun V9 h9 => (metX7_bodyM2 _ _ hG sc tx sy en T B m hE g22 tw29 ht24 rd (u 0) o hs45 hs59 ck0 ((ldS T en).2.1) (ldR2 T en) prR_2 (ldR T en) (by show bdR T en 2 (ldB2 T en) (ldR2 T en) = _; rw [he25])) V9 (h9.in.cut (wcx := [(rd, .inr (6, [.ref sc, .ref (u 0), .ref (o 0)])), (o 0, .inr (2, [.ref (o 1), .ref (o 2), .ref (o 3), .ref (o 4), .ref (o 5), .ref (o 6), .ref (o 7), .ref (o 8), .ref (o 9), .ref (o 10), .int ck0])), (o 1, .inl (0, 6, .inl (seF ((ldS T en).2.1) (mixK 2 (ldR2 T en))))), (o 2, .inl (0, 3, .inl (maF (mixK 2 (ldR2 T en))))), (o 3, .inl (0, 3, .inl (plX (mixK 2 (ldR2 T en))))), (o 4, .inl (0, 3, .inl (plY (mixK 2 (ldR2 T en))))), (o 5, .inl (1, 3, .inr (.inl (moX (mixK 2 (ldR2 T en)))))), (o 6, .inl (1, 3, .inr (.inl (moY (mixK 2 (ldR2 T en))))))]) (wr := [(u 0, .inr (1, [.ref (o 0), .ref (u 1), .ref (u 2), .ref (u 3), .int (nI 0), .int 0, .long lo, .long hi]))]) [1, 2, 3, 4, 5, 6, 7, 8] [0] 9 rfl rfl rfl rfl)) ⟨rfl, rfl⟩ (by first | omega | (dsimp only; omega)) (by first | omega | (dsimp only; omega)) rfl (Nat.le_of_ble_eq_true rfl) dX7_read_23) [1, 2, 3, 4, 5, 6, 7, 8] [0] 9 rfl rfl rfl rfl (((k3 + (6 * (potP T en (.ok g3) - potP T en (bd7 T en 0 (.ok g3) ((ldS T en).2.2))))) + (6 * (potP T en (.ok g8) - potP T en (bd7 T en 1 (.ok g8) (ldR1 T en))))) + (6 * (potP T en (.ok g22) - potP T en (bd7 T en 2 (.ok g22) (ldR2 T en))))) (((n3 + (50 * (potP T en (.ok g3) - potP T en (bd7 T en 0 (.ok g3) ((ldS T en).2.2))))) + (50 * (potP T en (.ok g8) - potP T en (bd7 T en 1 (.ok g8) (ldR1 T en))))) + (50 * (potP T en (.ok g22) - potP T en (bd7 T en 2 (.ok g22) (ldR2 T en))))) 26 rfl rfl rfl (fun v44 w45 h46 => ?_) (fun q47 w48 h49 => ?_)
      · skip
        obtain ⟨g36, tw43, hp37, rfl, ht38, rfl⟩ := h46
        refine rn.mono (J := xSt F V0 ([(u 0, .inr (1, [.ref (o 0), .ref (u 1), .ref (u 2), .ref (u 3), .int (nI 0), .int 0, .long lo, .long hi])), (rd, .inr (6, [.ref sc, .ref (u 0), .ref (o 0)])), (o 0, .inr (2, [.ref (o 1), .ref (o 2), .ref (o 3), .ref (o 4), .ref (o 5), .ref (o 6), .ref (o 7), .ref (o 8), .ref (o 9), .ref (o 10), .int ck0])), (o 1, .inl (0, 6, .inl (seF ((ldS T en).2.1) (mixK 3 (ldR T en))))), (o 2, .inl (0, 3, .inl (maF (mixK 3 (ldR T en))))), (o 3, .inl (0, 3, .inl (plX (mixK 3 (ldR T en))))), (o 4, .inl (0, 3, .inl (plY (mixK 3 (ldR T en))))), (o 5, .inl (1, 3, .inr (.inl (moX (mixK 3 (ldR T en)))))), (o 6, .inl (1, 3, .inr (.inl (moY (mixK 3 (ldR T en))))))] ++ tw43)) (fun _ h => by rw [← List.append_assoc] at h; exact h) ?_
        show rn C (xSt F V0 ([(u 0, .inr (1, [.ref (o 0), .ref (u 1), .ref (u 2), .ref (u 3), .int (nI 0), .int 0, .long lo, .long hi])), (rd, .inr (6, [.ref sc, .ref (u 0), .ref (o 0)])), (o 0, .inr (2, [.ref (o 1), .ref (o 2), .ref (o 3), .ref (o 4), .ref (o 5), .ref (o 6), .ref (o 7), .ref (o 8), .ref (o 9), .ref (o 10), .int ck0])), (o 1, .inl (0, 6, .inl (seF ((ldS T en).2.1) (mixK 3 (ldR T en))))), (o 2, .inl (0, 3, .inl (maF (mixK 3 (ldR T en))))), (o 3, .inl (0, 3, .inl (plX (mixK 3 (ldR T en))))), (o 4, .inl (0, 3, .inl (plY (mixK 3 (ldR T en))))), (o 5, .inl (1, 3, .inr (.inl (moX (mixK 3 (ldR T en)))))), (o 6, .inl (1, 3, .inr (.inl (moY (mixK 3 (ldR T en))))))] ++ tw43)) (((k3 + (6 * (potP T en (.ok g3) - potP T en (bd7 T en 0 (.ok g3) ((ldS T en).2.2))))) + (6 * (potP T en (.ok g8) - potP T en (bd7 T en 1 (.ok g8) (ldR1 T en))))) + (6 * (potP T en (.ok g22) - potP T en (bd7 T en 2 (.ok g22) (ldR2 T en))))) (((n3 + (50 * (potP T en (.ok g3) - potP T en (bd7 T en 0 (.ok g3) ((ldS T en).2.2))))) + (50 * (potP T en (.ok g8) - potP T en (bd7 T en 1 (.ok g8) (ldR1 T en))))) + (50 * (potP T en (.ok g22) - potP T en (bd7 T en 2 (.ok g22) (ldR2 T en))))) 26 [(2, .int 2), (0, .ref rd)] []
        have he39 : ldB3 T en = .ok g36 := by show bd7 T en 2 (ldB2 T en) (ldR2 T en) = _; rw [he25]; exact hp37
        have : potP T en (ldB3 T en) = potP T en (.ok g36) := by rw [he39]
        refine r_iinc hC 3 2 0 [(2, .int 3), (0, .ref rd)] dX7_read_26 rfl (by decide) (Nat.le_of_ble_eq_true rfl) rfl 29 rfl ?_
        refine r_goto hC 16 dX7_read_29 (by decide) ?_
        refine r_iload_n hC 0 dX7_read_16 rfl 17 rfl ?_
        refine r_iconst hC 3 dX7_read_17 ic_3 18 rfl ?_
        refine r_icge hC 32 dX7_read_18 (by decide) 21 rfl (fun _ => ?_) (fun h => absurd h (by decide))
        refine r_aload_n hC 1 dX7_read_32 rfl 33 rfl ?_
        refine r_get (v := .ref sc) hC kX7 0 rfl q1299 (fun _ h => h.get 1 rfl) rfl dX7_read_33 36 rfl ?_
        obtain ⟨vl9, wd9, htc9⟩ := tok_cell ht38
        refine r_getN (v := .int (ckQ T en B m g36)) hC hG kX8 3 rfl q1268 (fun _ h => htc9 _ h.in.right) rfl dX7_read_36 39 rfl ?_
        refine r_ifeq hC 50 dX7_read_39 (by decide) 42 rfl (fun c50 => ?_) (fun c50 => ?_)
        · skip
          refine r_goto hC 63 dX7_read_50 (by decide) ?_
          have hok : ldP T en = .ok g36 := by show endP T en (ldB3 T en) = _; rw [he39]; exact end_k (decide_eq_true (ck_0.mpr c50))
          refine rn.mono (J := xSt F V0 ([(rd, .inr (6, [.ref sc, .ref (u 0), .ref (o 0)])), (u 0, .inr (1, [.ref (o 0), .ref (u 1), .ref (u 2), .ref (u 3), .int (nI 0), .int 0, .long lo, .long hi])), (o 0, .inr (2, [.ref (o 1), .ref (o 2), .ref (o 3), .ref (o 4), .ref (o 5), .ref (o 6), .ref (o 7), .ref (o 8), .ref (o 9), .ref (o 10), .int ck0])), (o 1, .inl (0, 6, .inl (seF ((ldS T en).2.1) (mixK 3 (ldR T en))))), (o 2, .inl (0, 3, .inl (maF (mixK 3 (ldR T en))))), (o 3, .inl (0, 3, .inl (plX (mixK 3 (ldR T en))))), (o 4, .inl (0, 3, .inl (plY (mixK 3 (ldR T en))))), (o 5, .inl (1, 3, .inr (.inl (moX (mixK 3 (ldR T en)))))), (o 6, .inl (1, 3, .inr (.inl (moY (mixK 3 (ldR T en))))))] ++ tw43)) (fun _ h => h.ordT [1, 0, 2, 3, 4, 5, 6, 7, 8] 9 rfl rfl rfl) ?_
          refine rn.mono (J := xSt F V0 ([(rd, .inr (6, [.ref sc, .ref (u 0), .ref (o 0)])), (u 0, .inr (1, [.ref (o 0), .ref (u 1), .ref (u 2), .ref (u 3), .int (nI 0), .int 0, .long lo, .long hi])), (o 0, .inr (2, [.ref (o 1), .ref (o 2), .ref (o 3), .ref (o 4), .ref (o 5), .ref (o 6), .ref (o 7), .ref (o 8), .ref (o 9), .ref (o 10), .int (((ldR T en) 0).toInt32)])), (o 1, .inl (0, 6, .inl (seF ((ldS T en).2.1) (ldR T en)))), (o 2, .inl (0, 3, .inl (maF (ldR T en)))), (o 3, .inl (0, 3, .inl (plX (ldR T en)))), (o 4, .inl (0, 3, .inl (plY (ldR T en)))), (o 5, .inl (1, 3, .inr (.inl (moX (ldR T en))))), (o 6, .inl (1, 3, .inr (.inl (moY (ldR T en)))))] ++ tw43)) (fun _ h => by rw [mix_3 ld_0, show ck0 = (ldR T en 0).toInt32 from by rw [hck, ld_0 0 (by decide) (by decide)]; rfl] at h; exact h) ?_
          refine r_aload_n hC 1 dX7_read_63 rfl 64 rfl ?_
          refine r_get (v := .ref (u 0)) hC kX7 1 rfl q1300 (fun _ h => h.get 0 rfl) rfl dX7_read_64 67 rfl ?_
          refine xCall.t (wr := [(rd, .inr (6, [.ref sc, .ref (u 0), .ref (o 0)]))]) (r_cV hC kX2 (u 0) [] mVX2_see q1457 (fun _ h => ⟨_, h.get 1 rfl⟩) (fun V9 h9 => (metX2_see _ _ hG o u ((ldS T en).2.1) (ldR T en) 0 0 lo hi plR_ld (tOK_setL tOK_0) mOK_b3) V9 (h9.in.sub [1, 2, 3, 4, 5, 6, 7, 8] rfl rfl)) ⟨rfl, rfl⟩ (by first | omega | (dsimp only; omega)) (by first | omega | (dsimp only; omega)) rfl (Nat.le_of_ble_eq_true rfl) dX7_read_67) [1, 2, 3, 4, 5, 6, 7, 8] [0] 9 rfl rfl rfl rfl ((((k3 + (6 * (potP T en (.ok g3) - potP T en (bd7 T en 0 (.ok g3) ((ldS T en).2.2))))) + (6 * (potP T en (.ok g8) - potP T en (bd7 T en 1 (.ok g8) (ldR1 T en))))) + (6 * (potP T en (.ok g22) - potP T en (bd7 T en 2 (.ok g22) (ldR2 T en))))) + 0) ((((n3 + (50 * (potP T en (.ok g3) - potP T en (bd7 T en 0 (.ok g3) ((ldS T en).2.2))))) + (50 * (potP T en (.ok g8) - potP T en (bd7 T en 1 (.ok g8) (ldR1 T en))))) + (50 * (potP T en (.ok g22) - potP T en (bd7 T en 2 (.ok g22) (ldR2 T en))))) + 0) 70 rfl rfl rfl (fun v51 w52 h53 => ?_) (fun _ _ h => h.elim)
          obtain ⟨rfl, rfl⟩ := h53
          show rn C (xSt F V0 ([(rd, .inr (6, [.ref sc, .ref (u 0), .ref (o 0)])), (u 0, .inr (1, [.ref (o 0), .ref (u 1), .ref (u 2), .ref (u 3), .int (nI 0), .int 0, .long (enQ ((ldS T en).2.1) (ldR T en)), .long (enQ ((ldS T en).2.1) (ldR T en))])), (o 0, .inr (2, [.ref (o 1), .ref (o 2), .ref (o 3), .ref (o 4), .ref (o 5), .ref (o 6), .ref (o 7), .ref (o 8), .ref (o 9), .ref (o 10), .int (((ldR T en) 0).toInt32)])), (o 1, .inl (0, 6, .inl (seF ((ldS T en).2.1) (ldR T en)))), (o 2, .inl (0, 3, .inl (maF (ldR T en)))), (o 3, .inl (0, 3, .inl (plX (ldR T en)))), (o 4, .inl (0, 3, .inl (plY (ldR T en)))), (o 5, .inl (1, 3, .inr (.inl (moX (ldR T en))))), (o 6, .inl (1, 3, .inr (.inl (moY (ldR T en)))))] ++ tw43)) ((((k3 + (6 * (potP T en (.ok g3) - potP T en (bd7 T en 0 (.ok g3) ((ldS T en).2.2))))) + (6 * (potP T en (.ok g8) - potP T en (bd7 T en 1 (.ok g8) (ldR1 T en))))) + (6 * (potP T en (.ok g22) - potP T en (bd7 T en 2 (.ok g22) (ldR2 T en))))) + 0) ((((n3 + (50 * (potP T en (.ok g3) - potP T en (bd7 T en 0 (.ok g3) ((ldS T en).2.2))))) + (50 * (potP T en (.ok g8) - potP T en (bd7 T en 1 (.ok g8) (ldR1 T en))))) + (50 * (potP T en (.ok g22) - potP T en (bd7 T en 2 (.ok g22) (ldR2 T en))))) + 0) 70 [(2, .int 3), (0, .ref rd)] []
          refine r_aload_n hC 1 dX7_read_70 rfl 71 rfl ?_
          refine r_get (v := .ref (u 0)) hC kX7 1 rfl q1300 (fun _ h => h.get 0 rfl) rfl dX7_read_71 74 rfl ?_
          exact r_aret hC (v := (some (u 0))) (Or.inl ⟨_, rfl⟩) (by first | omega | (dsimp only; omega)) (by first | omega | (dsimp only; omega)) (fun V9 h => hQ _ _ ⟨([(rd, .inr (6, [.ref sc, .ref (u 0), .ref (o 0)])), (u 0, .inr (1, [.ref (o 0), .ref (u 1), .ref (u 2), .ref (u 3), .int (nI 0), .int 0, .long (enQ ((ldS T en).2.1) (ldR T en)), .long (enQ ((ldS T en).2.1) (ldR T en))])), (o 0, .inr (2, [.ref (o 1), .ref (o 2), .ref (o 3), .ref (o 4), .ref (o 5), .ref (o 6), .ref (o 7), .ref (o 8), .ref (o 9), .ref (o 10), .int (((ldR T en) 0).toInt32)])), (o 1, .inl (0, 6, .inl (seF ((ldS T en).2.1) (ldR T en)))), (o 2, .inl (0, 3, .inl (maF (ldR T en)))), (o 3, .inl (0, 3, .inl (plX (ldR T en)))), (o 4, .inl (0, 3, .inl (plY (ldR T en)))), (o 5, .inl (1, 3, .inr (.inl (moX (ldR T en))))), (o 6, .inl (1, 3, .inr (.inl (moY (ldR T en)))))] ++ tw43), ⟨rfl, by rw [hok]; rfl, tw43, rfl⟩, by rw [← hV0, ← hF]; exact h⟩) dX7_read_74
        · skip
          refine r_aload_n hC 1 dX7_read_42 rfl 43 rfl ?_
          refine r_get (v := .ref sc) hC kX7 0 rfl q1299 (fun _ h => h.get 1 rfl) rfl dX7_read_43 46 rfl ?_
          refine xCall.tl (ws := [(u 0, .inr (1, [.ref (o 0), .ref (u 1), .ref (u 2), .ref (u 3), .int (nI 0), .int 0, .long lo, .long hi])), (rd, .inr (6, [.ref sc, .ref (u 0), .ref (o 0)])), (o 0, .inr (2, [.ref (o 1), .ref (o 2), .ref (o 3), .ref (o 4), .ref (o 5), .ref (o 6), .ref (o 7), .ref (o 8), .ref (o 9), .ref (o 10), .int ck0])), (o 1, .inl (0, 6, .inl (seF ((ldS T en).2.1) (mixK 3 (ldR T en))))), (o 2, .inl (0, 3, .inl (maF (mixK 3 (ldR T en))))), (o 3, .inl (0, 3, .inl (plX (mixK 3 (ldR T en))))), (o 4, .inl (0, 3, .inl (plY (mixK 3 (ldR T en))))), (o 5, .inl (1, 3, .inr (.inl (moX (mixK 3 (ldR T en)))))), (o 6, .inl (1, 3, .inr (.inl (moY (mixK 3 (ldR T en))))))]) (r_cV hC kX8 sc [] mVX8_wrong q1441 (fun _ h => tok_recv ht38 h.in.right) (fun V9 h9 => (metX8_wrongT _ _ hG sc tx sy en T B m hE g36 tw43 ht38) V9 h9.in.right) ⟨rfl, rfl⟩ (by first | omega | (dsimp only; omega)) (by first | omega | (dsimp only; omega)) rfl (Nat.le_of_ble_eq_true rfl) dX7_read_46) ((((k3 + (6 * (potP T en (.ok g3) - potP T en (bd7 T en 0 (.ok g3) ((ldS T en).2.2))))) + (6 * (potP T en (.ok g8) - potP T en (bd7 T en 1 (.ok g8) (ldR1 T en))))) + (6 * (potP T en (.ok g22) - potP T en (bd7 T en 2 (.ok g22) (ldR2 T en))))) + 1) ((((n3 + (50 * (potP T en (.ok g3) - potP T en (bd7 T en 0 (.ok g3) ((ldS T en).2.2))))) + (50 * (potP T en (.ok g8) - potP T en (bd7 T en 1 (.ok g8) (ldR1 T en))))) + (50 * (potP T en (.ok g22) - potP T en (bd7 T en 2 (.ok g22) (ldR2 T en))))) + 7) 49 rfl rfl rfl (fun v60 w61 h62 => ?_) (fun _ _ h => h.elim)
          obtain ⟨q57, tw58, rfl, ht59, rfl⟩ := h62
          refine rn.mono (J := xSt F V0 ([(u 0, .inr (1, [.ref (o 0), .ref (u 1), .ref (u 2), .ref (u 3), .int (nI 0), .int 0, .long lo, .long hi])), (rd, .inr (6, [.ref sc, .ref (u 0), .ref (o 0)])), (o 0, .inr (2, [.ref (o 1), .ref (o 2), .ref (o 3), .ref (o 4), .ref (o 5), .ref (o 6), .ref (o 7), .ref (o 8), .ref (o 9), .ref (o 10), .int ck0])), (o 1, .inl (0, 6, .inl (seF ((ldS T en).2.1) (mixK 3 (ldR T en))))), (o 2, .inl (0, 3, .inl (maF (mixK 3 (ldR T en))))), (o 3, .inl (0, 3, .inl (plX (mixK 3 (ldR T en))))), (o 4, .inl (0, 3, .inl (plY (mixK 3 (ldR T en))))), (o 5, .inl (1, 3, .inr (.inl (moX (mixK 3 (ldR T en)))))), (o 6, .inl (1, 3, .inr (.inl (moY (mixK 3 (ldR T en)))))), (q57, .inr (8, [.int (nI g36), .null, .null, .null, .null, .null, .int 0]))] ++ tw58)) (fun _ h => h.perm perm_ex) ?_
          show rn C (xSt F V0 ([(u 0, .inr (1, [.ref (o 0), .ref (u 1), .ref (u 2), .ref (u 3), .int (nI 0), .int 0, .long lo, .long hi])), (rd, .inr (6, [.ref sc, .ref (u 0), .ref (o 0)])), (o 0, .inr (2, [.ref (o 1), .ref (o 2), .ref (o 3), .ref (o 4), .ref (o 5), .ref (o 6), .ref (o 7), .ref (o 8), .ref (o 9), .ref (o 10), .int ck0])), (o 1, .inl (0, 6, .inl (seF ((ldS T en).2.1) (mixK 3 (ldR T en))))), (o 2, .inl (0, 3, .inl (maF (mixK 3 (ldR T en))))), (o 3, .inl (0, 3, .inl (plX (mixK 3 (ldR T en))))), (o 4, .inl (0, 3, .inl (plY (mixK 3 (ldR T en))))), (o 5, .inl (1, 3, .inr (.inl (moX (mixK 3 (ldR T en)))))), (o 6, .inl (1, 3, .inr (.inl (moY (mixK 3 (ldR T en)))))), (q57, .inr (8, [.int (nI g36), .null, .null, .null, .null, .null, .int 0]))] ++ tw58)) ((((k3 + (6 * (potP T en (.ok g3) - potP T en (bd7 T en 0 (.ok g3) ((ldS T en).2.2))))) + (6 * (potP T en (.ok g8) - potP T en (bd7 T en 1 (.ok g8) (ldR1 T en))))) + (6 * (potP T en (.ok g22) - potP T en (bd7 T en 2 (.ok g22) (ldR2 T en))))) + 1) ((((n3 + (50 * (potP T en (.ok g3) - potP T en (bd7 T en 0 (.ok g3) ((ldS T en).2.2))))) + (50 * (potP T en (.ok g8) - potP T en (bd7 T en 1 (.ok g8) (ldR1 T en))))) + (50 * (potP T en (.ok g22) - potP T en (bd7 T en 2 (.ok g22) (ldR2 T en))))) + 7) 49 [(2, .int 3), (0, .ref rd)] [.ref q57]
          refine r_athrow hC (fun _ h => h.get 9 rfl) dX7_read_49 ?_
          have hle : ldP T en = .error (1, g36) := by show endP T en (ldB3 T en) = _; rw [he39, end_n (fun h9 => c50 (ck_0.mp (of_decide_eq_true h9)))]; rfl
          refine rx_catch hC hG kX10 hTab [] ⟨0, 50, 53, 126⟩ [⟨0, 50, 53, 128⟩, ⟨0, 50, 53, 104⟩] rfl (fun _ h => by cases h) (by decide) (by decide) q1313 q1352 (fun _ h => ⟨_, h.get 9 rfl⟩) ?_
          refine rn.mono (J := xSt F V0 [exK 10 1 q57 g36]) (fun _ h => h.left1.sub [9] rfl rfl) ?_
          refine rn.sub (lv' := [(0, .ref rd)]) [1] rfl ?_
          have hq9 := pot_1 (T := T) (tok_le ht59)
          exact hE9 1 g36 q57 _ _ hle (by omega) (by omega)
      · skip
        obtain ⟨c40, ge41, hx42, rfl⟩ := h49
        show rx C (xSt F V0 [(u 0, .inr (1, [.ref (o 0), .ref (u 1), .ref (u 2), .ref (u 3), .int (nI 0), .int 0, .long lo, .long hi])), exK 10 c40 q47 ge41]) (((k3 + (6 * (potP T en (.ok g3) - potP T en (bd7 T en 0 (.ok g3) ((ldS T en).2.2))))) + (6 * (potP T en (.ok g8) - potP T en (bd7 T en 1 (.ok g8) (ldR1 T en))))) + (6 * (potP T en (.ok g22) - potP T en (bd7 T en 2 (.ok g22) (ldR2 T en))))) (((n3 + (50 * (potP T en (.ok g3) - potP T en (bd7 T en 0 (.ok g3) ((ldS T en).2.2))))) + (50 * (potP T en (.ok g8) - potP T en (bd7 T en 1 (.ok g8) (ldR1 T en))))) + (50 * (potP T en (.ok g22) - potP T en (bd7 T en 2 (.ok g22) (ldR2 T en))))) 23 [(2, .int 2), (0, .ref rd)] [] q47
        have hx42e : ldB3 T en = .error (c40, ge41) := by show bd7 T en 2 (ldB2 T en) (ldR2 T en) = _; rw [he25]; exact hx42
        refine rd_catch hG hC hTab (wr := [(u 0, .inr (1, [.ref (o 0), .ref (u 1), .ref (u 2), .ref (u 3), .int (nI 0), .int 0, .long lo, .long hi]))]) (fun _ => by decide) ?_
        refine rn.mono (J := xSt F V0 [exK 10 c40 q47 ge41]) (fun _ h => h.sub [1] rfl rfl) ?_
        refine rn.sub (lv' := [(0, .ref rd)]) [1] rfl ?_
        have hq8 : potP T en (ldB3 T en) = 0 := by rw [hx42e]; rfl
        exact hE9 c40 ge41 q47 _ _ (ld_e3 hx42e) (by omega) (by omega)
    · skip
      obtain ⟨c26, ge27, hx28, rfl⟩ := h35
      show rx C (xSt F V0 [(u 0, .inr (1, [.ref (o 0), .ref (u 1), .ref (u 2), .ref (u 3), .int (nI 0), .int 0, .long lo, .long hi])), exK 10 c26 q33 ge27]) ((k3 + (6 * (potP T en (.ok g3) - potP T en (bd7 T en 0 (.ok g3) ((ldS T en).2.2))))) + (6 * (potP T en (.ok g8) - potP T en (bd7 T en 1 (.ok g8) (ldR1 T en))))) ((n3 + (50 * (potP T en (.ok g3) - potP T en (bd7 T en 0 (.ok g3) ((ldS T en).2.2))))) + (50 * (potP T en (.ok g8) - potP T en (bd7 T en 1 (.ok g8) (ldR1 T en))))) 23 [(2, .int 1), (0, .ref rd)] [] q33
      have hx28e : ldB2 T en = .error (c26, ge27) := by show bd7 T en 1 (ldB1 T en) (ldR1 T en) = _; rw [he11]; exact hx28
      refine rd_catch hG hC hTab (wr := [(u 0, .inr (1, [.ref (o 0), .ref (u 1), .ref (u 2), .ref (u 3), .int (nI 0), .int 0, .long lo, .long hi]))]) (fun _ => by decide) ?_
      refine rn.mono (J := xSt F V0 [exK 10 c26 q33 ge27]) (fun _ h => h.sub [1] rfl rfl) ?_
      refine rn.sub (lv' := [(0, .ref rd)]) [1] rfl ?_
      have hq8 : potP T en (ldB2 T en) = 0 := by rw [hx28e]; rfl
      exact hE9 c26 ge27 q33 _ _ (ld_e3 (ld_e2 hx28e)) (by omega) (by omega)
  · skip
    obtain ⟨c12, ge13, hx14, rfl⟩ := h21
    show rx C (xSt F V0 [(u 0, .inr (1, [.ref (o 0), .ref (u 1), .ref (u 2), .ref (u 3), .int (nI 0), .int 0, .long lo, .long hi])), exK 10 c12 q19 ge13]) (k3 + (6 * (potP T en (.ok g3) - potP T en (bd7 T en 0 (.ok g3) ((ldS T en).2.2))))) (n3 + (50 * (potP T en (.ok g3) - potP T en (bd7 T en 0 (.ok g3) ((ldS T en).2.2))))) 23 [(2, .int 0), (0, .ref rd)] [] q19
    have hx14e : ldB1 T en = .error (c12, ge13) := by show bd7 T en 0 ((ldS T en).1) ((ldS T en).2.2) = _; rw [hR3]; exact hx14
    refine rd_catch hG hC hTab (wr := [(u 0, .inr (1, [.ref (o 0), .ref (u 1), .ref (u 2), .ref (u 3), .int (nI 0), .int 0, .long lo, .long hi]))]) (fun _ => by decide) ?_
    refine rn.mono (J := xSt F V0 [exK 10 c12 q19 ge13]) (fun _ h => h.sub [1] rfl rfl) ?_
    refine rn.sub (lv' := [(0, .ref rd)]) [1] rfl ?_
    have hq8 : potP T en (ldB1 T en) = 0 := by rw [hx14e]; rfl
    exact hE9 c12 ge13 q19 _ _ (ld_e3 (ld_e2 (ld_e1 hx14e))) (by omega) (by omega)
