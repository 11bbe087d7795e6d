/-! ===== the reference: starts, settings ===== -/
set_option maxRecDepth 100000
def setP (bf : Nat → Int32) (e : Nat) (lo hi : Int64) (ps : PS) : PS := mustP bf e 59 (numP bf e lo hi (nxP bf e ps))
def setV (bf : Nat → Int32) (e : Nat) (lo hi : Int64) (ps : PS) : Int64 := numV bf e lo hi (nxP bf e ps)
def schV (bf : Nat → Int32) (e : Nat) (ps : PS) : Int64 := if isW bf e 3079449 (nxP bf e ps) = true then 0 else if isW bf e 239884 (nxP bf e ps) = true then 1 else 2
def expP (bf : Nat → Int32) (e : Nat) (w : Int64) (ps : PS) : PS := if isW bf e w ps = true then nxP bf e ps else wrP 1 ps
def schQ (bf : Nat → Int32) (e : Nat) (ps : PS) : PS := if isW bf e 3079449 ps = true then nxP bf e ps else if isW bf e 239884 ps = true then nxP bf e ps else expP bf e 318696356 ps
def schP (bf : Nat → Int32) (e : Nat) (ps : PS) : PS := mustP bf e 59 (schQ bf e (nxP bf e ps))
/-- one setting: whether there is one, the state, the settings, the row -/
def set1 (bf : Nat → Int32) (e : Nat) (ps : PS) (dt dr : Nat → Int64) : Option (PS × (Nat → Int64) × (Nat → Int64)) :=
  if isW bf e 3497099 ps = true then some (setP bf e 0 1000000000 ps, va_up dt 0 (setV bf e 0 1000000000 ps), dr)
  else if isW bf e 385094 ps = true then some (setP bf e 1 1000 ps, va_up dt 1 (setV bf e 1 1000 ps), dr)
  else if isW bf e 400577 ps = true then some (setP bf e 1 100 ps, va_up dt 2 (setV bf e 1 100 ps), dr)
  else if isW bf e 279252 ps = true then some (setP bf e 0 300000 ps, va_up dt 3 (setV bf e 0 300000 ps), dr)
  else if isW bf e 40477 ps = true then some (setP bf e 1 1000000000 ps, va_up dt 4 (setV bf e 1 1000000000 ps), dr)
  else if isW bf e 274385021 ps = true then some (schP bf e ps, dt, va_up dr 1 (schV bf e ps))
  else none
def setL (bf : Nat → Int32) (e : Nat) : Nat → PS → (Nat → Int64) → (Nat → Int64) → PS × (Nat → Int64) × (Nat → Int64)
  | 0, ps, dt, dr => (ps, dt, dr)
  | f + 1, ps, dt, dr => match set1 bf e ps dt dr with
    | none => (ps, dt, dr)
    | some x => setL bf e f x.1 x.2.1 x.2.2
def muP (e : Nat) : PS → Nat
  | .ok g => e - g + 1
  | .error _ => 0
theorem tBeg_ge {bf : Nat → Int32} {e p : Nat} : p ≤ tBeg bf e p := runE_ge
theorem tEnd_gt {bf : Nat → Int32} {e g : Nat} (h : g < e) : g < tEnd bf e g := by
  unfold tEnd
  rw [if_pos h]
  split
  · rename_i hl
    rw [runE_s h hl]
    have := @runE_ge letQ bf e (g + 1)
    omega
  · split
    · rename_i hl
      rw [runE_s h hl]
      have := @runE_ge figQ bf e (g + 1)
      omega
    · omega
theorem mu_nx {bf : Nat → Int32} {e : Nat} {ps : PS} : muP e (nxP bf e ps) ≤ muP e ps := by
  cases ps with
  | ok g =>
    have h1 := @tEnd_ge bf e g
    have h2 := @tBeg_ge bf e (tEnd bf e g)
    show e - _ + 1 ≤ e - g + 1
    omega
  | error x => exact Nat.le_refl _
theorem tK_in {bf : Nat → Int32} {e g : Nat} (h : ¬ tKind bf e g = 0) : g < e := by
  refine Classical.byContradiction fun hn => ?_
  rw [tKind, if_neg hn] at h
  exact h rfl
theorem isW_g {bf : Nat → Int32} {e : Nat} {w : Int64} {g : Nat} (h : isW bf e w (.ok g) = true) : tKind bf e g = 1 := by
  simp only [isW, Bool.and_eq_true, decide_eq_true_eq] at h
  exact h.1
theorem mu_nxW {bf : Nat → Int32} {e : Nat} {w : Int64} {ps : PS} (h : isW bf e w ps = true) : muP e (nxP bf e ps) < muP e ps := by
  cases ps with
  | ok g =>
    have h0 : g < e := tK_in (by rw [isW_g h]; decide)
    have h1 := @tEnd_gt bf e g h0
    have h2 := @tBeg_ge bf e (tEnd bf e g)
    show e - _ + 1 < e - g + 1
    omega
  | error x => exact absurd h (by simp [isW])
theorem mu_wr {e : Nat} {c : Int32} {ps : PS} : muP e (wrP c ps) ≤ muP e ps := by
  cases ps with
  | ok g => exact Nat.zero_le _
  | error x => exact Nat.le_refl _
theorem mu_must {bf : Nat → Int32} {e : Nat} {c : Int32} {ps : PS} : muP e (mustP bf e c ps) ≤ muP e ps := by
  unfold mustP
  split
  · exact mu_nx
  · exact mu_wr
theorem mu_num {bf : Nat → Int32} {e : Nat} {lo hi : Int64} {ps : PS} : muP e (numP bf e lo hi ps) ≤ muP e ps := by
  cases ps with
  | ok g =>
    show muP e (if tKind bf e g = 2 then (if m_in (tVal bf e g) lo hi = true then nxP bf e (.ok g) else .error (2, g)) else .error (1, g)) ≤ _
    split
    · split
      · exact mu_nx
      · exact Nat.zero_le _
    · exact Nat.zero_le _
  | error x => exact Nat.le_refl _
theorem mu_exp {bf : Nat → Int32} {e : Nat} {w : Int64} {ps : PS} : muP e (expP bf e w ps) ≤ muP e ps := by
  unfold expP
  split
  · exact mu_nx
  · exact mu_wr
theorem mu_schQ {bf : Nat → Int32} {e : Nat} {ps : PS} : muP e (schQ bf e ps) ≤ muP e ps := by
  unfold schQ
  split
  · exact mu_nx
  · split
    · exact mu_nx
    · exact mu_exp
theorem mu_set1 {bf : Nat → Int32} {e : Nat} {ps : PS} {dt dr : Nat → Int64} {x : PS × (Nat → Int64) × (Nat → Int64)} (h : set1 bf e ps dt dr = some x) : muP e x.1 < muP e ps := by
  unfold set1 at h
  repeat' (first | (split at h) | (injection h with h; subst h))
  all_goals first
    | exact absurd h (by simp)
    | (rename_i hw; exact Nat.lt_of_le_of_lt (Nat.le_trans mu_must mu_num) (mu_nxW hw))
    | (rename_i hw; exact Nat.lt_of_le_of_lt (Nat.le_trans mu_must mu_schQ) (mu_nxW hw))
theorem okP_mu {e : Nat} {ps : PS} (h : muP e ps = 0) : okP ps = false := by
  cases ps with
  | ok g => exact absurd (show e - g + 1 = 0 from h) (by omega)
  | error x => rfl
theorem set1_bad {bf : Nat → Int32} {e : Nat} {ps : PS} {dt dr : Nat → Int64} (h : okP ps = false) : set1 bf e ps dt dr = none := by
  unfold set1
  rw [if_neg (nt (not_isW h)), if_neg (nt (not_isW h)), if_neg (nt (not_isW h)), if_neg (nt (not_isW h)), if_neg (nt (not_isW h)), if_neg (nt (not_isW h))]
set_option maxHeartbeats 4000000 in
set_option maxRecDepth 100000 in
theorem metX6_starts (l : Launch) (G : xG) (hG : xGood G) (b : Nat → Nat) (i : Nat → Int32) (j : Nat → Int64) (bf : Nat → Int32) (e : Nat) (he : e ≤ 600) : xWm l G yX6_starts (Cond.code yX6_starts cX6_starts 2 none) { frames := 3, locals := 61, cells := 0, slots := 0 } [.ref (b 0), .int (nI e)] [(b 0, .inr (5, mF b i j)), (b 13, .inl (0, 600, .inl bf))] (fun v w' => v = none ∧ ∃ (i' : Nat → Int32) (j' : Nat → Int64), w' = [(b 0, .inr (5, mF b i' j')), (b 13, .inl (0, 600, .inl bf))] ∧ rdP bf e i' j' (.ok (tBeg bf e 0)) ∧ i' 14 = 0 ∧ (∀ k, k ≠ 14 → k ≠ 15 → k ≠ 16 → k ≠ 17 → k ≠ 18 → k ≠ 21 → k ≠ 22 → i' k = i k) ∧ fJ j j') (fun _ _ => False) := by
  intro V hV
  refine xMet_of RX6 hG rfl (by decide) (Nat.le_of_ble_eq_true rfl) fun C hC hQ hX hl hg _ => ?_
  subst hl hg
  obtain ⟨V0, hV0⟩ : ∃ V0, V0 = V := ⟨_, rfl⟩
  obtain ⟨F, hF⟩ : ∃ F, F = xF [(b 0, .inr (5, mF b i j)), (b 13, .inl (0, 600, .inl bf))] := ⟨_, rfl⟩
  refine rn.mono (J := xSt F V0 [(b 0, .inr (5, mF b i j)), (b 13, .inl (0, 600, .inl bf))]) (fun V9 h => by rw [h, hV0, hF]; exact hV.st) ?_
  show rn C (xSt F V0 [(b 0, .inr (5, mF b i j)), (b 13, .inl (0, 600, .inl bf))]) 0 0 0 [(0, .ref (b 0)), (1, .int (nI e))] []
  refine r_aload_n hC 0 dX6_starts_0 rfl 1 rfl ?_
  refine r_iload_n hC 1 dX6_starts_1 rfl 2 rfl ?_
  refine r_put (J := xSt F V0 [(b 0, .inr (5, mF b (va_up i 15 (nI e)) j)), (b 13, .inl (0, 600, .inl bf))]) hC kX6 15 rfl q2768 rfl (fun _ h => h.get 0 rfl) (Nat.le_of_ble_eq_true rfl) rfl rfl dX6_starts_2 (fun _ h => h.set 0 _ rfl) 5 rfl ?_
  refine r_aload_n hC 0 dX6_starts_5 rfl 6 rfl ?_
  refine r_iconst hC 0 dX6_starts_6 ic_0 7 rfl ?_
  refine r_put (J := xSt F V0 [(b 0, .inr (5, mF b (va_up (va_up i 15 (nI e)) 14 0) j)), (b 13, .inl (0, 600, .inl bf))]) hC kX6 14 rfl q2767 rfl (fun _ h => h.get 0 rfl) (Nat.le_of_ble_eq_true rfl) rfl rfl dX6_starts_7 (fun _ h => h.set 0 _ rfl) 10 rfl ?_
  refine r_aload_n hC 0 dX6_starts_10 rfl 11 rfl ?_
  refine r_iconst hC 0 dX6_starts_11 ic_0 12 rfl ?_
  refine r_put (J := xSt F V0 [(b 0, .inr (5, mF b (va_up (va_up (va_up i 15 (nI e)) 14 0) 16 0) j)), (b 13, .inl (0, 600, .inl bf))]) hC kX6 16 rfl q2769 rfl (fun _ h => h.get 0 rfl) (Nat.le_of_ble_eq_true rfl) rfl rfl dX6_starts_12 (fun _ h => h.set 0 _ rfl) 15 rfl ?_
  refine r_aload_n hC 0 dX6_starts_15 rfl 16 rfl ?_
  refine r_iconst hC 0 dX6_starts_16 ic_0 17 rfl ?_
  refine r_put (J := xSt F V0 [(b 0, .inr (5, mF b (va_up (va_up (va_up (va_up i 15 (nI e)) 14 0) 16 0) 21 0) j)), (b 13, .inl (0, 600, .inl bf))]) hC kX6 21 rfl q2774 rfl (fun _ h => h.get 0 rfl) (Nat.le_of_ble_eq_true rfl) rfl rfl dX6_starts_17 (fun _ h => h.set 0 _ rfl) 20 rfl ?_
  refine r_aload_n hC 0 dX6_starts_20 rfl 21 rfl ?_
  refine r_iconst hC (-1) dX6_starts_21 ic_m1 22 rfl ?_
  refine r_put (J := xSt F V0 [(b 0, .inr (5, mF b (va_up (va_up (va_up (va_up (va_up i 15 (nI e)) 14 0) 16 0) 21 0) 22 (-1)) j)), (b 13, .inl (0, 600, .inl bf))]) hC kX6 22 rfl q2775 rfl (fun _ h => h.get 0 rfl) (Nat.le_of_ble_eq_true rfl) rfl rfl dX6_starts_22 (fun _ h => h.set 0 _ rfl) 25 rfl ?_
  refine r_aload_n hC 0 dX6_starts_25 rfl 26 rfl ?_
  refine r_invVw hC kX6 (b 0) [] [] mVX6_next q2902 0 rfl (metX6_next _ _ hG b (va_up (va_up (va_up (va_up (va_up i 15 (nI e)) 14 0) 16 0) 21 0) 22 (-1)) j bf e 0 he (Nat.zero_le _) rfl rfl) [0, 1] [] rfl rfl rfl rfl (by decide) ⟨rfl, rfl⟩ 0 0 rfl rfl (Nat.le_of_ble_eq_true rfl) (Nat.le_of_ble_eq_true rfl) rfl (Nat.le_of_ble_eq_true rfl) dX6_starts_26 29 rfl (fun v1 w2 h3 => ?_) (fun _ _ h => h.elim)
  obtain ⟨rfl, i8, j8, rfl, ht8, fi8, fj8⟩ := h3
  show rn C (xSt F V0 [(b 0, .inr (5, mF b i8 j8)), (b 13, .inl (0, 600, .inl bf))]) 0 0 29 [(0, .ref (b 0)), (1, .int (nI e))] []
  exact r_vret hC (Nat.le_of_ble_eq_true rfl) (Nat.le_of_ble_eq_true rfl) (fun V9 h => hQ _ _ ⟨[(b 0, .inr (5, mF b i8 j8)), (b 13, .inl (0, 600, .inl bf))], ⟨rfl, _, _, rfl, ⟨ht8, fi8 21 (by decide) (by decide) (by decide), fi8 22 (by decide) (by decide) (by decide)⟩, fi8 14 (by decide) (by decide) (by decide), fun k a1 a2 a3 a4 a5 a6 a7 => by rw [fi8 k a3 a4 a5, up_ne a7, up_ne a6, up_ne a3, up_ne a1, up_ne a2], fj8⟩, by rw [← hV0, ← hF]; exact h⟩) dX6_starts_29
set_option maxHeartbeats 4000000 in
set_option maxRecDepth 100000 in
theorem metX6_settingRead1 (l : Launch) (G : xG) (hG : xGood G) (b : Nat → Nat) (i : Nat → Int32) (j : Nat → Int64) (bf : Nat → Int32) (e : Nat) (he : e ≤ 600) (ps : PS) (hr : rdP bf e i j ps) (dt : Nat → Int64) (x lo hi : Int64) (k : Nat) (hk : k < 5) (hz : isW bf e x ps = true) : xWm l G yX6_settingRead (Cond.code yX6_settingRead cX6_settingRead 8 (some .boolean)) { frames := 4, locals := 87, cells := 0, slots := 0 } [.ref (b 0), .long x, .int (nI k), .long lo, .long hi] [(b 0, .inr (5, mF b i j)), (b 13, .inl (0, 600, .inl bf)), (b 8, .inl (1, 5, .inr (.inl dt)))] (fun v w' => v = some (.int 1) ∧ ∃ (i' : Nat → Int32) (j' : Nat → Int64), w' = [(b 0, .inr (5, mF b i' j')), (b 13, .inl (0, 600, .inl bf)), (b 8, .inl (1, 5, .inr (.inl (va_up dt k (setV bf e lo hi ps)))))] ∧ rdP bf e i' j' (setP bf e lo hi ps) ∧ gI i i' ∧ fJ j j') (fun _ _ => False) := by
  intro V hV
  refine xMet_of RX6 hG rfl (by decide) (Nat.le_of_ble_eq_true rfl) fun C hC hQ hX hl hg _ => ?_
  subst hl hg
  obtain ⟨V0, hV0⟩ : ∃ V0, V0 = V := ⟨_, rfl⟩
  obtain ⟨F, hF⟩ : ∃ F, F = xF [(b 0, .inr (5, mF b i j)), (b 13, .inl (0, 600, .inl bf)), (b 8, .inl (1, 5, .inr (.inl dt)))] := ⟨_, rfl⟩
  refine rn.mono (J := xSt F V0 [(b 0, .inr (5, mF b i j)), (b 13, .inl (0, 600, .inl bf)), (b 8, .inl (1, 5, .inr (.inl dt)))]) (fun V9 h => by rw [h, hV0, hF]; exact hV.st) ?_
  show rn C (xSt F V0 [(b 0, .inr (5, mF b i j)), (b 13, .inl (0, 600, .inl bf)), (b 8, .inl (1, 5, .inr (.inl dt)))]) 0 0 0 [(0, .ref (b 0)), (1, .long x), (3, .int (nI k)), (4, .long lo), (6, .long hi)] []
  refine r_aload_n hC 0 dX6_settingRead_0 rfl 1 rfl ?_
  refine r_lload_n hC 1 dX6_settingRead_1 rfl 2 rfl ?_
  refine r_invVw hC kX6 (b 0) [.long x] [(b 8, .inl (1, 5, .inr (.inl dt)))] mVX6_passes q2937 0 rfl (metX6_passes1 _ _ hG b i j bf e he ps hr x hz) [0, 1] [2] rfl rfl rfl rfl (by decide) ⟨rfl, rfl⟩ 0 0 rfl rfl (Nat.le_of_ble_eq_true rfl) (Nat.le_of_ble_eq_true rfl) rfl (Nat.le_of_ble_eq_true rfl) dX6_settingRead_2 5 rfl (fun v2 w3 h4 => ?_) (fun _ _ h => h.elim)
  obtain ⟨rfl, i1, j1, rfl, hr1, gi1, fj1⟩ := h4
  show rn C (xSt F V0 [(b 8, .inl (1, 5, .inr (.inl dt))), (b 0, .inr (5, mF b i1 j1)), (b 13, .inl (0, 600, .inl bf))]) 0 0 5 [(0, .ref (b 0)), (1, .long x), (3, .int (nI k)), (4, .long lo), (6, .long hi)] [.int 1]
  refine r_ifne hC 10 dX6_settingRead_5 (by decide) 8 rfl (fun _ => ?_) (fun h => absurd h (by decide))
  refine r_aload_n hC 0 dX6_settingRead_10 rfl 11 rfl ?_
  refine r_get (v := .ref (b 8)) hC kX6 8 rfl q2761 (fun _ h => h.get 1 rfl) rfl dX6_settingRead_11 14 rfl ?_
  refine r_iload_n hC 2 dX6_settingRead_14 rfl 15 rfl ?_
  refine r_aload_n hC 0 dX6_settingRead_15 rfl 16 rfl ?_
  refine r_lload hC 3 dX6_settingRead_16 rfl 18 rfl ?_
  refine r_lload hC 4 dX6_settingRead_18 rfl 20 rfl ?_
  refine r_invVw hC kX6 (b 0) [.long lo, .long hi] [(b 8, .inl (1, 5, .inr (.inl dt)))] mVX6_number q2949 1 rfl (metX6_number _ _ hG b i1 j1 bf e he (nxP bf e ps) hr1 lo hi) [1, 2] [0] rfl rfl rfl rfl (by decide) ⟨rfl, rfl⟩ 0 0 rfl rfl (Nat.le_of_ble_eq_true rfl) (Nat.le_of_ble_eq_true rfl) rfl (Nat.le_of_ble_eq_true rfl) dX6_settingRead_20 23 rfl (fun v6 w7 h8 => ?_) (fun _ _ h => h.elim)
  obtain ⟨rfl, i5, j5, rfl, hr5, gi5, fj5⟩ := h8
  show rn C (xSt F V0 [(b 8, .inl (1, 5, .inr (.inl dt))), (b 0, .inr (5, mF b i5 j5)), (b 13, .inl (0, 600, .inl bf))]) 0 0 23 [(0, .ref (b 0)), (1, .long x), (3, .int (nI k)), (4, .long lo), (6, .long hi)] [.long (numV bf e lo hi (nxP bf e ps)), .int (nI k), .ref (b 8)]
  refine r_last (J := xSt F V0 [(b 8, .inl (1, 5, .inr (.inl (va_up dt k (numV bf e lo hi (nxP bf e ps)))))), (b 0, .inr (5, mF b i5 j5)), (b 13, .inl (0, 600, .inl bf))]) hC k (xix_n k (by omega) (Nat.le_of_ble_eq_true rfl)) (fun _ h => h.get 0 rfl) dX6_settingRead_23 (fun _ h => h.set 0 _ rfl) 24 rfl ?_
  generalize hu9 : va_up dt k (numV bf e lo hi (nxP bf e ps)) = u9
  refine r_aload_n hC 0 dX6_settingRead_24 rfl 25 rfl ?_
  refine r_bipush hC 59 dX6_settingRead_25 bp_59 27 rfl ?_
  refine r_invVw hC kX6 (b 0) [.int 59] [(b 8, .inl (1, 5, .inr (.inl u9)))] mVX6_must q2957 1 rfl (metX6_must _ _ hG b i5 j5 bf e he (numP bf e lo hi (nxP bf e ps)) hr5 59) [1, 2] [0] rfl rfl rfl rfl (by decide) ⟨rfl, rfl⟩ 0 0 rfl rfl (Nat.le_of_ble_eq_true rfl) (Nat.le_of_ble_eq_true rfl) rfl (Nat.le_of_ble_eq_true rfl) dX6_settingRead_27 30 rfl (fun v11 w12 h13 => ?_) (fun _ _ h => h.elim)
  obtain ⟨rfl, i10, j10, rfl, hr10, gi10, fj10⟩ := h13
  show rn C (xSt F V0 [(b 8, .inl (1, 5, .inr (.inl u9))), (b 0, .inr (5, mF b i10 j10)), (b 13, .inl (0, 600, .inl bf))]) 0 0 30 [(0, .ref (b 0)), (1, .long x), (3, .int (nI k)), (4, .long lo), (6, .long hi)] []
  refine r_iconst hC 1 dX6_settingRead_30 ic_1 31 rfl ?_
  subst hu9
  exact r_zret hC (by decide) (Nat.le_of_ble_eq_true rfl) (Nat.le_of_ble_eq_true rfl) (fun V9 h => hQ _ _ ⟨[(b 0, .inr (5, mF b i10 j10)), (b 13, .inl (0, 600, .inl bf)), (b 8, .inl (1, 5, .inr (.inl (va_up dt k (numV bf e lo hi (nxP bf e ps))))))], ⟨rfl, _, _, rfl, hr10, ((gi1.trans gi5).trans gi10), ((fj1.trans fj5).trans fj10)⟩, by rw [← hV0, ← hF]; exact (h.sub [1, 2, 0] rfl rfl)⟩) dX6_settingRead_31
set_option maxHeartbeats 4000000 in
set_option maxRecDepth 100000 in
theorem metX6_settingRead0 (l : Launch) (G : xG) (hG : xGood G) (b : Nat → Nat) (i : Nat → Int32) (j : Nat → Int64) (bf : Nat → Int32) (e : Nat) (he : e ≤ 600) (ps : PS) (hr : rdP bf e i j ps) (x lo hi : Int64) (k : Int32) (hz : isW bf e x ps = false) : xRm l G yX6_settingRead (Cond.code yX6_settingRead cX6_settingRead 8 (some .boolean)) { frames := 3, locals := 64, cells := 0, slots := 0 } [.ref (b 0), .long x, .int k, .long lo, .long hi] [(b 0, .inr (5, mF b i j)), (b 13, .inl (0, 600, .inl bf))] (some (.int 0)) := by
  intro V hV
  refine xMet_of RX6 hG rfl (by decide) (Nat.le_of_ble_eq_true rfl) fun C hC hQ hX hl hg _ => ?_
  subst hl hg
  refine rn.mono (J := xRo [(b 0, .inr (5, mF b i j)), (b 13, .inl (0, 600, .inl bf))] V) (fun V9 h => ⟨h, hV⟩) ?_
  show rn C (xRo [(b 0, .inr (5, mF b i j)), (b 13, .inl (0, 600, .inl bf))] V) 0 0 0 [(0, .ref (b 0)), (1, .long x), (3, .int k), (4, .long lo), (6, .long hi)] []
  refine r_aload_n hC 0 dX6_settingRead_0 rfl 1 rfl ?_
  refine r_lload_n hC 1 dX6_settingRead_1 rfl 2 rfl ?_
  refine r_invVr hC kX6 (b 0) [.long x] (.int 0) mVX6_passes q2937 (fun _ h => h.get 0 rfl) (metX6_passes0 _ _ hG b i j bf e he ps hr x hz) (fun _ h => h.in.sub [0, 1] rfl rfl) ⟨rfl, rfl⟩ 0 0 rfl rfl (Nat.le_of_ble_eq_true rfl) (Nat.le_of_ble_eq_true rfl) rfl (Nat.le_of_ble_eq_true rfl) dX6_settingRead_2 5 rfl ?_
  refine r_ifne hC 10 dX6_settingRead_5 (by decide) 8 rfl (fun h => absurd h (by decide)) (fun _ => ?_)
  refine r_iconst hC 0 dX6_settingRead_8 ic_0 9 rfl ?_
  exact r_zret hC (by decide) (Nat.le_of_ble_eq_true rfl) (Nat.le_of_ble_eq_true rfl) (fun V9 h => hQ _ _ ⟨rfl, h.1⟩) dX6_settingRead_9
set_option maxHeartbeats 4000000 in
set_option maxRecDepth 100000 in
theorem metX6_schemeRead1 (l : Launch) (G : xG) (hG : xGood G) (b : Nat → Nat) (i : Nat → Int32) (j : Nat → Int64) (bf : Nat → Int32) (e : Nat) (he : e ≤ 600) (ps : PS) (hr : rdP bf e i j ps) (dr : Nat → Int64) (hz : isW bf e 274385021 ps = true) : xWm l G yX6_schemeRead (Cond.code yX6_schemeRead cX6_schemeRead 1 (some .boolean)) { frames := 4, locals := 83, cells := 0, slots := 0 } [.ref (b 0)] [(b 0, .inr (5, mF b i j)), (b 13, .inl (0, 600, .inl bf)), (b 3, .inl (1, 111, .inr (.inl dr)))] (fun v w' => v = some (.int 1) ∧ ∃ (i' : Nat → Int32) (j' : Nat → Int64), w' = [(b 0, .inr (5, mF b i' j')), (b 13, .inl (0, 600, .inl bf)), (b 3, .inl (1, 111, .inr (.inl (va_up dr 1 (schV bf e ps)))))] ∧ rdP bf e i' j' (schP bf e ps) ∧ gI i i' ∧ fJ j j') (fun _ _ => False) := by
  intro V hV
  refine xMet_of RX6 hG rfl (by decide) (Nat.le_of_ble_eq_true rfl) fun C hC hQ hX hl hg _ => ?_
  subst hl hg
  obtain ⟨V0, hV0⟩ : ∃ V0, V0 = V := ⟨_, rfl⟩
  obtain ⟨F, hF⟩ : ∃ F, F = xF [(b 0, .inr (5, mF b i j)), (b 13, .inl (0, 600, .inl bf)), (b 3, .inl (1, 111, .inr (.inl dr)))] := ⟨_, rfl⟩
  refine rn.mono (J := xSt F V0 [(b 0, .inr (5, mF b i j)), (b 13, .inl (0, 600, .inl bf)), (b 3, .inl (1, 111, .inr (.inl dr)))]) (fun V9 h => by rw [h, hV0, hF]; exact hV.st) ?_
  show rn C (xSt F V0 [(b 0, .inr (5, mF b i j)), (b 13, .inl (0, 600, .inl bf)), (b 3, .inl (1, 111, .inr (.inl dr)))]) 0 0 0 [(0, .ref (b 0))] []
  refine r_aload_n hC 0 dX6_schemeRead_0 rfl 1 rfl ?_
  refine r_ldc2 hC q2973 dX6_schemeRead_1 4 rfl ?_
  refine r_invVw hC kX6 (b 0) [.long 274385021] [(b 3, .inl (1, 111, .inr (.inl dr)))] mVX6_passes q2937 0 rfl (metX6_passes1 _ _ hG b i j bf e he ps hr 274385021 hz) [0, 1] [2] rfl rfl rfl rfl (by decide) ⟨rfl, rfl⟩ 0 0 rfl rfl (Nat.le_of_ble_eq_true rfl) (Nat.le_of_ble_eq_true rfl) rfl (Nat.le_of_ble_eq_true rfl) dX6_schemeRead_4 7 rfl (fun v2 w3 h4 => ?_) (fun _ _ h => h.elim)
  obtain ⟨rfl, i1, j1, rfl, hr1, gi1, fj1⟩ := h4
  show rn C (xSt F V0 [(b 3, .inl (1, 111, .inr (.inl dr))), (b 0, .inr (5, mF b i1 j1)), (b 13, .inl (0, 600, .inl bf))]) 0 0 7 [(0, .ref (b 0))] [.int 1]
  refine r_ifne hC 12 dX6_schemeRead_7 (by decide) 10 rfl (fun _ => ?_) (fun h => absurd h (by decide))
  refine r_aload_n hC 0 dX6_schemeRead_12 rfl 13 rfl ?_
  refine r_get (v := .ref (b 3)) hC kX6 3 rfl q2756 (fun _ h => h.get 1 rfl) rfl dX6_schemeRead_13 16 rfl ?_
  refine r_iconst hC 1 dX6_schemeRead_16 ic_1 17 rfl ?_
  refine r_aload_n hC 0 dX6_schemeRead_17 rfl 18 rfl ?_
  refine r_ldc2 hC q2974 dX6_schemeRead_18 21 rfl ?_
  rcases Bool.eq_false_or_eq_true (isW bf e 3079449 (nxP bf e ps)) with hk5 | hk5
  · skip
    refine r_invVr hC kX6 (b 0) [.long 3079449] (.int 1) mVX6_isWord q2941 (fun _ h => h.get 1 rfl) (xRm_v (metX6_isWord _ _ hG b i1 j1 bf e he (nxP bf e ps) hr1 3079449) (show _ = some (Value.int 1) by rw [hk5]; rfl)) (fun _ h => h.in.sub [1, 2] rfl rfl) ⟨rfl, rfl⟩ 0 0 rfl rfl (Nat.le_of_ble_eq_true rfl) (Nat.le_of_ble_eq_true rfl) rfl (Nat.le_of_ble_eq_true rfl) dX6_schemeRead_21 24 rfl ?_
    refine r_ifeq hC 31 dX6_schemeRead_24 (by decide) 27 rfl (fun h => absurd h (by decide)) (fun _ => ?_)
    refine r_lconst hC 0 dX6_schemeRead_27 lc_0 28 rfl ?_
    refine r_goto hC 48 dX6_schemeRead_28 (by decide) ?_
    refine r_last (J := xSt F V0 [(b 3, .inl (1, 111, .inr (.inl (va_up dr 1 0)))), (b 0, .inr (5, mF b i1 j1)), (b 13, .inl (0, 600, .inl bf))]) hC 1 (xix_n 1 (Nat.le_of_ble_eq_true rfl) (Nat.le_of_ble_eq_true rfl)) (fun _ h => h.get 0 rfl) dX6_schemeRead_48 (fun _ h => h.set 0 _ rfl) 49 rfl ?_
    generalize hu6 : va_up dr 1 0 = u6
    refine r_aload_n hC 0 dX6_schemeRead_49 rfl 50 rfl ?_
    refine r_ldc2 hC q2974 dX6_schemeRead_50 53 rfl ?_
    refine r_invVw hC kX6 (b 0) [.long 3079449] [(b 3, .inl (1, 111, .inr (.inl u6)))] mVX6_passes q2937 1 rfl (metX6_passes1 _ _ hG b i1 j1 bf e he (nxP bf e ps) hr1 3079449 hk5) [1, 2] [0] rfl rfl rfl rfl (by decide) ⟨rfl, rfl⟩ 0 0 rfl rfl (Nat.le_of_ble_eq_true rfl) (Nat.le_of_ble_eq_true rfl) rfl (Nat.le_of_ble_eq_true rfl) dX6_schemeRead_53 56 rfl (fun v8 w9 h10 => ?_) (fun _ _ h => h.elim)
    obtain ⟨rfl, i7, j7, rfl, hr7, gi7, fj7⟩ := h10
    show rn C (xSt F V0 [(b 3, .inl (1, 111, .inr (.inl u6))), (b 0, .inr (5, mF b i7 j7)), (b 13, .inl (0, 600, .inl bf))]) 0 0 56 [(0, .ref (b 0))] [.int 1]
    refine r_ifne hC 85 dX6_schemeRead_56 (by decide) 59 rfl (fun _ => ?_) (fun h => absurd h (by decide))
    refine r_aload_n hC 0 dX6_schemeRead_85 rfl 86 rfl ?_
    refine r_bipush hC 59 dX6_schemeRead_86 bp_59 88 rfl ?_
    refine r_invVw hC kX6 (b 0) [.int 59] [(b 3, .inl (1, 111, .inr (.inl u6)))] mVX6_must q2957 1 rfl (metX6_must _ _ hG b i7 j7 bf e he (nxP bf e (nxP bf e ps)) hr7 59) [1, 2] [0] rfl rfl rfl rfl (by decide) ⟨rfl, rfl⟩ 0 0 rfl rfl (Nat.le_of_ble_eq_true rfl) (Nat.le_of_ble_eq_true rfl) rfl (Nat.le_of_ble_eq_true rfl) dX6_schemeRead_88 91 rfl (fun v12 w13 h14 => ?_) (fun _ _ h => h.elim)
    obtain ⟨rfl, i11, j11, rfl, hr11, gi11, fj11⟩ := h14
    show rn C (xSt F V0 [(b 3, .inl (1, 111, .inr (.inl u6))), (b 0, .inr (5, mF b i11 j11)), (b 13, .inl (0, 600, .inl bf))]) 0 0 91 [(0, .ref (b 0))] []
    refine r_iconst hC 1 dX6_schemeRead_91 ic_1 92 rfl ?_
    subst hu6
    exact r_zret hC (by decide) (Nat.le_of_ble_eq_true rfl) (Nat.le_of_ble_eq_true rfl) (fun V9 h => hQ _ _ ⟨[(b 0, .inr (5, mF b i11 j11)), (b 13, .inl (0, 600, .inl bf)), (b 3, .inl (1, 111, .inr (.inl (va_up dr 1 0))))], ⟨rfl, _, _, by rw [schV, if_pos hk5], (by rw [schP, schQ, if_pos hk5]; exact hr11), ((gi1.trans gi7).trans gi11), ((fj1.trans fj7).trans fj11)⟩, by rw [← hV0, ← hF]; exact (h.sub [1, 2, 0] rfl rfl)⟩) dX6_schemeRead_92
  · skip
    refine r_invVr hC kX6 (b 0) [.long 3079449] (.int 0) mVX6_isWord q2941 (fun _ h => h.get 1 rfl) (xRm_v (metX6_isWord _ _ hG b i1 j1 bf e he (nxP bf e ps) hr1 3079449) (show _ = some (Value.int 0) by rw [hk5]; rfl)) (fun _ h => h.in.sub [1, 2] rfl rfl) ⟨rfl, rfl⟩ 0 0 rfl rfl (Nat.le_of_ble_eq_true rfl) (Nat.le_of_ble_eq_true rfl) rfl (Nat.le_of_ble_eq_true rfl) dX6_schemeRead_21 24 rfl ?_
    refine r_ifeq hC 31 dX6_schemeRead_24 (by decide) 27 rfl (fun _ => ?_) (fun h => absurd h (by decide))
    refine r_aload_n hC 0 dX6_schemeRead_31 rfl 32 rfl ?_
    refine r_ldc2 hC q2975 dX6_schemeRead_32 35 rfl ?_
    rcases Bool.eq_false_or_eq_true (isW bf e 239884 (nxP bf e ps)) with hk15 | hk15
    · skip
      refine r_invVr hC kX6 (b 0) [.long 239884] (.int 1) mVX6_isWord q2941 (fun _ h => h.get 1 rfl) (xRm_v (metX6_isWord _ _ hG b i1 j1 bf e he (nxP bf e ps) hr1 239884) (show _ = some (Value.int 1) by rw [hk15]; rfl)) (fun _ h => h.in.sub [1, 2] rfl rfl) ⟨rfl, rfl⟩ 0 0 rfl rfl (Nat.le_of_ble_eq_true rfl) (Nat.le_of_ble_eq_true rfl) rfl (Nat.le_of_ble_eq_true rfl) dX6_schemeRead_35 38 rfl ?_
      refine r_ifeq hC 45 dX6_schemeRead_38 (by decide) 41 rfl (fun h => absurd h (by decide)) (fun _ => ?_)
      refine r_lconst hC 1 dX6_schemeRead_41 lc_1 42 rfl ?_
      refine r_goto hC 48 dX6_schemeRead_42 (by decide) ?_
      refine r_last (J := xSt F V0 [(b 3, .inl (1, 111, .inr (.inl (va_up dr 1 1)))), (b 0, .inr (5, mF b i1 j1)), (b 13, .inl (0, 600, .inl bf))]) hC 1 (xix_n 1 (Nat.le_of_ble_eq_true rfl) (Nat.le_of_ble_eq_true rfl)) (fun _ h => h.get 0 rfl) dX6_schemeRead_48 (fun _ h => h.set 0 _ rfl) 49 rfl ?_
      generalize hu16 : va_up dr 1 1 = u16
      refine r_aload_n hC 0 dX6_schemeRead_49 rfl 50 rfl ?_
      refine r_ldc2 hC q2974 dX6_schemeRead_50 53 rfl ?_
      refine r_invVr hC kX6 (b 0) [.long 3079449] (.int 0) mVX6_passes q2937 (fun _ h => h.get 1 rfl) (metX6_passes0 _ _ hG b i1 j1 bf e he (nxP bf e ps) hr1 3079449 hk5) (fun _ h => h.in.sub [1, 2] rfl rfl) ⟨rfl, rfl⟩ 0 0 rfl rfl (Nat.le_of_ble_eq_true rfl) (Nat.le_of_ble_eq_true rfl) rfl (Nat.le_of_ble_eq_true rfl) dX6_schemeRead_53 56 rfl ?_
      refine r_ifne hC 85 dX6_schemeRead_56 (by decide) 59 rfl (fun h => absurd h (by decide)) (fun _ => ?_)
      refine r_aload_n hC 0 dX6_schemeRead_59 rfl 60 rfl ?_
      refine r_ldc2 hC q2975 dX6_schemeRead_60 63 rfl ?_
      refine r_invVw hC kX6 (b 0) [.long 239884] [(b 3, .inl (1, 111, .inr (.inl u16)))] mVX6_passes q2937 1 rfl (metX6_passes1 _ _ hG b i1 j1 bf e he (nxP bf e ps) hr1 239884 hk15) [1, 2] [0] rfl rfl rfl rfl (by decide) ⟨rfl, rfl⟩ 0 0 rfl rfl (Nat.le_of_ble_eq_true rfl) (Nat.le_of_ble_eq_true rfl) rfl (Nat.le_of_ble_eq_true rfl) dX6_schemeRead_63 66 rfl (fun v18 w19 h20 => ?_) (fun _ _ h => h.elim)
      obtain ⟨rfl, i17, j17, rfl, hr17, gi17, fj17⟩ := h20
      show rn C (xSt F V0 [(b 3, .inl (1, 111, .inr (.inl u16))), (b 0, .inr (5, mF b i17 j17)), (b 13, .inl (0, 600, .inl bf))]) 0 0 66 [(0, .ref (b 0))] [.int 1]
      refine r_ifne hC 85 dX6_schemeRead_66 (by decide) 69 rfl (fun _ => ?_) (fun h => absurd h (by decide))
      refine r_aload_n hC 0 dX6_schemeRead_85 rfl 86 rfl ?_
      refine r_bipush hC 59 dX6_schemeRead_86 bp_59 88 rfl ?_
      refine r_invVw hC kX6 (b 0) [.int 59] [(b 3, .inl (1, 111, .inr (.inl u16)))] mVX6_must q2957 1 rfl (metX6_must _ _ hG b i17 j17 bf e he (nxP bf e (nxP bf e ps)) hr17 59) [1, 2] [0] rfl rfl rfl rfl (by decide) ⟨rfl, rfl⟩ 0 0 rfl rfl (Nat.le_of_ble_eq_true rfl) (Nat.le_of_ble_eq_true rfl) rfl (Nat.le_of_ble_eq_true rfl) dX6_schemeRead_88 91 rfl (fun v22 w23 h24 => ?_) (fun _ _ h => h.elim)
      obtain ⟨rfl, i21, j21, rfl, hr21, gi21, fj21⟩ := h24
      show rn C (xSt F V0 [(b 3, .inl (1, 111, .inr (.inl u16))), (b 0, .inr (5, mF b i21 j21)), (b 13, .inl (0, 600, .inl bf))]) 0 0 91 [(0, .ref (b 0))] []
      refine r_iconst hC 1 dX6_schemeRead_91 ic_1 92 rfl ?_
      subst hu16
      exact r_zret hC (by decide) (Nat.le_of_ble_eq_true rfl) (Nat.le_of_ble_eq_true rfl) (fun V9 h => hQ _ _ ⟨[(b 0, .inr (5, mF b i21 j21)), (b 13, .inl (0, 600, .inl bf)), (b 3, .inl (1, 111, .inr (.inl (va_up dr 1 1))))], ⟨rfl, _, _, by rw [schV, if_neg (nt hk5), if_pos hk15], (by rw [schP, schQ, if_neg (nt hk5), if_pos hk15]; exact hr21), ((gi1.trans gi17).trans gi21), ((fj1.trans fj17).trans fj21)⟩, by rw [← hV0, ← hF]; exact (h.sub [1, 2, 0] rfl rfl)⟩) dX6_schemeRead_92
    · skip
      refine r_invVr hC kX6 (b 0) [.long 239884] (.int 0) mVX6_isWord q2941 (fun _ h => h.get 1 rfl) (xRm_v (metX6_isWord _ _ hG b i1 j1 bf e he (nxP bf e ps) hr1 239884) (show _ = some (Value.int 0) by rw [hk15]; rfl)) (fun _ h => h.in.sub [1, 2] rfl rfl) ⟨rfl, rfl⟩ 0 0 rfl rfl (Nat.le_of_ble_eq_true rfl) (Nat.le_of_ble_eq_true rfl) rfl (Nat.le_of_ble_eq_true rfl) dX6_schemeRead_35 38 rfl ?_
      refine r_ifeq hC 45 dX6_schemeRead_38 (by decide) 41 rfl (fun _ => ?_) (fun h => absurd h (by decide))
      refine r_ldc2 hC q2728 dX6_schemeRead_45 48 rfl ?_
      refine r_last (J := xSt F V0 [(b 3, .inl (1, 111, .inr (.inl (va_up dr 1 2)))), (b 0, .inr (5, mF b i1 j1)), (b 13, .inl (0, 600, .inl bf))]) hC 1 (xix_n 1 (Nat.le_of_ble_eq_true rfl) (Nat.le_of_ble_eq_true rfl)) (fun _ h => h.get 0 rfl) dX6_schemeRead_48 (fun _ h => h.set 0 _ rfl) 49 rfl ?_
      generalize hu25 : va_up dr 1 2 = u25
      refine r_aload_n hC 0 dX6_schemeRead_49 rfl 50 rfl ?_
      refine r_ldc2 hC q2974 dX6_schemeRead_50 53 rfl ?_
      refine r_invVr hC kX6 (b 0) [.long 3079449] (.int 0) mVX6_passes q2937 (fun _ h => h.get 1 rfl) (metX6_passes0 _ _ hG b i1 j1 bf e he (nxP bf e ps) hr1 3079449 hk5) (fun _ h => h.in.sub [1, 2] rfl rfl) ⟨rfl, rfl⟩ 0 0 rfl rfl (Nat.le_of_ble_eq_true rfl) (Nat.le_of_ble_eq_true rfl) rfl (Nat.le_of_ble_eq_true rfl) dX6_schemeRead_53 56 rfl ?_
      refine r_ifne hC 85 dX6_schemeRead_56 (by decide) 59 rfl (fun h => absurd h (by decide)) (fun _ => ?_)
      refine r_aload_n hC 0 dX6_schemeRead_59 rfl 60 rfl ?_
      refine r_ldc2 hC q2975 dX6_schemeRead_60 63 rfl ?_
      refine r_invVr hC kX6 (b 0) [.long 239884] (.int 0) mVX6_passes q2937 (fun _ h => h.get 1 rfl) (metX6_passes0 _ _ hG b i1 j1 bf e he (nxP bf e ps) hr1 239884 hk15) (fun _ h => h.in.sub [1, 2] rfl rfl) ⟨rfl, rfl⟩ 0 0 rfl rfl (Nat.le_of_ble_eq_true rfl) (Nat.le_of_ble_eq_true rfl) rfl (Nat.le_of_ble_eq_true rfl) dX6_schemeRead_63 66 rfl ?_
      refine r_ifne hC 85 dX6_schemeRead_66 (by decide) 69 rfl (fun h => absurd h (by decide)) (fun _ => ?_)
      refine r_aload_n hC 0 dX6_schemeRead_69 rfl 70 rfl ?_
      refine r_ldc2 hC q2976 dX6_schemeRead_70 73 rfl ?_
      rcases Bool.eq_false_or_eq_true (isW bf e 318696356 (nxP bf e ps)) with hk26 | hk26
      · skip
        refine r_invVw hC kX6 (b 0) [.long 318696356] [(b 3, .inl (1, 111, .inr (.inl u25)))] mVX6_passes q2937 1 rfl (metX6_passes1 _ _ hG b i1 j1 bf e he (nxP bf e ps) hr1 318696356 hk26) [1, 2] [0] rfl rfl rfl rfl (by decide) ⟨rfl, rfl⟩ 0 0 rfl rfl (Nat.le_of_ble_eq_true rfl) (Nat.le_of_ble_eq_true rfl) rfl (Nat.le_of_ble_eq_true rfl) dX6_schemeRead_73 76 rfl (fun v28 w29 h30 => ?_) (fun _ _ h => h.elim)
        obtain ⟨rfl, i27, j27, rfl, hr27, gi27, fj27⟩ := h30
        show rn C (xSt F V0 [(b 3, .inl (1, 111, .inr (.inl u25))), (b 0, .inr (5, mF b i27 j27)), (b 13, .inl (0, 600, .inl bf))]) 0 0 76 [(0, .ref (b 0))] [.int 1]
        refine r_ifne hC 85 dX6_schemeRead_76 (by decide) 79 rfl (fun _ => ?_) (fun h => absurd h (by decide))
        refine r_aload_n hC 0 dX6_schemeRead_85 rfl 86 rfl ?_
        refine r_bipush hC 59 dX6_schemeRead_86 bp_59 88 rfl ?_
        refine r_invVw hC kX6 (b 0) [.int 59] [(b 3, .inl (1, 111, .inr (.inl u25)))] mVX6_must q2957 1 rfl (metX6_must _ _ hG b i27 j27 bf e he (nxP bf e (nxP bf e ps)) hr27 59) [1, 2] [0] rfl rfl rfl rfl (by decide) ⟨rfl, rfl⟩ 0 0 rfl rfl (Nat.le_of_ble_eq_true rfl) (Nat.le_of_ble_eq_true rfl) rfl (Nat.le_of_ble_eq_true rfl) dX6_schemeRead_88 91 rfl (fun v32 w33 h34 => ?_) (fun _ _ h => h.elim)
        obtain ⟨rfl, i31, j31, rfl, hr31, gi31, fj31⟩ := h34
        show rn C (xSt F V0 [(b 3, .inl (1, 111, .inr (.inl u25))), (b 0, .inr (5, mF b i31 j31)), (b 13, .inl (0, 600, .inl bf))]) 0 0 91 [(0, .ref (b 0))] []
        refine r_iconst hC 1 dX6_schemeRead_91 ic_1 92 rfl ?_
        subst hu25
        exact r_zret hC (by decide) (Nat.le_of_ble_eq_true rfl) (Nat.le_of_ble_eq_true rfl) (fun V9 h => hQ _ _ ⟨[(b 0, .inr (5, mF b i31 j31)), (b 13, .inl (0, 600, .inl bf)), (b 3, .inl (1, 111, .inr (.inl (va_up dr 1 2))))], ⟨rfl, _, _, by rw [schV, if_neg (nt hk5), if_neg (nt hk15)], (by rw [schP, schQ, if_neg (nt hk5), if_neg (nt hk15), expP, if_pos hk26]; exact hr31), ((gi1.trans gi27).trans gi31), ((fj1.trans fj27).trans fj31)⟩, by rw [← hV0, ← hF]; exact (h.sub [1, 2, 0] rfl rfl)⟩) dX6_schemeRead_92
      · skip
        refine r_invVr hC kX6 (b 0) [.long 318696356] (.int 0) mVX6_passes q2937 (fun _ h => h.get 1 rfl) (metX6_passes0 _ _ hG b i1 j1 bf e he (nxP bf e ps) hr1 318696356 hk26) (fun _ h => h.in.sub [1, 2] rfl rfl) ⟨rfl, rfl⟩ 0 0 rfl rfl (Nat.le_of_ble_eq_true rfl) (Nat.le_of_ble_eq_true rfl) rfl (Nat.le_of_ble_eq_true rfl) dX6_schemeRead_73 76 rfl ?_
        refine r_ifne hC 85 dX6_schemeRead_76 (by decide) 79 rfl (fun h => absurd h (by decide)) (fun _ => ?_)
        refine r_aload_n hC 0 dX6_schemeRead_79 rfl 80 rfl ?_
        refine r_iconst hC 1 dX6_schemeRead_80 ic_1 81 rfl ?_
        refine r_invVw hC kX6 (b 0) [.int 1] [(b 3, .inl (1, 111, .inr (.inl u25))), (b 13, .inl (0, 600, .inl bf))] mVX6_wrongs q2953 1 rfl (metX6_wrongsP _ _ hG b i1 j1 bf e he (nxP bf e ps) hr1 1 (by decide)) [1] [0, 2] rfl rfl rfl rfl (by decide) ⟨rfl, rfl⟩ 0 0 rfl rfl (Nat.le_of_ble_eq_true rfl) (Nat.le_of_ble_eq_true rfl) rfl (Nat.le_of_ble_eq_true rfl) dX6_schemeRead_81 84 rfl (fun v36 w37 h38 => ?_) (fun _ _ h => h.elim)
        obtain ⟨rfl, i35, j35, rfl, hr35, gi35, fj35⟩ := h38
        show rn C (xSt F V0 [(b 3, .inl (1, 111, .inr (.inl u25))), (b 13, .inl (0, 600, .inl bf)), (b 0, .inr (5, mF b i35 j35))]) 0 0 84 [(0, .ref (b 0))] [.int 0]
        refine r_pop hC dX6_schemeRead_84 rfl 85 rfl ?_
        refine r_aload_n hC 0 dX6_schemeRead_85 rfl 86 rfl ?_
        refine r_bipush hC 59 dX6_schemeRead_86 bp_59 88 rfl ?_
        refine r_invVw hC kX6 (b 0) [.int 59] [(b 3, .inl (1, 111, .inr (.inl u25)))] mVX6_must q2957 2 rfl (metX6_must _ _ hG b i35 j35 bf e he (wrP 1 (nxP bf e ps)) hr35 59) [2, 1] [0] rfl rfl rfl rfl (by decide) ⟨rfl, rfl⟩ 0 0 rfl rfl (Nat.le_of_ble_eq_true rfl) (Nat.le_of_ble_eq_true rfl) rfl (Nat.le_of_ble_eq_true rfl) dX6_schemeRead_88 91 rfl (fun v40 w41 h42 => ?_) (fun _ _ h => h.elim)
        obtain ⟨rfl, i39, j39, rfl, hr39, gi39, fj39⟩ := h42
        show rn C (xSt F V0 [(b 3, .inl (1, 111, .inr (.inl u25))), (b 0, .inr (5, mF b i39 j39)), (b 13, .inl (0, 600, .inl bf))]) 0 0 91 [(0, .ref (b 0))] []
        refine r_iconst hC 1 dX6_schemeRead_91 ic_1 92 rfl ?_
        subst hu25
        exact r_zret hC (by decide) (Nat.le_of_ble_eq_true rfl) (Nat.le_of_ble_eq_true rfl) (fun V9 h => hQ _ _ ⟨[(b 0, .inr (5, mF b i39 j39)), (b 13, .inl (0, 600, .inl bf)), (b 3, .inl (1, 111, .inr (.inl (va_up dr 1 2))))], ⟨rfl, _, _, by rw [schV, if_neg (nt hk5), if_neg (nt hk15)], (by rw [schP, schQ, if_neg (nt hk5), if_neg (nt hk15), expP, if_neg (nt hk26)]; exact hr39), ((gi1.trans gi35).trans gi39), ((fj1.trans fj35).trans fj39)⟩, by rw [← hV0, ← hF]; exact (h.sub [1, 2, 0] rfl rfl)⟩) dX6_schemeRead_92
set_option maxHeartbeats 4000000 in
set_option maxRecDepth 100000 in
theorem metX6_schemeRead0 (l : Launch) (G : xG) (hG : xGood G) (b : Nat → Nat) (i : Nat → Int32) (j : Nat → Int64) (bf : Nat → Int32) (e : Nat) (he : e ≤ 600) (ps : PS) (hr : rdP bf e i j ps) (hz : isW bf e 274385021 ps = false) : xRm l G yX6_schemeRead (Cond.code yX6_schemeRead cX6_schemeRead 1 (some .boolean)) { frames := 3, locals := 64, cells := 0, slots := 0 } [.ref (b 0)] [(b 0, .inr (5, mF b i j)), (b 13, .inl (0, 600, .inl bf))] (some (.int 0)) := by
  intro V hV
  refine xMet_of RX6 hG rfl (by decide) (Nat.le_of_ble_eq_true rfl) fun C hC hQ hX hl hg _ => ?_
  subst hl hg
  refine rn.mono (J := xRo [(b 0, .inr (5, mF b i j)), (b 13, .inl (0, 600, .inl bf))] V) (fun V9 h => ⟨h, hV⟩) ?_
  show rn C (xRo [(b 0, .inr (5, mF b i j)), (b 13, .inl (0, 600, .inl bf))] V) 0 0 0 [(0, .ref (b 0))] []
  refine r_aload_n hC 0 dX6_schemeRead_0 rfl 1 rfl ?_
  refine r_ldc2 hC q2973 dX6_schemeRead_1 4 rfl ?_
  refine r_invVr hC kX6 (b 0) [.long 274385021] (.int 0) mVX6_passes q2937 (fun _ h => h.get 0 rfl) (metX6_passes0 _ _ hG b i j bf e he ps hr 274385021 hz) (fun _ h => h.in.sub [0, 1] rfl rfl) ⟨rfl, rfl⟩ 0 0 rfl rfl (Nat.le_of_ble_eq_true rfl) (Nat.le_of_ble_eq_true rfl) rfl (Nat.le_of_ble_eq_true rfl) dX6_schemeRead_4 7 rfl ?_
  refine r_ifne hC 12 dX6_schemeRead_7 (by decide) 10 rfl (fun h => absurd h (by decide)) (fun _ => ?_)
  refine r_iconst hC 0 dX6_schemeRead_10 ic_0 11 rfl ?_
  exact r_zret hC (by decide) (Nat.le_of_ble_eq_true rfl) (Nat.le_of_ble_eq_true rfl) (fun V9 h => hQ _ _ ⟨rfl, h.1⟩) dX6_schemeRead_11
set_option maxHeartbeats 4000000 in
set_option maxRecDepth 100000 in
theorem lpX6_settingsRead {C : xC} {F : Nat → Prop} {V0 : xV} (hG : xGood (xGG C)) (hC : xCtx C RX6 cX6_settingsRead 2 none { frames := 5, locals := 114, cells := 0, slots := 0 }) (b : Nat → Nat) (i0 : Nat → Int32) (j0 : Nat → Int64) (bf : Nat → Int32) (e : Nat) (he : e ≤ 600) (R : PS × (Nat → Int64) × (Nat → Int64)) : ∀ (f : Nat) (ps : PS) (dt dr : Nat → Int64) (i : Nat → Int32) (j : Nat → Int64), muP e ps ≤ f → setL bf e f ps dt dr = R → rdP bf e i j ps → gI i0 i → fJ j0 j → (∀ (i' : Nat → Int32) (j' : Nat → Int64), rdP bf e i' j' R.1 → gI i0 i' → fJ j0 j' → rn C (xSt F V0 [(b 0, .inr (5, mF b i' j')), (b 13, .inl (0, 600, .inl bf)), (b 8, .inl (1, 5, .inr (.inl R.2.1))), (b 3, .inl (1, 111, .inr (.inl R.2.2)))]) 0 0 107 [(0, .ref (b 0))] []) → rn C (xSt F V0 [(b 0, .inr (5, mF b i j)), (b 13, .inl (0, 600, .inl bf)), (b 8, .inl (1, 5, .inr (.inl dt))), (b 3, .inl (1, 111, .inr (.inl dr)))]) 0 0 2 [(1, .int 1), (0, .ref (b 0))] [] := by
  intro f
  induction f with
  | zero =>
    intro ps dt dr i j hmu hR hr hgi hfj kx
    have hbad : okP ps = false := okP_mu (e := e) (by omega)
    refine r_iload_n hC 0 dX6_settingsRead_2 rfl 3 rfl ?_
    refine r_ifeq hC 107 dX6_settingsRead_3 (by decide) 6 rfl (fun h => absurd h (by decide)) (fun _ => ?_)
    refine r_aload_n hC 1 dX6_settingsRead_6 rfl 7 rfl ?_
    refine r_ldc2 hC q2932 dX6_settingsRead_7 10 rfl ?_
    refine r_iconst hC 0 dX6_settingsRead_10 ic_0 11 rfl ?_
    refine r_lconst hC 0 dX6_settingsRead_11 lc_0 12 rfl ?_
    refine r_ldc2 hC q2926 dX6_settingsRead_12 15 rfl ?_
    refine r_invVr hC kX6 (b 0) [.long 3497099, .int 0, .long 0, .long 1000000000] (.int 0) mVX6_settingRead q2933 (fun _ h => h.get 0 rfl) (metX6_settingRead0 _ _ hG b i j bf e he ps hr 3497099 0 1000000000 0 (not_isW hbad)) (fun _ h => h.in.sub [0, 1] rfl rfl) ⟨rfl, rfl⟩ 0 0 rfl rfl (Nat.le_of_ble_eq_true rfl) (Nat.le_of_ble_eq_true rfl) rfl (Nat.le_of_ble_eq_true rfl) dX6_settingsRead_15 18 rfl ?_
    refine r_ifne hC 51 dX6_settingsRead_18 (by decide) 21 rfl (fun h => absurd h (by decide)) (fun _ => ?_)
    refine r_aload_n hC 1 dX6_settingsRead_21 rfl 22 rfl ?_
    refine r_ldc2 hC q2965 dX6_settingsRead_22 25 rfl ?_
    refine r_iconst hC 1 dX6_settingsRead_25 ic_1 26 rfl ?_
    refine r_lconst hC 1 dX6_settingsRead_26 lc_1 27 rfl ?_
    refine r_ldc2 hC q2708 dX6_settingsRead_27 30 rfl ?_
    refine r_invVr hC kX6 (b 0) [.long 385094, .int 1, .long 1, .long 1000] (.int 0) mVX6_settingRead q2933 (fun _ h => h.get 0 rfl) (metX6_settingRead0 _ _ hG b i j bf e he ps hr 385094 1 1000 1 (not_isW hbad)) (fun _ h => h.in.sub [0, 1] rfl rfl) ⟨rfl, rfl⟩ 0 0 rfl rfl (Nat.le_of_ble_eq_true rfl) (Nat.le_of_ble_eq_true rfl) rfl (Nat.le_of_ble_eq_true rfl) dX6_settingsRead_30 33 rfl ?_
    refine r_ifne hC 51 dX6_settingsRead_33 (by decide) 36 rfl (fun h => absurd h (by decide)) (fun _ => ?_)
    refine r_aload_n hC 1 dX6_settingsRead_36 rfl 37 rfl ?_
    refine r_ldc2 hC q2966 dX6_settingsRead_37 40 rfl ?_
    refine r_iconst hC 2 dX6_settingsRead_40 ic_2 41 rfl ?_
    refine r_lconst hC 1 dX6_settingsRead_41 lc_1 42 rfl ?_
    refine r_ldc2 hC q2710 dX6_settingsRead_42 45 rfl ?_
    refine r_invVr hC kX6 (b 0) [.long 400577, .int 2, .long 1, .long 100] (.int 0) mVX6_settingRead q2933 (fun _ h => h.get 0 rfl) (metX6_settingRead0 _ _ hG b i j bf e he ps hr 400577 1 100 2 (not_isW hbad)) (fun _ h => h.in.sub [0, 1] rfl rfl) ⟨rfl, rfl⟩ 0 0 rfl rfl (Nat.le_of_ble_eq_true rfl) (Nat.le_of_ble_eq_true rfl) rfl (Nat.le_of_ble_eq_true rfl) dX6_settingsRead_45 48 rfl ?_
    refine r_ifeq hC 55 dX6_settingsRead_48 (by decide) 51 rfl (fun _ => ?_) (fun h => absurd h (by decide))
    refine r_iconst hC 0 dX6_settingsRead_55 ic_0 56 rfl ?_
    refine r_istore_n hC 1 [(1, .int 0), (0, .ref (b 0))] dX6_settingsRead_56 rfl (Nat.le_of_ble_eq_true rfl) rfl 57 rfl ?_
    refine r_iload_n hC 0 dX6_settingsRead_57 rfl 58 rfl ?_
    refine r_ifne hC 98 dX6_settingsRead_58 (by decide) 61 rfl (fun h => absurd h (by decide)) (fun _ => ?_)
    refine r_aload_n hC 1 dX6_settingsRead_61 rfl 62 rfl ?_
    refine r_ldc2 hC q2967 dX6_settingsRead_62 65 rfl ?_
    refine r_iconst hC 3 dX6_settingsRead_65 ic_3 66 rfl ?_
    refine r_lconst hC 0 dX6_settingsRead_66 lc_0 67 rfl ?_
    refine r_ldc2 hC q2752 dX6_settingsRead_67 70 rfl ?_
    refine r_invVr hC kX6 (b 0) [.long 279252, .int 3, .long 0, .long 300000] (.int 0) mVX6_settingRead q2933 (fun _ h => h.get 0 rfl) (metX6_settingRead0 _ _ hG b i j bf e he ps hr 279252 0 300000 3 (not_isW hbad)) (fun _ h => h.in.sub [0, 1] rfl rfl) ⟨rfl, rfl⟩ 0 0 rfl rfl (Nat.le_of_ble_eq_true rfl) (Nat.le_of_ble_eq_true rfl) rfl (Nat.le_of_ble_eq_true rfl) dX6_settingsRead_70 73 rfl ?_
    refine r_ifne hC 98 dX6_settingsRead_73 (by decide) 76 rfl (fun h => absurd h (by decide)) (fun _ => ?_)
    refine r_aload_n hC 1 dX6_settingsRead_76 rfl 77 rfl ?_
    refine r_ldc2 hC q2968 dX6_settingsRead_77 80 rfl ?_
    refine r_iconst hC 4 dX6_settingsRead_80 ic_4 81 rfl ?_
    refine r_lconst hC 1 dX6_settingsRead_81 lc_1 82 rfl ?_
    refine r_ldc2 hC q2926 dX6_settingsRead_82 85 rfl ?_
    refine r_invVr hC kX6 (b 0) [.long 40477, .int 4, .long 1, .long 1000000000] (.int 0) mVX6_settingRead q2933 (fun _ h => h.get 0 rfl) (metX6_settingRead0 _ _ hG b i j bf e he ps hr 40477 1 1000000000 4 (not_isW hbad)) (fun _ h => h.in.sub [0, 1] rfl rfl) ⟨rfl, rfl⟩ 0 0 rfl rfl (Nat.le_of_ble_eq_true rfl) (Nat.le_of_ble_eq_true rfl) rfl (Nat.le_of_ble_eq_true rfl) dX6_settingsRead_85 88 rfl ?_
    refine r_ifne hC 98 dX6_settingsRead_88 (by decide) 91 rfl (fun h => absurd h (by decide)) (fun _ => ?_)
    refine r_aload_n hC 1 dX6_settingsRead_91 rfl 92 rfl ?_
    refine r_invVr hC kX6 (b 0) [] (.int 0) mVX6_schemeRead q2969 (fun _ h => h.get 0 rfl) (metX6_schemeRead0 _ _ hG b i j bf e he ps hr (not_isW hbad)) (fun _ h => h.in.sub [0, 1] rfl rfl) ⟨rfl, rfl⟩ 0 0 rfl rfl (Nat.le_of_ble_eq_true rfl) (Nat.le_of_ble_eq_true rfl) rfl (Nat.le_of_ble_eq_true rfl) dX6_settingsRead_92 95 rfl ?_
    refine r_ifeq hC 102 dX6_settingsRead_95 (by decide) 98 rfl (fun _ => ?_) (fun h => absurd h (by decide))
    refine r_iconst hC 0 dX6_settingsRead_102 ic_0 103 rfl ?_
    refine r_istore_n hC 1 [(1, .int 0), (0, .ref (b 0))] dX6_settingsRead_103 rfl (Nat.le_of_ble_eq_true rfl) rfl 104 rfl ?_
    refine r_goto hC 2 dX6_settingsRead_104 (by decide) ?_
    refine r_iload_n hC 0 dX6_settingsRead_2 rfl 3 rfl ?_
    refine r_ifeq hC 107 dX6_settingsRead_3 (by decide) 6 rfl (fun _ => ?_) (fun h => absurd h (by decide))
    refine rn.sub (lv' := [(0, .ref (b 0))]) [1] rfl ?_
    have hs : set1 bf e ps dt dr = none := by
      unfold set1
      rw [if_neg (nt (not_isW hbad)), if_neg (nt (not_isW hbad)), if_neg (nt (not_isW hbad)), if_neg (nt (not_isW hbad)), if_neg (nt (not_isW hbad)), if_neg (nt (not_isW hbad))]
    refine rn.mono (J := xSt F V0 [(b 0, .inr (5, mF b i j)), (b 13, .inl (0, 600, .inl bf)), (b 8, .inl (1, 5, .inr (.inl R.2.1))), (b 3, .inl (1, 111, .inr (.inl R.2.2)))]) (fun _ h => ?_) (kx i j ?_ hgi hfj)
    · rw [← hR, setL]; assumption
    · rw [← hR, setL]; assumption
  | succ f ih =>
    intro ps dt dr i j hmu hR hr hgi hfj kx
    refine r_iload_n hC 0 dX6_settingsRead_2 rfl 3 rfl ?_
    refine r_ifeq hC 107 dX6_settingsRead_3 (by decide) 6 rfl (fun h => absurd h (by decide)) (fun _ => ?_)
    refine r_aload_n hC 1 dX6_settingsRead_6 rfl 7 rfl ?_
    refine r_ldc2 hC q2932 dX6_settingsRead_7 10 rfl ?_
    refine r_iconst hC 0 dX6_settingsRead_10 ic_0 11 rfl ?_
    refine r_lconst hC 0 dX6_settingsRead_11 lc_0 12 rfl ?_
    refine r_ldc2 hC q2926 dX6_settingsRead_12 15 rfl ?_
    rcases Bool.eq_false_or_eq_true (isW bf e 3497099 ps) with hk1 | hk1
    · skip
      refine r_invVw hC kX6 (b 0) [.long 3497099, .int 0, .long 0, .long 1000000000] [(b 3, .inl (1, 111, .inr (.inl dr)))] mVX6_settingRead q2933 0 rfl (metX6_settingRead1 _ _ hG b i j bf e he ps hr dt 3497099 0 1000000000 0 (by decide) hk1) [0, 1, 2] [3] rfl rfl rfl rfl (by decide) ⟨rfl, rfl⟩ 0 0 rfl rfl (Nat.le_of_ble_eq_true rfl) (Nat.le_of_ble_eq_true rfl) rfl (Nat.le_of_ble_eq_true rfl) dX6_settingsRead_15 18 rfl (fun v3 w4 h5 => ?_) (fun _ _ h => h.elim)
      obtain ⟨rfl, i2, j2, rfl, hr2, gi2, fj2⟩ := h5
      show rn C (xSt F V0 [(b 3, .inl (1, 111, .inr (.inl dr))), (b 0, .inr (5, mF b i2 j2)), (b 13, .inl (0, 600, .inl bf)), (b 8, .inl (1, 5, .inr (.inl (va_up dt 0 (setV bf e 0 1000000000 ps)))))]) 0 0 18 [(1, .int 1), (0, .ref (b 0))] [.int 1]
      refine r_ifne hC 51 dX6_settingsRead_18 (by decide) 21 rfl (fun _ => ?_) (fun h => absurd h (by decide))
      refine r_iconst hC 1 dX6_settingsRead_51 ic_1 52 rfl ?_
      refine r_goto hC 56 dX6_settingsRead_52 (by decide) ?_
      refine r_istore_n hC 1 [(1, .int 1), (0, .ref (b 0))] dX6_settingsRead_56 rfl (Nat.le_of_ble_eq_true rfl) rfl 57 rfl ?_
      refine r_iload_n hC 0 dX6_settingsRead_57 rfl 58 rfl ?_
      refine r_ifne hC 98 dX6_settingsRead_58 (by decide) 61 rfl (fun _ => ?_) (fun h => absurd h (by decide))
      refine r_iconst hC 1 dX6_settingsRead_98 ic_1 99 rfl ?_
      refine r_goto hC 103 dX6_settingsRead_99 (by decide) ?_
      refine r_istore_n hC 1 [(1, .int 1), (0, .ref (b 0))] dX6_settingsRead_103 rfl (Nat.le_of_ble_eq_true rfl) rfl 104 rfl ?_
      refine r_goto hC 2 dX6_settingsRead_104 (by decide) ?_
      refine rn.mono (J := xSt F V0 [(b 0, .inr (5, mF b i2 j2)), (b 13, .inl (0, 600, .inl bf)), (b 8, .inl (1, 5, .inr (.inl (va_up dt 0 (setV bf e 0 1000000000 ps))))), (b 3, .inl (1, 111, .inr (.inl dr)))]) (fun _ h => h.sub [1, 2, 3, 0] rfl rfl) ?_
      refine rn.sub (lv' := [(1, .int 1), (0, .ref (b 0))]) [0, 1] rfl ?_
      have hs : set1 bf e ps dt dr = some (setP bf e 0 1000000000 ps, va_up dt 0 (setV bf e 0 1000000000 ps), dr) := by
        unfold set1
        rw [if_pos hk1]
      exact ih (setP bf e 0 1000000000 ps) (va_up dt 0 (setV bf e 0 1000000000 ps)) dr _ _ (by have := mu_set1 hs; dsimp only at this; omega) (by rw [← hR, setL, hs]) hr2 (hgi.trans gi2) (hfj.trans fj2) kx
    · skip
      refine r_invVr hC kX6 (b 0) [.long 3497099, .int 0, .long 0, .long 1000000000] (.int 0) mVX6_settingRead q2933 (fun _ h => h.get 0 rfl) (metX6_settingRead0 _ _ hG b i j bf e he ps hr 3497099 0 1000000000 0 hk1) (fun _ h => h.in.sub [0, 1] rfl rfl) ⟨rfl, rfl⟩ 0 0 rfl rfl (Nat.le_of_ble_eq_true rfl) (Nat.le_of_ble_eq_true rfl) rfl (Nat.le_of_ble_eq_true rfl) dX6_settingsRead_15 18 rfl ?_
      refine r_ifne hC 51 dX6_settingsRead_18 (by decide) 21 rfl (fun h => absurd h (by decide)) (fun _ => ?_)
      refine r_aload_n hC 1 dX6_settingsRead_21 rfl 22 rfl ?_
      refine r_ldc2 hC q2965 dX6_settingsRead_22 25 rfl ?_
      refine r_iconst hC 1 dX6_settingsRead_25 ic_1 26 rfl ?_
      refine r_lconst hC 1 dX6_settingsRead_26 lc_1 27 rfl ?_
      refine r_ldc2 hC q2708 dX6_settingsRead_27 30 rfl ?_
      rcases Bool.eq_false_or_eq_true (isW bf e 385094 ps) with hk6 | hk6
      · skip
        refine r_invVw hC kX6 (b 0) [.long 385094, .int 1, .long 1, .long 1000] [(b 3, .inl (1, 111, .inr (.inl dr)))] mVX6_settingRead q2933 0 rfl (metX6_settingRead1 _ _ hG b i j bf e he ps hr dt 385094 1 1000 1 (by decide) hk6) [0, 1, 2] [3] rfl rfl rfl rfl (by decide) ⟨rfl, rfl⟩ 0 0 rfl rfl (Nat.le_of_ble_eq_true rfl) (Nat.le_of_ble_eq_true rfl) rfl (Nat.le_of_ble_eq_true rfl) dX6_settingsRead_30 33 rfl (fun v8 w9 h10 => ?_) (fun _ _ h => h.elim)
        obtain ⟨rfl, i7, j7, rfl, hr7, gi7, fj7⟩ := h10
        show rn C (xSt F V0 [(b 3, .inl (1, 111, .inr (.inl dr))), (b 0, .inr (5, mF b i7 j7)), (b 13, .inl (0, 600, .inl bf)), (b 8, .inl (1, 5, .inr (.inl (va_up dt 1 (setV bf e 1 1000 ps)))))]) 0 0 33 [(1, .int 1), (0, .ref (b 0))] [.int 1]
        refine r_ifne hC 51 dX6_settingsRead_33 (by decide) 36 rfl (fun _ => ?_) (fun h => absurd h (by decide))
        refine r_iconst hC 1 dX6_settingsRead_51 ic_1 52 rfl ?_
        refine r_goto hC 56 dX6_settingsRead_52 (by decide) ?_
        refine r_istore_n hC 1 [(1, .int 1), (0, .ref (b 0))] dX6_settingsRead_56 rfl (Nat.le_of_ble_eq_true rfl) rfl 57 rfl ?_
        refine r_iload_n hC 0 dX6_settingsRead_57 rfl 58 rfl ?_
        refine r_ifne hC 98 dX6_settingsRead_58 (by decide) 61 rfl (fun _ => ?_) (fun h => absurd h (by decide))
        refine r_iconst hC 1 dX6_settingsRead_98 ic_1 99 rfl ?_
        refine r_goto hC 103 dX6_settingsRead_99 (by decide) ?_
        refine r_istore_n hC 1 [(1, .int 1), (0, .ref (b 0))] dX6_settingsRead_103 rfl (Nat.le_of_ble_eq_true rfl) rfl 104 rfl ?_
        refine r_goto hC 2 dX6_settingsRead_104 (by decide) ?_
        refine rn.mono (J := xSt F V0 [(b 0, .inr (5, mF b i7 j7)), (b 13, .inl (0, 600, .inl bf)), (b 8, .inl (1, 5, .inr (.inl (va_up dt 1 (setV bf e 1 1000 ps))))), (b 3, .inl (1, 111, .inr (.inl dr)))]) (fun _ h => h.sub [1, 2, 3, 0] rfl rfl) ?_
        refine rn.sub (lv' := [(1, .int 1), (0, .ref (b 0))]) [0, 1] rfl ?_
        have hs : set1 bf e ps dt dr = some (setP bf e 1 1000 ps, va_up dt 1 (setV bf e 1 1000 ps), dr) := by
          unfold set1
          rw [if_neg (nt hk1), if_pos hk6]
        exact ih (setP bf e 1 1000 ps) (va_up dt 1 (setV bf e 1 1000 ps)) dr _ _ (by have := mu_set1 hs; dsimp only at this; omega) (by rw [← hR, setL, hs]) hr7 (hgi.trans gi7) (hfj.trans fj7) kx
      · skip
        refine r_invVr hC kX6 (b 0) [.long 385094, .int 1, .long 1, .long 1000] (.int 0) mVX6_settingRead q2933 (fun _ h => h.get 0 rfl) (metX6_settingRead0 _ _ hG b i j bf e he ps hr 385094 1 1000 1 hk6) (fun _ h => h.in.sub [0, 1] rfl rfl) ⟨rfl, rfl⟩ 0 0 rfl rfl (Nat.le_of_ble_eq_true rfl) (Nat.le_of_ble_eq_true rfl) rfl (Nat.le_of_ble_eq_true rfl) dX6_settingsRead_30 33 rfl ?_
        refine r_ifne hC 51 dX6_settingsRead_33 (by decide) 36 rfl (fun h => absurd h (by decide)) (fun _ => ?_)
        refine r_aload_n hC 1 dX6_settingsRead_36 rfl 37 rfl ?_
        refine r_ldc2 hC q2966 dX6_settingsRead_37 40 rfl ?_
        refine r_iconst hC 2 dX6_settingsRead_40 ic_2 41 rfl ?_
        refine r_lconst hC 1 dX6_settingsRead_41 lc_1 42 rfl ?_
        refine r_ldc2 hC q2710 dX6_settingsRead_42 45 rfl ?_
        rcases Bool.eq_false_or_eq_true (isW bf e 400577 ps) with hk11 | hk11
        · skip
          refine r_invVw hC kX6 (b 0) [.long 400577, .int 2, .long 1, .long 100] [(b 3, .inl (1, 111, .inr (.inl dr)))] mVX6_settingRead q2933 0 rfl (metX6_settingRead1 _ _ hG b i j bf e he ps hr dt 400577 1 100 2 (by decide) hk11) [0, 1, 2] [3] rfl rfl rfl rfl (by decide) ⟨rfl, rfl⟩ 0 0 rfl rfl (Nat.le_of_ble_eq_true rfl) (Nat.le_of_ble_eq_true rfl) rfl (Nat.le_of_ble_eq_true rfl) dX6_settingsRead_45 48 rfl (fun v13 w14 h15 => ?_) (fun _ _ h => h.elim)
          obtain ⟨rfl, i12, j12, rfl, hr12, gi12, fj12⟩ := h15
          show rn C (xSt F V0 [(b 3, .inl (1, 111, .inr (.inl dr))), (b 0, .inr (5, mF b i12 j12)), (b 13, .inl (0, 600, .inl bf)), (b 8, .inl (1, 5, .inr (.inl (va_up dt 2 (setV bf e 1 100 ps)))))]) 0 0 48 [(1, .int 1), (0, .ref (b 0))] [.int 1]
          refine r_ifeq hC 55 dX6_settingsRead_48 (by decide) 51 rfl (fun h => absurd h (by decide)) (fun _ => ?_)
          refine r_iconst hC 1 dX6_settingsRead_51 ic_1 52 rfl ?_
          refine r_goto hC 56 dX6_settingsRead_52 (by decide) ?_
          refine r_istore_n hC 1 [(1, .int 1), (0, .ref (b 0))] dX6_settingsRead_56 rfl (Nat.le_of_ble_eq_true rfl) rfl 57 rfl ?_
          refine r_iload_n hC 0 dX6_settingsRead_57 rfl 58 rfl ?_
          refine r_ifne hC 98 dX6_settingsRead_58 (by decide) 61 rfl (fun _ => ?_) (fun h => absurd h (by decide))
          refine r_iconst hC 1 dX6_settingsRead_98 ic_1 99 rfl ?_
          refine r_goto hC 103 dX6_settingsRead_99 (by decide) ?_
          refine r_istore_n hC 1 [(1, .int 1), (0, .ref (b 0))] dX6_settingsRead_103 rfl (Nat.le_of_ble_eq_true rfl) rfl 104 rfl ?_
          refine r_goto hC 2 dX6_settingsRead_104 (by decide) ?_
          refine rn.mono (J := xSt F V0 [(b 0, .inr (5, mF b i12 j12)), (b 13, .inl (0, 600, .inl bf)), (b 8, .inl (1, 5, .inr (.inl (va_up dt 2 (setV bf e 1 100 ps))))), (b 3, .inl (1, 111, .inr (.inl dr)))]) (fun _ h => h.sub [1, 2, 3, 0] rfl rfl) ?_
          refine rn.sub (lv' := [(1, .int 1), (0, .ref (b 0))]) [0, 1] rfl ?_
          have hs : set1 bf e ps dt dr = some (setP bf e 1 100 ps, va_up dt 2 (setV bf e 1 100 ps), dr) := by
            unfold set1
            rw [if_neg (nt hk1), if_neg (nt hk6), if_pos hk11]
          exact ih (setP bf e 1 100 ps) (va_up dt 2 (setV bf e 1 100 ps)) dr _ _ (by have := mu_set1 hs; dsimp only at this; omega) (by rw [← hR, setL, hs]) hr12 (hgi.trans gi12) (hfj.trans fj12) kx
        · skip
          refine r_invVr hC kX6 (b 0) [.long 400577, .int 2, .long 1, .long 100] (.int 0) mVX6_settingRead q2933 (fun _ h => h.get 0 rfl) (metX6_settingRead0 _ _ hG b i j bf e he ps hr 400577 1 100 2 hk11) (fun _ h => h.in.sub [0, 1] rfl rfl) ⟨rfl, rfl⟩ 0 0 rfl rfl (Nat.le_of_ble_eq_true rfl) (Nat.le_of_ble_eq_true rfl) rfl (Nat.le_of_ble_eq_true rfl) dX6_settingsRead_45 48 rfl ?_
          refine r_ifeq hC 55 dX6_settingsRead_48 (by decide) 51 rfl (fun _ => ?_) (fun h => absurd h (by decide))
          refine r_iconst hC 0 dX6_settingsRead_55 ic_0 56 rfl ?_
          refine r_istore_n hC 1 [(1, .int 0), (0, .ref (b 0))] dX6_settingsRead_56 rfl (Nat.le_of_ble_eq_true rfl) rfl 57 rfl ?_
          refine r_iload_n hC 0 dX6_settingsRead_57 rfl 58 rfl ?_
          refine r_ifne hC 98 dX6_settingsRead_58 (by decide) 61 rfl (fun h => absurd h (by decide)) (fun _ => ?_)
          refine r_aload_n hC 1 dX6_settingsRead_61 rfl 62 rfl ?_
          refine r_ldc2 hC q2967 dX6_settingsRead_62 65 rfl ?_
          refine r_iconst hC 3 dX6_settingsRead_65 ic_3 66 rfl ?_
          refine r_lconst hC 0 dX6_settingsRead_66 lc_0 67 rfl ?_
          refine r_ldc2 hC q2752 dX6_settingsRead_67 70 rfl ?_
          rcases Bool.eq_false_or_eq_true (isW bf e 279252 ps) with hk16 | hk16
          · skip
            refine r_invVw hC kX6 (b 0) [.long 279252, .int 3, .long 0, .long 300000] [(b 3, .inl (1, 111, .inr (.inl dr)))] mVX6_settingRead q2933 0 rfl (metX6_settingRead1 _ _ hG b i j bf e he ps hr dt 279252 0 300000 3 (by decide) hk16) [0, 1, 2] [3] rfl rfl rfl rfl (by decide) ⟨rfl, rfl⟩ 0 0 rfl rfl (Nat.le_of_ble_eq_true rfl) (Nat.le_of_ble_eq_true rfl) rfl (Nat.le_of_ble_eq_true rfl) dX6_settingsRead_70 73 rfl (fun v18 w19 h20 => ?_) (fun _ _ h => h.elim)
            obtain ⟨rfl, i17, j17, rfl, hr17, gi17, fj17⟩ := h20
            show rn C (xSt F V0 [(b 3, .inl (1, 111, .inr (.inl dr))), (b 0, .inr (5, mF b i17 j17)), (b 13, .inl (0, 600, .inl bf)), (b 8, .inl (1, 5, .inr (.inl (va_up dt 3 (setV bf e 0 300000 ps)))))]) 0 0 73 [(1, .int 0), (0, .ref (b 0))] [.int 1]
            refine r_ifne hC 98 dX6_settingsRead_73 (by decide) 76 rfl (fun _ => ?_) (fun h => absurd h (by decide))
            refine r_iconst hC 1 dX6_settingsRead_98 ic_1 99 rfl ?_
            refine r_goto hC 103 dX6_settingsRead_99 (by decide) ?_
            refine r_istore_n hC 1 [(1, .int 1), (0, .ref (b 0))] dX6_settingsRead_103 rfl (Nat.le_of_ble_eq_true rfl) rfl 104 rfl ?_
            refine r_goto hC 2 dX6_settingsRead_104 (by decide) ?_
            refine rn.mono (J := xSt F V0 [(b 0, .inr (5, mF b i17 j17)), (b 13, .inl (0, 600, .inl bf)), (b 8, .inl (1, 5, .inr (.inl (va_up dt 3 (setV bf e 0 300000 ps))))), (b 3, .inl (1, 111, .inr (.inl dr)))]) (fun _ h => h.sub [1, 2, 3, 0] rfl rfl) ?_
            refine rn.sub (lv' := [(1, .int 1), (0, .ref (b 0))]) [0, 1] rfl ?_
            have hs : set1 bf e ps dt dr = some (setP bf e 0 300000 ps, va_up dt 3 (setV bf e 0 300000 ps), dr) := by
              unfold set1
              rw [if_neg (nt hk1), if_neg (nt hk6), if_neg (nt hk11), if_pos hk16]
            exact ih (setP bf e 0 300000 ps) (va_up dt 3 (setV bf e 0 300000 ps)) dr _ _ (by have := mu_set1 hs; dsimp only at this; omega) (by rw [← hR, setL, hs]) hr17 (hgi.trans gi17) (hfj.trans fj17) kx
          · skip
            refine r_invVr hC kX6 (b 0) [.long 279252, .int 3, .long 0, .long 300000] (.int 0) mVX6_settingRead q2933 (fun _ h => h.get 0 rfl) (metX6_settingRead0 _ _ hG b i j bf e he ps hr 279252 0 300000 3 hk16) (fun _ h => h.in.sub [0, 1] rfl rfl) ⟨rfl, rfl⟩ 0 0 rfl rfl (Nat.le_of_ble_eq_true rfl) (Nat.le_of_ble_eq_true rfl) rfl (Nat.le_of_ble_eq_true rfl) dX6_settingsRead_70 73 rfl ?_
            refine r_ifne hC 98 dX6_settingsRead_73 (by decide) 76 rfl (fun h => absurd h (by decide)) (fun _ => ?_)
            refine r_aload_n hC 1 dX6_settingsRead_76 rfl 77 rfl ?_
            refine r_ldc2 hC q2968 dX6_settingsRead_77 80 rfl ?_
            refine r_iconst hC 4 dX6_settingsRead_80 ic_4 81 rfl ?_
            refine r_lconst hC 1 dX6_settingsRead_81 lc_1 82 rfl ?_
            refine r_ldc2 hC q2926 dX6_settingsRead_82 85 rfl ?_
            rcases Bool.eq_false_or_eq_true (isW bf e 40477 ps) with hk21 | hk21
            · skip
              refine r_invVw hC kX6 (b 0) [.long 40477, .int 4, .long 1, .long 1000000000] [(b 3, .inl (1, 111, .inr (.inl dr)))] mVX6_settingRead q2933 0 rfl (metX6_settingRead1 _ _ hG b i j bf e he ps hr dt 40477 1 1000000000 4 (by decide) hk21) [0, 1, 2] [3] rfl rfl rfl rfl (by decide) ⟨rfl, rfl⟩ 0 0 rfl rfl (Nat.le_of_ble_eq_true rfl) (Nat.le_of_ble_eq_true rfl) rfl (Nat.le_of_ble_eq_true rfl) dX6_settingsRead_85 88 rfl (fun v23 w24 h25 => ?_) (fun _ _ h => h.elim)
              obtain ⟨rfl, i22, j22, rfl, hr22, gi22, fj22⟩ := h25
              show rn C (xSt F V0 [(b 3, .inl (1, 111, .inr (.inl dr))), (b 0, .inr (5, mF b i22 j22)), (b 13, .inl (0, 600, .inl bf)), (b 8, .inl (1, 5, .inr (.inl (va_up dt 4 (setV bf e 1 1000000000 ps)))))]) 0 0 88 [(1, .int 0), (0, .ref (b 0))] [.int 1]
              refine r_ifne hC 98 dX6_settingsRead_88 (by decide) 91 rfl (fun _ => ?_) (fun h => absurd h (by decide))
              refine r_iconst hC 1 dX6_settingsRead_98 ic_1 99 rfl ?_
              refine r_goto hC 103 dX6_settingsRead_99 (by decide) ?_
              refine r_istore_n hC 1 [(1, .int 1), (0, .ref (b 0))] dX6_settingsRead_103 rfl (Nat.le_of_ble_eq_true rfl) rfl 104 rfl ?_
              refine r_goto hC 2 dX6_settingsRead_104 (by decide) ?_
              refine rn.mono (J := xSt F V0 [(b 0, .inr (5, mF b i22 j22)), (b 13, .inl (0, 600, .inl bf)), (b 8, .inl (1, 5, .inr (.inl (va_up dt 4 (setV bf e 1 1000000000 ps))))), (b 3, .inl (1, 111, .inr (.inl dr)))]) (fun _ h => h.sub [1, 2, 3, 0] rfl rfl) ?_
              refine rn.sub (lv' := [(1, .int 1), (0, .ref (b 0))]) [0, 1] rfl ?_
              have hs : set1 bf e ps dt dr = some (setP bf e 1 1000000000 ps, va_up dt 4 (setV bf e 1 1000000000 ps), dr) := by
                unfold set1
                rw [if_neg (nt hk1), if_neg (nt hk6), if_neg (nt hk11), if_neg (nt hk16), if_pos hk21]
              exact ih (setP bf e 1 1000000000 ps) (va_up dt 4 (setV bf e 1 1000000000 ps)) dr _ _ (by have := mu_set1 hs; dsimp only at this; omega) (by rw [← hR, setL, hs]) hr22 (hgi.trans gi22) (hfj.trans fj22) kx
            · skip
              refine r_invVr hC kX6 (b 0) [.long 40477, .int 4, .long 1, .long 1000000000] (.int 0) mVX6_settingRead q2933 (fun _ h => h.get 0 rfl) (metX6_settingRead0 _ _ hG b i j bf e he ps hr 40477 1 1000000000 4 hk21) (fun _ h => h.in.sub [0, 1] rfl rfl) ⟨rfl, rfl⟩ 0 0 rfl rfl (Nat.le_of_ble_eq_true rfl) (Nat.le_of_ble_eq_true rfl) rfl (Nat.le_of_ble_eq_true rfl) dX6_settingsRead_85 88 rfl ?_
              refine r_ifne hC 98 dX6_settingsRead_88 (by decide) 91 rfl (fun h => absurd h (by decide)) (fun _ => ?_)
              refine r_aload_n hC 1 dX6_settingsRead_91 rfl 92 rfl ?_
              rcases Bool.eq_false_or_eq_true (isW bf e 274385021 ps) with hk26 | hk26
              · skip
                refine r_invVw hC kX6 (b 0) [] [(b 8, .inl (1, 5, .inr (.inl dt)))] mVX6_schemeRead q2969 0 rfl (metX6_schemeRead1 _ _ hG b i j bf e he ps hr dr hk26) [0, 1, 3] [2] rfl rfl rfl rfl (by decide) ⟨rfl, rfl⟩ 0 0 rfl rfl (Nat.le_of_ble_eq_true rfl) (Nat.le_of_ble_eq_true rfl) rfl (Nat.le_of_ble_eq_true rfl) dX6_settingsRead_92 95 rfl (fun v28 w29 h30 => ?_) (fun _ _ h => h.elim)
                obtain ⟨rfl, i27, j27, rfl, hr27, gi27, fj27⟩ := h30
                show rn C (xSt F V0 [(b 8, .inl (1, 5, .inr (.inl dt))), (b 0, .inr (5, mF b i27 j27)), (b 13, .inl (0, 600, .inl bf)), (b 3, .inl (1, 111, .inr (.inl (va_up dr 1 (schV bf e ps)))))]) 0 0 95 [(1, .int 0), (0, .ref (b 0))] [.int 1]
                refine r_ifeq hC 102 dX6_settingsRead_95 (by decide) 98 rfl (fun h => absurd h (by decide)) (fun _ => ?_)
                refine r_iconst hC 1 dX6_settingsRead_98 ic_1 99 rfl ?_
                refine r_goto hC 103 dX6_settingsRead_99 (by decide) ?_
                refine r_istore_n hC 1 [(1, .int 1), (0, .ref (b 0))] dX6_settingsRead_103 rfl (Nat.le_of_ble_eq_true rfl) rfl 104 rfl ?_
                refine r_goto hC 2 dX6_settingsRead_104 (by decide) ?_
                refine rn.mono (J := xSt F V0 [(b 0, .inr (5, mF b i27 j27)), (b 13, .inl (0, 600, .inl bf)), (b 8, .inl (1, 5, .inr (.inl dt))), (b 3, .inl (1, 111, .inr (.inl (va_up dr 1 (schV bf e ps)))))]) (fun _ h => h.sub [1, 2, 0, 3] rfl rfl) ?_
                refine rn.sub (lv' := [(1, .int 1), (0, .ref (b 0))]) [0, 1] rfl ?_
                have hs : set1 bf e ps dt dr = some (schP bf e ps, dt, va_up dr 1 (schV bf e ps)) := by
                  unfold set1
                  rw [if_neg (nt hk1), if_neg (nt hk6), if_neg (nt hk11), if_neg (nt hk16), if_neg (nt hk21), if_pos hk26]
                exact ih (schP bf e ps) dt (va_up dr 1 (schV bf e ps)) _ _ (by have := mu_set1 hs; dsimp only at this; omega) (by rw [← hR, setL, hs]) hr27 (hgi.trans gi27) (hfj.trans fj27) kx
              · skip
                refine r_invVr hC kX6 (b 0) [] (.int 0) mVX6_schemeRead q2969 (fun _ h => h.get 0 rfl) (metX6_schemeRead0 _ _ hG b i j bf e he ps hr hk26) (fun _ h => h.in.sub [0, 1] rfl rfl) ⟨rfl, rfl⟩ 0 0 rfl rfl (Nat.le_of_ble_eq_true rfl) (Nat.le_of_ble_eq_true rfl) rfl (Nat.le_of_ble_eq_true rfl) dX6_settingsRead_92 95 rfl ?_
                refine r_ifeq hC 102 dX6_settingsRead_95 (by decide) 98 rfl (fun _ => ?_) (fun h => absurd h (by decide))
                refine r_iconst hC 0 dX6_settingsRead_102 ic_0 103 rfl ?_
                refine r_istore_n hC 1 [(1, .int 0), (0, .ref (b 0))] dX6_settingsRead_103 rfl (Nat.le_of_ble_eq_true rfl) rfl 104 rfl ?_
                refine r_goto hC 2 dX6_settingsRead_104 (by decide) ?_
                refine r_iload_n hC 0 dX6_settingsRead_2 rfl 3 rfl ?_
                refine r_ifeq hC 107 dX6_settingsRead_3 (by decide) 6 rfl (fun _ => ?_) (fun h => absurd h (by decide))
                refine rn.sub (lv' := [(0, .ref (b 0))]) [1] rfl ?_
                have hs : set1 bf e ps dt dr = none := by
                  unfold set1
                  rw [if_neg (nt hk1), if_neg (nt hk6), if_neg (nt hk11), if_neg (nt hk16), if_neg (nt hk21), if_neg (nt hk26)]
                refine rn.mono (J := xSt F V0 [(b 0, .inr (5, mF b i j)), (b 13, .inl (0, 600, .inl bf)), (b 8, .inl (1, 5, .inr (.inl R.2.1))), (b 3, .inl (1, 111, .inr (.inl R.2.2)))]) (fun _ h => ?_) (kx i j ?_ hgi hfj)
                · rw [← hR, setL, hs]; assumption
                · rw [← hR, setL, hs]; assumption
set_option maxHeartbeats 4000000 in
set_option maxRecDepth 100000 in
theorem metX6_settingsRead (l : Launch) (G : xG) (hG : xGood G) (b : Nat → Nat) (i : Nat → Int32) (j : Nat → Int64) (bf : Nat → Int32) (e : Nat) (he : e ≤ 600) (ps : PS) (hr : rdP bf e i j ps) (dt dr : Nat → Int64) (f : Nat) (hmu : muP e ps ≤ f) : xWm l G yX6_settingsRead (Cond.code yX6_settingsRead cX6_settingsRead 2 none) { frames := 5, locals := 114, cells := 0, slots := 0 } [.ref (b 0)] [(b 0, .inr (5, mF b i j)), (b 13, .inl (0, 600, .inl bf)), (b 8, .inl (1, 5, .inr (.inl dt))), (b 3, .inl (1, 111, .inr (.inl dr)))] (fun v w' => v = none ∧ ∃ (i' : Nat → Int32) (j' : Nat → Int64), w' = [(b 0, .inr (5, mF b i' j')), (b 13, .inl (0, 600, .inl bf)), (b 8, .inl (1, 5, .inr (.inl ((setL bf e f ps dt dr).2.1)))), (b 3, .inl (1, 111, .inr (.inl ((setL bf e f ps dt dr).2.2))))] ∧ rdP bf e i' j' ((setL bf e f ps dt dr).1) ∧ gI i i' ∧ fJ j j') (fun _ _ => False) := by
  intro V hV
  refine xMet_of RX6 hG rfl (by decide) (Nat.le_of_ble_eq_true rfl) fun C hC hQ hX hl hg _ => ?_
  subst hl hg
  obtain ⟨V0, hV0⟩ : ∃ V0, V0 = V := ⟨_, rfl⟩
  obtain ⟨F, hF⟩ : ∃ F, F = xF [(b 0, .inr (5, mF b i j)), (b 13, .inl (0, 600, .inl bf)), (b 8, .inl (1, 5, .inr (.inl dt))), (b 3, .inl (1, 111, .inr (.inl dr)))] := ⟨_, rfl⟩
  refine rn.mono (J := xSt F V0 [(b 0, .inr (5, mF b i j)), (b 13, .inl (0, 600, .inl bf)), (b 8, .inl (1, 5, .inr (.inl dt))), (b 3, .inl (1, 111, .inr (.inl dr)))]) (fun V9 h => by rw [h, hV0, hF]; exact hV.st) ?_
  show rn C (xSt F V0 [(b 0, .inr (5, mF b i j)), (b 13, .inl (0, 600, .inl bf)), (b 8, .inl (1, 5, .inr (.inl dt))), (b 3, .inl (1, 111, .inr (.inl dr)))]) 0 0 0 [(0, .ref (b 0))] []
  refine r_iconst hC 1 dX6_settingsRead_0 ic_1 1 rfl ?_
  refine r_istore_n hC 1 [(1, .int 1), (0, .ref (b 0))] dX6_settingsRead_1 rfl (Nat.le_of_ble_eq_true rfl) rfl 2 rfl ?_
  refine rn.sub (lv' := [(1, .int 1), (0, .ref (b 0))]) [0, 1] rfl ?_
  refine lpX6_settingsRead hG hC b i j bf e he (setL bf e f ps dt dr) f ps dt dr i j hmu rfl hr (gI_refl i) (fJ_refl j) (fun i9 j9 h9 g9 f9 => ?_)
  exact r_vret hC (Nat.le_of_ble_eq_true rfl) (Nat.le_of_ble_eq_true rfl) (fun V9 h => hQ _ _ ⟨[(b 0, .inr (5, mF b i9 j9)), (b 13, .inl (0, 600, .inl bf)), (b 8, .inl (1, 5, .inr (.inl ((setL bf e f ps dt dr).2.1)))), (b 3, .inl (1, 111, .inr (.inl ((setL bf e f ps dt dr).2.2))))], ⟨rfl, _, _, rfl, h9, g9, f9⟩, by rw [← hV0, ← hF]; exact h⟩) dX6_settingsRead_107
