/-! ===== the reference: tokens ===== -/
set_option maxRecDepth 100000
/-- the first place from p on, ahead of the end e, whose byte isn't a P -/
def scn (P : Int32 → Bool) (bf : Nat → Int32) : Nat → Nat → Nat
  | 0, p => p
  | f + 1, p => if P (bf p) = true then scn P bf f (p + 1) else p
def runE (P : Int32 → Bool) (bf : Nat → Int32) (e p : Nat) : Nat := scn P bf (e - p) p
theorem runE_s {P : Int32 → Bool} {bf : Nat → Int32} {e p : Nat} (hp : p < e) (h : P (bf p) = true) : runE P bf e p = runE P bf e (p + 1) := by
  unfold runE
  rw [show e - p = (e - (p + 1)) + 1 by omega, scn, if_pos h]
theorem runE_x {P : Int32 → Bool} {bf : Nat → Int32} {e p : Nat} (h : p < e → P (bf p) = false) : runE P bf e p = p := by
  unfold runE
  by_cases hp : p < e
  · rw [show e - p = (e - (p + 1)) + 1 by omega, scn, if_neg (by rw [h hp]; decide)]
  · rw [show e - p = 0 by omega, scn]
theorem scn_b {P : Int32 → Bool} {bf : Nat → Int32} : ∀ f p, p ≤ scn P bf f p ∧ scn P bf f p ≤ p + f := by
  intro f
  induction f with
  | zero => intro p; rw [scn]; omega
  | succ f ih =>
    intro p
    rw [scn]
    split
    · have := ih (p + 1); omega
    · omega
theorem runE_ge {P : Int32 → Bool} {bf : Nat → Int32} {e p : Nat} : p ≤ runE P bf e p := (scn_b _ _).1
theorem runE_le {P : Int32 → Bool} {bf : Nat → Int32} {e p : Nat} (h : p ≤ e) : runE P bf e p ≤ e := by
  have := (scn_b (P := P) (bf := bf) (e - p) p).2
  unfold runE; omega
def blkQ (c : Int32) : Bool := decide (c = 32) || decide (c = 10)
/-- a word's number: its first eight letters; a number, kept where it is past a milliard -/
def wval (bf : Nat → Int32) (g : Nat) : Nat → Int64
  | 0 => 0
  | n + 1 => if n < 8 then 27 * wval bf g n + (bf (g + n)).toInt64 - 96 else wval bf g n
def nval (bf : Nat → Int32) (g : Nat) : Nat → Int64
  | 0 => 0
  | n + 1 => if nval bf g n ≤ 1000000000 then 10 * nval bf g n + (bf (g + n)).toInt64 - 48 else nval bf g n
def tBeg (bf : Nat → Int32) (e p : Nat) : Nat := runE blkQ bf e p
def tEnd (bf : Nat → Int32) (e g : Nat) : Nat := if g < e then (if letQ (bf g) = true then runE letQ bf e g else if figQ (bf g) = true then runE figQ bf e g else g + 1) else g
def tKind (bf : Nat → Int32) (e g : Nat) : Int32 := if g < e then (if letQ (bf g) = true then 1 else if figQ (bf g) = true then 2 else 3) else 0
def tVal (bf : Nat → Int32) (e g : Nat) : Int64 := nval bf g (tEnd bf e g - g)
def tWord (bf : Nat → Int32) (e g : Nat) : Int64 := wval bf g (tEnd bf e g - g)
theorem tEnd_le {bf : Nat → Int32} {e g : Nat} (h : g ≤ e) : tEnd bf e g ≤ e := by
  unfold tEnd
  split
  · split
    · exact runE_le h
    · split
      · exact runE_le h
      · omega
  · exact h
theorem tEnd_ge {bf : Nat → Int32} {e g : Nat} : g ≤ tEnd bf e g := by
  unfold tEnd
  split
  · split
    · exact runE_ge
    · split
      · exact runE_ge
      · omega
  · omega
theorem tBeg_le {bf : Nat → Int32} {e p : Nat} (h : p ≤ e) : tBeg bf e p ≤ e := runE_le h
def tokS (bf : Nat → Int32) (e g : Nat) (i : Nat → Int32) (j : Nat → Int64) : Prop := g ≤ e ∧ i 15 = nI e ∧ i 16 = nI (tEnd bf e g) ∧ i 17 = nI g ∧ i 18 = tKind bf e g ∧ (tKind bf e g = 2 → j 19 = tVal bf e g) ∧ (tKind bf e g = 1 → j 20 = tWord bf e g)
def fI (i i' : Nat → Int32) : Prop := ∀ k, k ≠ 16 → k ≠ 17 → k ≠ 18 → i' k = i k
def fJ (j j' : Nat → Int64) : Prop := ∀ k, k ≠ 19 → k ≠ 20 → j' k = j k
theorem tok_0 {bf : Nat → Int32} {e q : Nat} {i : Nat → Int32} {j : Nat → Int64} (hq : q ≤ e) (hn : ¬ q < e) (h15 : i 15 = nI e) (h16 : i 16 = nI q) (h17 : i 17 = nI q) (h18 : i 18 = 0) : tokS bf e q i j := by
  have h1 : tEnd bf e q = q := if_neg hn
  have h2 : tKind bf e q = 0 := if_neg hn
  exact ⟨hq, h15, by rw [h1]; exact h16, h17, by rw [h2]; exact h18, fun h => by rw [h2] at h; exact absurd h (by decide), fun h => by rw [h2] at h; exact absurd h (by decide)⟩
theorem tok_w {bf : Nat → Int32} {e q m : Nat} {i : Nat → Int32} {j : Nat → Int64} (hq : q < e) (hl : letQ (bf q) = true) (hm : q + m = runE letQ bf e q) (h15 : i 15 = nI e) (h16 : i 16 = nI (q + m)) (h17 : i 17 = nI q) (h18 : i 18 = 1) (h20 : j 20 = wval bf q m) : tokS bf e q i j := by
  have h1 : tEnd bf e q = q + m := by unfold tEnd; rw [if_pos hq, if_pos hl, hm]
  have h2 : tKind bf e q = 1 := by unfold tKind; rw [if_pos hq, if_pos hl]
  exact ⟨by omega, h15, by rw [h1]; exact h16, h17, by rw [h2]; exact h18, fun h => by rw [h2] at h; exact absurd h (by decide), fun _ => by rw [h20, tWord, h1, show q + m - q = m by omega]⟩
theorem tok_n {bf : Nat → Int32} {e q m : Nat} {i : Nat → Int32} {j : Nat → Int64} (hq : q < e) (hl : letQ (bf q) = false) (hf : figQ (bf q) = true) (hm : q + m = runE figQ bf e q) (h15 : i 15 = nI e) (h16 : i 16 = nI (q + m)) (h17 : i 17 = nI q) (h18 : i 18 = 2) (h20 : j 19 = nval bf q m) : tokS bf e q i j := by
  have h1 : tEnd bf e q = q + m := by unfold tEnd; rw [if_pos hq, if_neg (by rw [hl]; decide), if_pos hf, hm]
  have h2 : tKind bf e q = 2 := by unfold tKind; rw [if_pos hq, if_neg (by rw [hl]; decide), if_pos hf]
  exact ⟨by omega, h15, by rw [h1]; exact h16, h17, by rw [h2]; exact h18, fun _ => by rw [h20, tVal, h1, show q + m - q = m by omega], fun h => by rw [h2] at h; exact absurd h (by decide)⟩
theorem tok_s {bf : Nat → Int32} {e q : Nat} {i : Nat → Int32} {j : Nat → Int64} (hq : q < e) (hl : letQ (bf q) = false) (hf : figQ (bf q) = false) (h15 : i 15 = nI e) (h16 : i 16 = nI (q + 1)) (h17 : i 17 = nI q) (h18 : i 18 = 3) : tokS bf e q i j := by
  have h1 : tEnd bf e q = q + 1 := by unfold tEnd; rw [if_pos hq, if_neg (by rw [hl]; decide), if_neg (by rw [hf]; decide)]
  have h2 : tKind bf e q = 3 := by unfold tKind; rw [if_pos hq, if_neg (by rw [hl]; decide), if_neg (by rw [hf]; decide)]
  exact ⟨by omega, h15, by rw [h1]; exact h16, h17, by rw [h2]; exact h18, fun h => by rw [h2] at h; exact absurd h (by decide), fun h => by rw [h2] at h; exact absurd h (by decide)⟩
theorem byteQ_in {bf : Nat → Int32} {e k : Nat} (h : k < e) : byteQ bf e k = bf k := if_pos h
theorem byteQ_out {bf : Nat → Int32} {e k : Nat} (h : ¬ k < e) : byteQ bf e k = -1 := if_neg h
theorem let_m1 : letQ (-1) = false := by decide
theorem fig_m1 : figQ (-1) = false := by decide
set_option maxHeartbeats 4000000 in
set_option maxRecDepth 100000 in
theorem metX6_byteAtH1 (l : Launch) (G : xG) (hG : xGood G) (b : Nat → Nat) (i : Nat → Int32) (j : Nat → Int64) (bf : Nat → Int32) (e k : Nat) (he : e ≤ 600) (hk : k ≤ 600) (h15 : i 15 = nI e) (hq : k < e) : xRm l G yX6_byteAt (Cond.code yX6_byteAt cX6_byteAt 2 (some .int)) { frames := 0, locals := 0, cells := 0, slots := 0 } [.ref (b 0), .int (nI k)] [(b 0, .inr (5, mF b i j)), (b 13, .inl (0, 600, .inl bf))] (some (.int (byteQ bf e k))) := by
  intro V hV
  refine xMet_of RX6 hG rfl (by decide) (Nat.le_of_ble_eq_true rfl) fun C hC hQ hX hl hg _ => ?_
  subst hl hg
  refine rn.mono (J := xRo [(b 0, .inr (5, mF b i j)), (b 13, .inl (0, 600, .inl bf))] V) (fun V9 h => ⟨h, hV⟩) ?_
  show rn C (xRo [(b 0, .inr (5, mF b i j)), (b 13, .inl (0, 600, .inl bf))] V) 0 0 0 [(0, .ref (b 0)), (1, .int (nI k))] []
  refine r_iload_n hC 1 dX6_byteAt_0 rfl 1 rfl ?_
  refine r_aload_n hC 0 dX6_byteAt_1 rfl 2 rfl ?_
  refine r_get (v := .int (i 15)) hC kX6 15 rfl q2768 (fun _ h => h.get 0 rfl) rfl dX6_byteAt_2 5 rfl ?_
  refine r_eqi (y := nI e) (h15) ?_
  refine r_icge hC 17 dX6_byteAt_5 (by decide) 8 rfl (fun h => absurd h (nI_ge (a := k) (b := e) (by omega) (by omega))) (fun _ => ?_)
  refine r_aload_n hC 0 dX6_byteAt_8 rfl 9 rfl ?_
  refine r_get (v := .ref (b 13)) hC kX6 13 rfl q2766 (fun _ h => h.get 0 rfl) rfl dX6_byteAt_9 12 rfl ?_
  refine r_iload_n hC 1 dX6_byteAt_12 rfl 13 rfl ?_
  refine r_iald hC k (xix_n k (by omega) (Nat.le_of_ble_eq_true rfl)) (fun _ h => h.get 1 rfl) (bf k) (rfl) dX6_byteAt_13 14 rfl ?_
  refine r_goto hC 18 dX6_byteAt_14 (by decide) ?_
  exact r_iret hC (Nat.le_of_ble_eq_true rfl) (Nat.le_of_ble_eq_true rfl) (fun V9 h => hQ _ _ ⟨by rw [byteQ, if_pos hq], h.1⟩) dX6_byteAt_18
set_option maxHeartbeats 4000000 in
set_option maxRecDepth 100000 in
theorem metX6_byteAtH0 (l : Launch) (G : xG) (hG : xGood G) (b : Nat → Nat) (i : Nat → Int32) (j : Nat → Int64) (bf : Nat → Int32) (e k : Nat) (he : e ≤ 600) (hk : k ≤ 600) (h15 : i 15 = nI e) (hq : ¬ k < e) : xRm l G yX6_byteAt (Cond.code yX6_byteAt cX6_byteAt 2 (some .int)) { frames := 0, locals := 0, cells := 0, slots := 0 } [.ref (b 0), .int (nI k)] [(b 0, .inr (5, mF b i j)), (b 13, .inl (0, 600, .inl bf))] (some (.int (byteQ bf e k))) := by
  intro V hV
  refine xMet_of RX6 hG rfl (by decide) (Nat.le_of_ble_eq_true rfl) fun C hC hQ hX hl hg _ => ?_
  subst hl hg
  refine rn.mono (J := xRo [(b 0, .inr (5, mF b i j)), (b 13, .inl (0, 600, .inl bf))] V) (fun V9 h => ⟨h, hV⟩) ?_
  show rn C (xRo [(b 0, .inr (5, mF b i j)), (b 13, .inl (0, 600, .inl bf))] V) 0 0 0 [(0, .ref (b 0)), (1, .int (nI k))] []
  refine r_iload_n hC 1 dX6_byteAt_0 rfl 1 rfl ?_
  refine r_aload_n hC 0 dX6_byteAt_1 rfl 2 rfl ?_
  refine r_get (v := .int (i 15)) hC kX6 15 rfl q2768 (fun _ h => h.get 0 rfl) rfl dX6_byteAt_2 5 rfl ?_
  refine r_eqi (y := nI e) (h15) ?_
  refine r_icge hC 17 dX6_byteAt_5 (by decide) 8 rfl (fun _ => ?_) (fun h => absurd (nI_le (a := e) (b := k) (by omega) (by omega)) h)
  refine r_iconst hC (-1) dX6_byteAt_17 ic_m1 18 rfl ?_
  exact r_iret hC (Nat.le_of_ble_eq_true rfl) (Nat.le_of_ble_eq_true rfl) (fun V9 h => hQ _ _ ⟨by rw [byteQ, if_neg hq], h.1⟩) dX6_byteAt_18
theorem metX6_byteAtH (l : Launch) (G : xG) (hG : xGood G) (b : Nat → Nat) (i : Nat → Int32) (j : Nat → Int64) (bf : Nat → Int32) (e k : Nat) (he : e ≤ 600) (hk : k ≤ 600) (h15 : i 15 = nI e) : xRm l G yX6_byteAt (Cond.code yX6_byteAt cX6_byteAt 2 (some .int)) { frames := 0, locals := 0, cells := 0, slots := 0 } [.ref (b 0), .int (nI k)] [(b 0, .inr (5, mF b i j)), (b 13, .inl (0, 600, .inl bf))] (some (.int (byteQ bf e k))) := by
  by_cases hq : k < e
  · exact metX6_byteAtH1 l G hG b i j bf e k he hk h15 hq
  · exact metX6_byteAtH0 l G hG b i j bf e k he hk h15 hq
set_option maxHeartbeats 4000000 in
set_option maxRecDepth 100000 in
theorem lpX6_readsWord {C : xC} {F : Nat → Prop} {V0 : xV} (hG : xGood (xGG C)) (hC : xCtx C RX6 cX6_readsWord 1 none { frames := 1, locals := 21, cells := 0, slots := 0 }) (b : Nat → Nat) (i0 : Nat → Int32) (j0 : Nat → Int64) (bf : Nat → Int32) (e g R : Nat) (he : e ≤ 600) (h15 : i0 15 = nI e) (h17 : i0 17 = nI g) (kx : ∀ (i' : Nat → Int32) (j' : Nat → Int64) (m : Nat), g + m = R → i' 16 = nI (g + m) → (∀ k, k ≠ 16 → i' k = i0 k) → j' 20 = wval bf g m → (∀ k, k ≠ 20 → j' k = j0 k) → rn C (xSt F V0 [(b 0, .inr (5, mF b i' j')), (b 13, .inl (0, 600, .inl bf))]) 0 0 73 [(0, .ref (b 0))] []) : ∀ (f m : Nat) (i : Nat → Int32) (j : Nat → Int64), g + m + f = e → runE letQ bf e (g + m) = R → i 16 = nI (g + m) → (∀ k, k ≠ 16 → i k = i0 k) → j 20 = wval bf g m → (∀ k, k ≠ 20 → j k = j0 k) → rn C (xSt F V0 [(b 0, .inr (5, mF b i j)), (b 13, .inl (0, 600, .inl bf))]) 0 0 5 [(0, .ref (b 0))] [] := by
  intro f
  induction f with
  | zero =>
    intro m i j hf hR h16 hi hj1 hj
    refine r_aload_n hC 0 dX6_readsWord_5 rfl 6 rfl ?_
    refine r_aload_n hC 0 dX6_readsWord_6 rfl 7 rfl ?_
    refine r_get (v := .int (i 16)) hC kX6 16 rfl q2769 (fun _ h => h.get 0 rfl) rfl dX6_readsWord_7 10 rfl ?_
    refine r_eqi (y := nI (g + m)) (h16) ?_
    refine r_invVr hC kX6 (b 0) [.int (nI (g + m))] (.int (byteQ bf e (g + m))) mVX6_byteAt q2906 (fun _ h => h.get 0 rfl) (metX6_byteAtH _ _ hG b i j bf e (g + m) he (by omega) ((hi 15 (by decide)).trans h15)) (fun _ h => h.in.sub [0, 1] rfl rfl) ⟨rfl, rfl⟩ 0 0 rfl rfl (Nat.le_of_ble_eq_true rfl) (Nat.le_of_ble_eq_true rfl) rfl (Nat.le_of_ble_eq_true rfl) dX6_readsWord_10 13 rfl ?_
    refine r_invSr hC [.int (byteQ bf e (g + m))] (.int (bI (letQ (byteQ bf e (g + m))))) mSX6_isLetter q2910 (metX6_isLetter _ _ hG (byteQ bf e (g + m)) _ rfl) (fun _ _ => xIn.nil) ⟨rfl, rfl⟩ 0 0 rfl rfl (Nat.le_of_ble_eq_true rfl) (Nat.le_of_ble_eq_true rfl) rfl (Nat.le_of_ble_eq_true rfl) dX6_readsWord_13 16 rfl ?_
    refine r_ifeq hC 73 dX6_readsWord_16 (by decide) 19 rfl (fun _ => ?_) (fun h => absurd (by rw [byteQ_out (by omega), let_m1]; rfl) h)
    exact kx i j m (by rw [← hR, runE_x (fun h => absurd h (by omega))]) h16 hi hj1 hj
  | succ f ih =>
    intro m i j hf hR h16 hi hj1 hj
    refine r_aload_n hC 0 dX6_readsWord_5 rfl 6 rfl ?_
    refine r_aload_n hC 0 dX6_readsWord_6 rfl 7 rfl ?_
    refine r_get (v := .int (i 16)) hC kX6 16 rfl q2769 (fun _ h => h.get 0 rfl) rfl dX6_readsWord_7 10 rfl ?_
    refine r_eqi (y := nI (g + m)) (h16) ?_
    refine r_invVr hC kX6 (b 0) [.int (nI (g + m))] (.int (byteQ bf e (g + m))) mVX6_byteAt q2906 (fun _ h => h.get 0 rfl) (metX6_byteAtH _ _ hG b i j bf e (g + m) he (by omega) ((hi 15 (by decide)).trans h15)) (fun _ h => h.in.sub [0, 1] rfl rfl) ⟨rfl, rfl⟩ 0 0 rfl rfl (Nat.le_of_ble_eq_true rfl) (Nat.le_of_ble_eq_true rfl) rfl (Nat.le_of_ble_eq_true rfl) dX6_readsWord_10 13 rfl ?_
    refine r_invSr hC [.int (byteQ bf e (g + m))] (.int (bI (letQ (byteQ bf e (g + m))))) mSX6_isLetter q2910 (metX6_isLetter _ _ hG (byteQ bf e (g + m)) _ rfl) (fun _ _ => xIn.nil) ⟨rfl, rfl⟩ 0 0 rfl rfl (Nat.le_of_ble_eq_true rfl) (Nat.le_of_ble_eq_true rfl) rfl (Nat.le_of_ble_eq_true rfl) dX6_readsWord_13 16 rfl ?_
    refine r_ifeq hC 73 dX6_readsWord_16 (by decide) 19 rfl (fun c1 => ?_) (fun c1 => ?_)
    · skip
      exact kx i j m (by rw [← hR, runE_x (fun _ => by rw [← byteQ_in (bf := bf) (by omega : g + m < e)]; exact bI_0.mp c1)]) h16 hi hj1 hj
    · skip
      refine r_aload_n hC 0 dX6_readsWord_19 rfl 20 rfl ?_
      refine r_get (v := .int (i 16)) hC kX6 16 rfl q2769 (fun _ h => h.get 0 rfl) rfl dX6_readsWord_20 23 rfl ?_
      refine r_eqi (y := nI (g + m)) (h16) ?_
      refine r_aload_n hC 0 dX6_readsWord_23 rfl 24 rfl ?_
      refine r_get (v := .int (i 17)) hC kX6 17 rfl q2770 (fun _ h => h.get 0 rfl) rfl dX6_readsWord_24 27 rfl ?_
      refine r_eqi (y := nI g) ((hi 17 (by decide)).trans h17) ?_
      refine r_isub hC (nI ((g + m) - g)) dX6_readsWord_27  (pk_sub (a := g + m) (b := g) (by omega)) 28 rfl ?_
      refine r_bipush hC 8 dX6_readsWord_28 bp_8 30 rfl ?_
      by_cases hb : m < 8
      · skip
        refine r_icge hC 60 dX6_readsWord_30 (by decide) 33 rfl (fun h => absurd h (nI_ge (a := g + m - g) (b := 8) (by omega) (by decide))) (fun _ => ?_)
        refine r_aload_n hC 0 dX6_readsWord_33 rfl 34 rfl ?_
        refine r_ldc2 hC q2917 dX6_readsWord_34 37 rfl ?_
        refine r_aload_n hC 0 dX6_readsWord_37 rfl 38 rfl ?_
        refine r_get (v := .long (j 20)) hC kX6 20 rfl q2773 (fun _ h => h.get 0 rfl) rfl dX6_readsWord_38 41 rfl ?_
        refine r_lmul hC (27 * (j 20)) dX6_readsWord_41  (rfl) 42 rfl ?_
        refine r_aload_n hC 0 dX6_readsWord_42 rfl 43 rfl ?_
        refine r_get (v := .ref (b 13)) hC kX6 13 rfl q2766 (fun _ h => h.get 0 rfl) rfl dX6_readsWord_43 46 rfl ?_
        refine r_aload_n hC 0 dX6_readsWord_46 rfl 47 rfl ?_
        refine r_get (v := .int (i 16)) hC kX6 16 rfl q2769 (fun _ h => h.get 0 rfl) rfl dX6_readsWord_47 50 rfl ?_
        refine r_eqi (y := nI (g + m)) (h16) ?_
        refine r_iald hC (g + m) (xix_n (g + m) (by omega) (Nat.le_of_ble_eq_true rfl)) (fun _ h => h.get 1 rfl) (bf (g + m)) (rfl) dX6_readsWord_50 51 rfl ?_
        refine r_i2l hC ((bf (g + m)).toInt64) dX6_readsWord_51 (rfl) 52 rfl ?_
        refine r_ladd hC ((27 * (j 20)) + ((bf (g + m)).toInt64)) dX6_readsWord_52  (rfl) 53 rfl ?_
        refine r_ldc2 hC q2918 dX6_readsWord_53 56 rfl ?_
        refine r_lsub hC (((27 * (j 20)) + ((bf (g + m)).toInt64)) - 96) dX6_readsWord_56  (rfl) 57 rfl ?_
        refine r_put (J := xSt F V0 [(b 0, .inr (5, mF b i (va_up j 20 (((27 * (j 20)) + ((bf (g + m)).toInt64)) - 96)))), (b 13, .inl (0, 600, .inl bf))]) hC kX6 20 rfl q2773 rfl (fun _ h => h.get 0 rfl) (Nat.le_of_ble_eq_true rfl) rfl rfl dX6_readsWord_57 (fun _ h => h.set 0 _ rfl) 60 rfl ?_
        refine r_aload_n hC 0 dX6_readsWord_60 rfl 61 rfl ?_
        refine r_dup hC dX6_readsWord_61 rfl 62 rfl ?_
        refine r_get (v := .int (i 16)) hC kX6 16 rfl q2769 (fun _ h => h.get 0 rfl) rfl dX6_readsWord_62 65 rfl ?_
        refine r_eqi (y := nI (g + m)) (h16) ?_
        refine r_iconst hC 1 dX6_readsWord_65 ic_1 66 rfl ?_
        refine r_iadd hC (nI (g + m + 1)) dX6_readsWord_66  (nI_add (g + m) 1) 67 rfl ?_
        refine r_put (J := xSt F V0 [(b 0, .inr (5, mF b (va_up i 16 (nI (g + m + 1))) (va_up j 20 (((27 * (j 20)) + ((bf (g + m)).toInt64)) - 96)))), (b 13, .inl (0, 600, .inl bf))]) hC kX6 16 rfl q2769 rfl (fun _ h => h.get 0 rfl) (Nat.le_of_ble_eq_true rfl) rfl rfl dX6_readsWord_67 (fun _ h => h.set 0 _ rfl) 70 rfl ?_
        refine r_goto hC 5 dX6_readsWord_70 (by decide) ?_
        have hP : letQ (bf (g + m)) = true := by rw [← byteQ_in (bf := bf) (by omega : g + m < e)]; exact bI_n0.mp c1
        exact ih (m + 1) (va_up i 16 (nI (g + m + 1))) (va_up j 20 (((27 * (j 20)) + ((bf (g + m)).toInt64)) - 96)) (by omega) (by rw [← hR, runE_s (by omega) hP]; rfl) rfl (fun k hk => by rw [up_ne hk]; exact hi k hk) (by rw [up_same, wval, if_pos hb, hj1]) (fun k hk => by rw [up_ne hk]; exact hj k hk)
      · skip
        refine r_icge hC 60 dX6_readsWord_30 (by decide) 33 rfl (fun _ => ?_) (fun h => absurd (nI_le (a := 8) (b := g + m - g) (by omega) (by omega)) h)
        refine r_aload_n hC 0 dX6_readsWord_60 rfl 61 rfl ?_
        refine r_dup hC dX6_readsWord_61 rfl 62 rfl ?_
        refine r_get (v := .int (i 16)) hC kX6 16 rfl q2769 (fun _ h => h.get 0 rfl) rfl dX6_readsWord_62 65 rfl ?_
        refine r_eqi (y := nI (g + m)) (h16) ?_
        refine r_iconst hC 1 dX6_readsWord_65 ic_1 66 rfl ?_
        refine r_iadd hC (nI (g + m + 1)) dX6_readsWord_66  (nI_add (g + m) 1) 67 rfl ?_
        refine r_put (J := xSt F V0 [(b 0, .inr (5, mF b (va_up i 16 (nI (g + m + 1))) j)), (b 13, .inl (0, 600, .inl bf))]) hC kX6 16 rfl q2769 rfl (fun _ h => h.get 0 rfl) (Nat.le_of_ble_eq_true rfl) rfl rfl dX6_readsWord_67 (fun _ h => h.set 0 _ rfl) 70 rfl ?_
        refine r_goto hC 5 dX6_readsWord_70 (by decide) ?_
        have hP : letQ (bf (g + m)) = true := by rw [← byteQ_in (bf := bf) (by omega : g + m < e)]; exact bI_n0.mp c1
        exact ih (m + 1) (va_up i 16 (nI (g + m + 1))) j (by omega) (by rw [← hR, runE_s (by omega) hP]; rfl) rfl (fun k hk => by rw [up_ne hk]; exact hi k hk) (by rw [wval, if_neg hb]; exact hj1) (hj)
set_option maxHeartbeats 4000000 in
set_option maxRecDepth 100000 in
theorem metX6_readsWord (l : Launch) (G : xG) (hG : xGood G) (b : Nat → Nat) (i : Nat → Int32) (j : Nat → Int64) (bf : Nat → Int32) (e g : Nat) (he : e ≤ 600) (hg : g < e) (h15 : i 15 = nI e) (h16 : i 16 = nI g) (h17 : i 17 = nI g) : xWm l G yX6_readsWord (Cond.code yX6_readsWord cX6_readsWord 1 none) { frames := 1, locals := 21, cells := 0, slots := 0 } [.ref (b 0)] [(b 0, .inr (5, mF b i j)), (b 13, .inl (0, 600, .inl bf))] (fun v w' => v = none ∧ ∃ (i' : Nat → Int32) (j' : Nat → Int64) (m : Nat), w' = [(b 0, .inr (5, mF b i' j')), (b 13, .inl (0, 600, .inl bf))] ∧ g + m = runE letQ bf e g ∧ i' 16 = nI (g + m) ∧ i' 18 = 1 ∧ (∀ k, k ≠ 16 → k ≠ 18 → i' k = i k) ∧ j' 20 = wval bf g m ∧ (∀ k, k ≠ 20 → j' k = j k)) (fun _ _ => False) := by
  intro V hV
  refine xMet_of RX6 hG rfl (by decide) (Nat.le_of_ble_eq_true rfl) fun C hC hQ hX hl hg _ => ?_
  subst hl hg
  obtain ⟨V0, hV0⟩ : ∃ V0, V0 = V := ⟨_, rfl⟩
  obtain ⟨F, hF⟩ : ∃ F, F = xF [(b 0, .inr (5, mF b i j)), (b 13, .inl (0, 600, .inl bf))] := ⟨_, rfl⟩
  refine rn.mono (J := xSt F V0 [(b 0, .inr (5, mF b i j)), (b 13, .inl (0, 600, .inl bf))]) (fun V9 h => by rw [h, hV0, hF]; exact hV.st) ?_
  show rn C (xSt F V0 [(b 0, .inr (5, mF b i j)), (b 13, .inl (0, 600, .inl bf))]) 0 0 0 [(0, .ref (b 0))] []
  refine r_aload_n hC 0 dX6_readsWord_0 rfl 1 rfl ?_
  refine r_lconst hC 0 dX6_readsWord_1 lc_0 2 rfl ?_
  refine r_put (J := xSt F V0 [(b 0, .inr (5, mF b i (va_up j 20 0))), (b 13, .inl (0, 600, .inl bf))]) hC kX6 20 rfl q2773 rfl (fun _ h => h.get 0 rfl) (Nat.le_of_ble_eq_true rfl) rfl rfl dX6_readsWord_2 (fun _ h => h.set 0 _ rfl) 5 rfl ?_
  refine lpX6_readsWord hG hC b i (va_up j 20 0) bf e g (runE letQ bf e g) he h15 h17 (fun i9 j9 m hm e16 ei e20 ej => ?_) (e - g) 0 _ _ (by omega) rfl h16 (fun _ _ => rfl) rfl (fun _ _ => rfl)
  refine r_aload_n hC 0 dX6_readsWord_73 rfl 74 rfl ?_
  refine r_iconst hC 1 dX6_readsWord_74 ic_1 75 rfl ?_
  refine r_put (J := xSt F V0 [(b 0, .inr (5, mF b (va_up i9 18 1) j9)), (b 13, .inl (0, 600, .inl bf))]) hC kX6 18 rfl q2771 rfl (fun _ h => h.get 0 rfl) (Nat.le_of_ble_eq_true rfl) rfl rfl dX6_readsWord_75 (fun _ h => h.set 0 _ rfl) 78 rfl ?_
  exact r_vret hC (Nat.le_of_ble_eq_true rfl) (Nat.le_of_ble_eq_true rfl) (fun V9 h => hQ _ _ ⟨[(b 0, .inr (5, mF b (va_up i9 18 1) j9)), (b 13, .inl (0, 600, .inl bf))], ⟨rfl, _, _, m, rfl, hm, e16, rfl, fun k h1 h2 => by rw [up_ne h2]; exact ei k h1, e20, fun k hk => (ej k hk).trans (up_ne hk)⟩, by rw [← hV0, ← hF]; exact h⟩) dX6_readsWord_78
set_option maxHeartbeats 4000000 in
set_option maxRecDepth 100000 in
theorem lpX6_readsNumber {C : xC} {F : Nat → Prop} {V0 : xV} (hG : xGood (xGG C)) (hC : xCtx C RX6 cX6_readsNumber 1 none { frames := 1, locals := 21, cells := 0, slots := 0 }) (b : Nat → Nat) (i0 : Nat → Int32) (j0 : Nat → Int64) (bf : Nat → Int32) (e g R : Nat) (he : e ≤ 600) (h15 : i0 15 = nI e) (h17 : i0 17 = nI g) (kx : ∀ (i' : Nat → Int32) (j' : Nat → Int64) (m : Nat), g + m = R → i' 16 = nI (g + m) → (∀ k, k ≠ 16 → i' k = i0 k) → j' 19 = nval bf g m → (∀ k, k ≠ 19 → j' k = j0 k) → rn C (xSt F V0 [(b 0, .inr (5, mF b i' j')), (b 13, .inl (0, 600, .inl bf))]) 0 0 77 [(0, .ref (b 0))] []) : ∀ (f m : Nat) (i : Nat → Int32) (j : Nat → Int64), g + m + f = e → runE figQ bf e (g + m) = R → i 16 = nI (g + m) → (∀ k, k ≠ 16 → i k = i0 k) → j 19 = nval bf g m → (∀ k, k ≠ 19 → j k = j0 k) → rn C (xSt F V0 [(b 0, .inr (5, mF b i j)), (b 13, .inl (0, 600, .inl bf))]) 0 0 5 [(0, .ref (b 0))] [] := by
  intro f
  induction f with
  | zero =>
    intro m i j hf hR h16 hi hj1 hj
    refine r_aload_n hC 0 dX6_readsNumber_5 rfl 6 rfl ?_
    refine r_aload_n hC 0 dX6_readsNumber_6 rfl 7 rfl ?_
    refine r_get (v := .int (i 16)) hC kX6 16 rfl q2769 (fun _ h => h.get 0 rfl) rfl dX6_readsNumber_7 10 rfl ?_
    refine r_eqi (y := nI (g + m)) (h16) ?_
    refine r_invVr hC kX6 (b 0) [.int (nI (g + m))] (.int (byteQ bf e (g + m))) mVX6_byteAt q2906 (fun _ h => h.get 0 rfl) (metX6_byteAtH _ _ hG b i j bf e (g + m) he (by omega) ((hi 15 (by decide)).trans h15)) (fun _ h => h.in.sub [0, 1] rfl rfl) ⟨rfl, rfl⟩ 0 0 rfl rfl (Nat.le_of_ble_eq_true rfl) (Nat.le_of_ble_eq_true rfl) rfl (Nat.le_of_ble_eq_true rfl) dX6_readsNumber_10 13 rfl ?_
    refine r_invSr hC [.int (byteQ bf e (g + m))] (.int (bI (figQ (byteQ bf e (g + m))))) mSX6_isFigure q2919 (metX6_isFigure _ _ hG (byteQ bf e (g + m)) _ rfl) (fun _ _ => xIn.nil) ⟨rfl, rfl⟩ 0 0 rfl rfl (Nat.le_of_ble_eq_true rfl) (Nat.le_of_ble_eq_true rfl) rfl (Nat.le_of_ble_eq_true rfl) dX6_readsNumber_13 16 rfl ?_
    refine r_ifeq hC 77 dX6_readsNumber_16 (by decide) 19 rfl (fun _ => ?_) (fun h => absurd (by rw [byteQ_out (by omega), fig_m1]; rfl) h)
    exact kx i j m (by rw [← hR, runE_x (fun h => absurd h (by omega))]) h16 hi hj1 hj
  | succ f ih =>
    intro m i j hf hR h16 hi hj1 hj
    refine r_aload_n hC 0 dX6_readsNumber_5 rfl 6 rfl ?_
    refine r_aload_n hC 0 dX6_readsNumber_6 rfl 7 rfl ?_
    refine r_get (v := .int (i 16)) hC kX6 16 rfl q2769 (fun _ h => h.get 0 rfl) rfl dX6_readsNumber_7 10 rfl ?_
    refine r_eqi (y := nI (g + m)) (h16) ?_
    refine r_invVr hC kX6 (b 0) [.int (nI (g + m))] (.int (byteQ bf e (g + m))) mVX6_byteAt q2906 (fun _ h => h.get 0 rfl) (metX6_byteAtH _ _ hG b i j bf e (g + m) he (by omega) ((hi 15 (by decide)).trans h15)) (fun _ h => h.in.sub [0, 1] rfl rfl) ⟨rfl, rfl⟩ 0 0 rfl rfl (Nat.le_of_ble_eq_true rfl) (Nat.le_of_ble_eq_true rfl) rfl (Nat.le_of_ble_eq_true rfl) dX6_readsNumber_10 13 rfl ?_
    refine r_invSr hC [.int (byteQ bf e (g + m))] (.int (bI (figQ (byteQ bf e (g + m))))) mSX6_isFigure q2919 (metX6_isFigure _ _ hG (byteQ bf e (g + m)) _ rfl) (fun _ _ => xIn.nil) ⟨rfl, rfl⟩ 0 0 rfl rfl (Nat.le_of_ble_eq_true rfl) (Nat.le_of_ble_eq_true rfl) rfl (Nat.le_of_ble_eq_true rfl) dX6_readsNumber_13 16 rfl ?_
    refine r_ifeq hC 77 dX6_readsNumber_16 (by decide) 19 rfl (fun c1 => ?_) (fun c1 => ?_)
    · skip
      exact kx i j m (by rw [← hR, runE_x (fun _ => by rw [← byteQ_in (bf := bf) (by omega : g + m < e)]; exact bI_0.mp c1)]) h16 hi hj1 hj
    · skip
      refine r_aload_n hC 0 dX6_readsNumber_19 rfl 20 rfl ?_
      refine r_aload_n hC 0 dX6_readsNumber_20 rfl 21 rfl ?_
      refine r_get (v := .long (j 19)) hC kX6 19 rfl q2772 (fun _ h => h.get 0 rfl) rfl dX6_readsNumber_21 24 rfl ?_
      refine r_ldc2 hC q2926 dX6_readsNumber_24 27 rfl ?_
      refine r_lcle hC 38 dX6_readsNumber_27 dX6_readsNumber_28 (by decide) 31 rfl (fun c2 => ?_) (fun c2 => ?_)
      · skip
        refine r_ldc2 hC q2709 dX6_readsNumber_38 41 rfl ?_
        refine r_aload_n hC 0 dX6_readsNumber_41 rfl 42 rfl ?_
        refine r_get (v := .long (j 19)) hC kX6 19 rfl q2772 (fun _ h => h.get 0 rfl) rfl dX6_readsNumber_42 45 rfl ?_
        refine r_lmul hC (10 * (j 19)) dX6_readsNumber_45  (rfl) 46 rfl ?_
        refine r_aload_n hC 0 dX6_readsNumber_46 rfl 47 rfl ?_
        refine r_get (v := .ref (b 13)) hC kX6 13 rfl q2766 (fun _ h => h.get 0 rfl) rfl dX6_readsNumber_47 50 rfl ?_
        refine r_aload_n hC 0 dX6_readsNumber_50 rfl 51 rfl ?_
        refine r_get (v := .int (i 16)) hC kX6 16 rfl q2769 (fun _ h => h.get 0 rfl) rfl dX6_readsNumber_51 54 rfl ?_
        refine r_eqi (y := nI (g + m)) (h16) ?_
        refine r_iald hC (g + m) (xix_n (g + m) (by omega) (Nat.le_of_ble_eq_true rfl)) (fun _ h => h.get 1 rfl) (bf (g + m)) (rfl) dX6_readsNumber_54 55 rfl ?_
        refine r_i2l hC ((bf (g + m)).toInt64) dX6_readsNumber_55 (rfl) 56 rfl ?_
        refine r_ladd hC ((10 * (j 19)) + ((bf (g + m)).toInt64)) dX6_readsNumber_56  (rfl) 57 rfl ?_
        refine r_ldc2 hC q2927 dX6_readsNumber_57 60 rfl ?_
        refine r_lsub hC (((10 * (j 19)) + ((bf (g + m)).toInt64)) - 48) dX6_readsNumber_60  (rfl) 61 rfl ?_
        refine r_put (J := xSt F V0 [(b 0, .inr (5, mF b i (va_up j 19 (((10 * (j 19)) + ((bf (g + m)).toInt64)) - 48)))), (b 13, .inl (0, 600, .inl bf))]) hC kX6 19 rfl q2772 rfl (fun _ h => h.get 0 rfl) (Nat.le_of_ble_eq_true rfl) rfl rfl dX6_readsNumber_61 (fun _ h => h.set 0 _ rfl) 64 rfl ?_
        refine r_aload_n hC 0 dX6_readsNumber_64 rfl 65 rfl ?_
        refine r_dup hC dX6_readsNumber_65 rfl 66 rfl ?_
        refine r_get (v := .int (i 16)) hC kX6 16 rfl q2769 (fun _ h => h.get 0 rfl) rfl dX6_readsNumber_66 69 rfl ?_
        refine r_eqi (y := nI (g + m)) (h16) ?_
        refine r_iconst hC 1 dX6_readsNumber_69 ic_1 70 rfl ?_
        refine r_iadd hC (nI (g + m + 1)) dX6_readsNumber_70  (nI_add (g + m) 1) 71 rfl ?_
        refine r_put (J := xSt F V0 [(b 0, .inr (5, mF b (va_up i 16 (nI (g + m + 1))) (va_up j 19 (((10 * (j 19)) + ((bf (g + m)).toInt64)) - 48)))), (b 13, .inl (0, 600, .inl bf))]) hC kX6 16 rfl q2769 rfl (fun _ h => h.get 0 rfl) (Nat.le_of_ble_eq_true rfl) rfl rfl dX6_readsNumber_71 (fun _ h => h.set 0 _ rfl) 74 rfl ?_
        refine r_goto hC 5 dX6_readsNumber_74 (by decide) ?_
        have hP : figQ (bf (g + m)) = true := by rw [← byteQ_in (bf := bf) (by omega : g + m < e)]; exact bI_n0.mp c1
        exact ih (m + 1) (va_up i 16 (nI (g + m + 1))) (va_up j 19 (((10 * (j 19)) + ((bf (g + m)).toInt64)) - 48)) (by omega) (by rw [← hR, runE_s (by omega) hP]; rfl) rfl (fun k hk => by rw [up_ne hk]; exact hi k hk) (by rw [up_same, nval, if_pos (by rw [← hj1]; exact c2), hj1]) (fun k hk => by rw [up_ne hk]; exact hj k hk)
      · skip
        refine r_aload_n hC 0 dX6_readsNumber_31 rfl 32 rfl ?_
        refine r_get (v := .long (j 19)) hC kX6 19 rfl q2772 (fun _ h => h.get 0 rfl) rfl dX6_readsNumber_32 35 rfl ?_
        refine r_goto hC 61 dX6_readsNumber_35 (by decide) ?_
        refine r_put (J := xSt F V0 [(b 0, .inr (5, mF b i (va_up j 19 (j 19)))), (b 13, .inl (0, 600, .inl bf))]) hC kX6 19 rfl q2772 rfl (fun _ h => h.get 0 rfl) (Nat.le_of_ble_eq_true rfl) rfl rfl dX6_readsNumber_61 (fun _ h => h.set 0 _ rfl) 64 rfl ?_
        refine r_aload_n hC 0 dX6_readsNumber_64 rfl 65 rfl ?_
        refine r_dup hC dX6_readsNumber_65 rfl 66 rfl ?_
        refine r_get (v := .int (i 16)) hC kX6 16 rfl q2769 (fun _ h => h.get 0 rfl) rfl dX6_readsNumber_66 69 rfl ?_
        refine r_eqi (y := nI (g + m)) (h16) ?_
        refine r_iconst hC 1 dX6_readsNumber_69 ic_1 70 rfl ?_
        refine r_iadd hC (nI (g + m + 1)) dX6_readsNumber_70  (nI_add (g + m) 1) 71 rfl ?_
        refine r_put (J := xSt F V0 [(b 0, .inr (5, mF b (va_up i 16 (nI (g + m + 1))) (va_up j 19 (j 19)))), (b 13, .inl (0, 600, .inl bf))]) hC kX6 16 rfl q2769 rfl (fun _ h => h.get 0 rfl) (Nat.le_of_ble_eq_true rfl) rfl rfl dX6_readsNumber_71 (fun _ h => h.set 0 _ rfl) 74 rfl ?_
        refine r_goto hC 5 dX6_readsNumber_74 (by decide) ?_
        have hP : figQ (bf (g + m)) = true := by rw [← byteQ_in (bf := bf) (by omega : g + m < e)]; exact bI_n0.mp c1
        exact ih (m + 1) (va_up i 16 (nI (g + m + 1))) (va_up j 19 (j 19)) (by omega) (by rw [← hR, runE_s (by omega) hP]; rfl) rfl (fun k hk => by rw [up_ne hk]; exact hi k hk) (by rw [up_same, nval, if_neg (by rw [← hj1]; exact c2), hj1]) (fun k hk => by rw [up_ne hk]; exact hj k hk)
set_option maxHeartbeats 4000000 in
set_option maxRecDepth 100000 in
theorem metX6_readsNumber (l : Launch) (G : xG) (hG : xGood G) (b : Nat → Nat) (i : Nat → Int32) (j : Nat → Int64) (bf : Nat → Int32) (e g : Nat) (he : e ≤ 600) (hg : g < e) (h15 : i 15 = nI e) (h16 : i 16 = nI g) (h17 : i 17 = nI g) : xWm l G yX6_readsNumber (Cond.code yX6_readsNumber cX6_readsNumber 1 none) { frames := 1, locals := 21, cells := 0, slots := 0 } [.ref (b 0)] [(b 0, .inr (5, mF b i j)), (b 13, .inl (0, 600, .inl bf))] (fun v w' => v = none ∧ ∃ (i' : Nat → Int32) (j' : Nat → Int64) (m : Nat), w' = [(b 0, .inr (5, mF b i' j')), (b 13, .inl (0, 600, .inl bf))] ∧ g + m = runE figQ bf e g ∧ i' 16 = nI (g + m) ∧ i' 18 = 2 ∧ (∀ k, k ≠ 16 → k ≠ 18 → i' k = i k) ∧ j' 19 = nval bf g m ∧ (∀ k, k ≠ 19 → j' k = j k)) (fun _ _ => False) := by
  intro V hV
  refine xMet_of RX6 hG rfl (by decide) (Nat.le_of_ble_eq_true rfl) fun C hC hQ hX hl hg _ => ?_
  subst hl hg
  obtain ⟨V0, hV0⟩ : ∃ V0, V0 = V := ⟨_, rfl⟩
  obtain ⟨F, hF⟩ : ∃ F, F = xF [(b 0, .inr (5, mF b i j)), (b 13, .inl (0, 600, .inl bf))] := ⟨_, rfl⟩
  refine rn.mono (J := xSt F V0 [(b 0, .inr (5, mF b i j)), (b 13, .inl (0, 600, .inl bf))]) (fun V9 h => by rw [h, hV0, hF]; exact hV.st) ?_
  show rn C (xSt F V0 [(b 0, .inr (5, mF b i j)), (b 13, .inl (0, 600, .inl bf))]) 0 0 0 [(0, .ref (b 0))] []
  refine r_aload_n hC 0 dX6_readsNumber_0 rfl 1 rfl ?_
  refine r_lconst hC 0 dX6_readsNumber_1 lc_0 2 rfl ?_
  refine r_put (J := xSt F V0 [(b 0, .inr (5, mF b i (va_up j 19 0))), (b 13, .inl (0, 600, .inl bf))]) hC kX6 19 rfl q2772 rfl (fun _ h => h.get 0 rfl) (Nat.le_of_ble_eq_true rfl) rfl rfl dX6_readsNumber_2 (fun _ h => h.set 0 _ rfl) 5 rfl ?_
  refine lpX6_readsNumber hG hC b i (va_up j 19 0) bf e g (runE figQ bf e g) he h15 h17 (fun i9 j9 m hm e16 ei e20 ej => ?_) (e - g) 0 _ _ (by omega) rfl h16 (fun _ _ => rfl) rfl (fun _ _ => rfl)
  refine r_aload_n hC 0 dX6_readsNumber_77 rfl 78 rfl ?_
  refine r_iconst hC 2 dX6_readsNumber_78 ic_2 79 rfl ?_
  refine r_put (J := xSt F V0 [(b 0, .inr (5, mF b (va_up i9 18 2) j9)), (b 13, .inl (0, 600, .inl bf))]) hC kX6 18 rfl q2771 rfl (fun _ h => h.get 0 rfl) (Nat.le_of_ble_eq_true rfl) rfl rfl dX6_readsNumber_79 (fun _ h => h.set 0 _ rfl) 82 rfl ?_
  exact r_vret hC (Nat.le_of_ble_eq_true rfl) (Nat.le_of_ble_eq_true rfl) (fun V9 h => hQ _ _ ⟨[(b 0, .inr (5, mF b (va_up i9 18 2) j9)), (b 13, .inl (0, 600, .inl bf))], ⟨rfl, _, _, m, rfl, hm, e16, rfl, fun k h1 h2 => by rw [up_ne h2]; exact ei k h1, e20, fun k hk => (ej k hk).trans (up_ne hk)⟩, by rw [← hV0, ← hF]; exact h⟩) dX6_readsNumber_82
set_option maxHeartbeats 4000000 in
set_option maxRecDepth 100000 in
theorem lpX6_next {C : xC} {F : Nat → Prop} {V0 : xV} (hG : xGood (xGG C)) (hC : xCtx C RX6 cX6_next 1 none { frames := 2, locals := 41, cells := 0, slots := 0 }) (b : Nat → Nat) (i0 : Nat → Int32) (j : Nat → Int64) (bf : Nat → Int32) (e R : Nat) (he : e ≤ 600) (h15 : i0 15 = nI e) (kx : ∀ (i' : Nat → Int32) (p : Nat), p = R → i' 16 = nI p → (∀ k, k ≠ 16 → i' k = i0 k) → rn C (xSt F V0 [(b 0, .inr (5, mF b i' j)), (b 13, .inl (0, 600, .inl bf))]) 0 0 39 [(0, .ref (b 0))] []) : ∀ (f p : Nat) (i : Nat → Int32), p + f = e → runE blkQ bf e p = R → i 16 = nI p → (∀ k, k ≠ 16 → i k = i0 k) → rn C (xSt F V0 [(b 0, .inr (5, mF b i j)), (b 13, .inl (0, 600, .inl bf))]) 0 0 0 [(0, .ref (b 0))] [] := by
  intro f
  induction f with
  | zero =>
    intro p i hf hR h16 hi
    refine r_aload_n hC 0 dX6_next_0 rfl 1 rfl ?_
    refine r_aload_n hC 0 dX6_next_1 rfl 2 rfl ?_
    refine r_get (v := .int (i 16)) hC kX6 16 rfl q2769 (fun _ h => h.get 0 rfl) rfl dX6_next_2 5 rfl ?_
    refine r_eqi (y := nI p) (h16) ?_
    refine r_invVr hC kX6 (b 0) [.int (nI p)] (.int (byteQ bf e p)) mVX6_byteAt q2906 (fun _ h => h.get 0 rfl) (metX6_byteAtH _ _ hG b i j bf e p he (by omega) ((hi 15 (by decide)).trans h15)) (fun _ h => h.in.sub [0, 1] rfl rfl) ⟨rfl, rfl⟩ 0 0 rfl rfl (Nat.le_of_ble_eq_true rfl) (Nat.le_of_ble_eq_true rfl) rfl (Nat.le_of_ble_eq_true rfl) dX6_next_5 8 rfl ?_
    refine r_bipush hC 32 dX6_next_8 bp_32 10 rfl ?_
    refine r_iceq hC 26 dX6_next_10 (by decide) 13 rfl (fun h => absurd h (by rw [byteQ_out (by omega)]; decide)) (fun _ => ?_)
    refine r_aload_n hC 0 dX6_next_13 rfl 14 rfl ?_
    refine r_aload_n hC 0 dX6_next_14 rfl 15 rfl ?_
    refine r_get (v := .int (i 16)) hC kX6 16 rfl q2769 (fun _ h => h.get 0 rfl) rfl dX6_next_15 18 rfl ?_
    refine r_eqi (y := nI p) (h16) ?_
    refine r_invVr hC kX6 (b 0) [.int (nI p)] (.int (byteQ bf e p)) mVX6_byteAt q2906 (fun _ h => h.get 0 rfl) (metX6_byteAtH _ _ hG b i j bf e p he (by omega) ((hi 15 (by decide)).trans h15)) (fun _ h => h.in.sub [0, 1] rfl rfl) ⟨rfl, rfl⟩ 0 0 rfl rfl (Nat.le_of_ble_eq_true rfl) (Nat.le_of_ble_eq_true rfl) rfl (Nat.le_of_ble_eq_true rfl) dX6_next_18 21 rfl ?_
    refine r_bipush hC 10 dX6_next_21 bp_10 23 rfl ?_
    refine r_icne hC 39 dX6_next_23 (by decide) 26 rfl (fun _ => ?_) (fun h => absurd h (by rw [byteQ_out (by omega)]; decide))
    exact kx i p (by rw [← hR, runE_x (fun h => absurd h (by omega))]) h16 hi
  | succ f ih =>
    intro p i hf hR h16 hi
    refine r_aload_n hC 0 dX6_next_0 rfl 1 rfl ?_
    refine r_aload_n hC 0 dX6_next_1 rfl 2 rfl ?_
    refine r_get (v := .int (i 16)) hC kX6 16 rfl q2769 (fun _ h => h.get 0 rfl) rfl dX6_next_2 5 rfl ?_
    refine r_eqi (y := nI p) (h16) ?_
    refine r_invVr hC kX6 (b 0) [.int (nI p)] (.int (byteQ bf e p)) mVX6_byteAt q2906 (fun _ h => h.get 0 rfl) (metX6_byteAtH _ _ hG b i j bf e p he (by omega) ((hi 15 (by decide)).trans h15)) (fun _ h => h.in.sub [0, 1] rfl rfl) ⟨rfl, rfl⟩ 0 0 rfl rfl (Nat.le_of_ble_eq_true rfl) (Nat.le_of_ble_eq_true rfl) rfl (Nat.le_of_ble_eq_true rfl) dX6_next_5 8 rfl ?_
    refine r_bipush hC 32 dX6_next_8 bp_32 10 rfl ?_
    refine r_iceq hC 26 dX6_next_10 (by decide) 13 rfl (fun c1 => ?_) (fun c1 => ?_)
    · skip
      refine r_aload_n hC 0 dX6_next_26 rfl 27 rfl ?_
      refine r_dup hC dX6_next_27 rfl 28 rfl ?_
      refine r_get (v := .int (i 16)) hC kX6 16 rfl q2769 (fun _ h => h.get 0 rfl) rfl dX6_next_28 31 rfl ?_
      refine r_eqi (y := nI p) (h16) ?_
      refine r_iconst hC 1 dX6_next_31 ic_1 32 rfl ?_
      refine r_iadd hC (nI (p + 1)) dX6_next_32  (nI_add p 1) 33 rfl ?_
      refine r_put (J := xSt F V0 [(b 0, .inr (5, mF b (va_up i 16 (nI (p + 1))) j)), (b 13, .inl (0, 600, .inl bf))]) hC kX6 16 rfl q2769 rfl (fun _ h => h.get 0 rfl) (Nat.le_of_ble_eq_true rfl) rfl rfl dX6_next_33 (fun _ h => h.set 0 _ rfl) 36 rfl ?_
      refine r_goto hC 0 dX6_next_36 (by decide) ?_
      have hP : blkQ (bf p) = true := by rw [← byteQ_in (bf := bf) (by omega : p < e), blkQ, decide_eq_true c1]; rfl
      exact ih (p + 1) (va_up i 16 (nI (p + 1))) (by omega) (by rw [← hR, runE_s (by omega) hP]) rfl (fun k hk => by rw [up_ne hk]; exact hi k hk)
    · skip
      refine r_aload_n hC 0 dX6_next_13 rfl 14 rfl ?_
      refine r_aload_n hC 0 dX6_next_14 rfl 15 rfl ?_
      refine r_get (v := .int (i 16)) hC kX6 16 rfl q2769 (fun _ h => h.get 0 rfl) rfl dX6_next_15 18 rfl ?_
      refine r_eqi (y := nI p) (h16) ?_
      refine r_invVr hC kX6 (b 0) [.int (nI p)] (.int (byteQ bf e p)) mVX6_byteAt q2906 (fun _ h => h.get 0 rfl) (metX6_byteAtH _ _ hG b i j bf e p he (by omega) ((hi 15 (by decide)).trans h15)) (fun _ h => h.in.sub [0, 1] rfl rfl) ⟨rfl, rfl⟩ 0 0 rfl rfl (Nat.le_of_ble_eq_true rfl) (Nat.le_of_ble_eq_true rfl) rfl (Nat.le_of_ble_eq_true rfl) dX6_next_18 21 rfl ?_
      refine r_bipush hC 10 dX6_next_21 bp_10 23 rfl ?_
      refine r_icne hC 39 dX6_next_23 (by decide) 26 rfl (fun c2 => ?_) (fun c2 => ?_)
      · skip
        exact kx i p (by rw [← hR, runE_x (fun hp => by rw [byteQ_in hp] at c1 c2; rw [blkQ, decide_eq_false c1, decide_eq_false c2]; rfl)]) h16 hi
      · skip
        refine r_aload_n hC 0 dX6_next_26 rfl 27 rfl ?_
        refine r_dup hC dX6_next_27 rfl 28 rfl ?_
        refine r_get (v := .int (i 16)) hC kX6 16 rfl q2769 (fun _ h => h.get 0 rfl) rfl dX6_next_28 31 rfl ?_
        refine r_eqi (y := nI p) (h16) ?_
        refine r_iconst hC 1 dX6_next_31 ic_1 32 rfl ?_
        refine r_iadd hC (nI (p + 1)) dX6_next_32  (nI_add p 1) 33 rfl ?_
        refine r_put (J := xSt F V0 [(b 0, .inr (5, mF b (va_up i 16 (nI (p + 1))) j)), (b 13, .inl (0, 600, .inl bf))]) hC kX6 16 rfl q2769 rfl (fun _ h => h.get 0 rfl) (Nat.le_of_ble_eq_true rfl) rfl rfl dX6_next_33 (fun _ h => h.set 0 _ rfl) 36 rfl ?_
        refine r_goto hC 0 dX6_next_36 (by decide) ?_
        have hP : blkQ (bf p) = true := by rw [← byteQ_in (bf := bf) (by omega : p < e), blkQ, decide_eq_true c2, Bool.or_true]
        exact ih (p + 1) (va_up i 16 (nI (p + 1))) (by omega) (by rw [← hR, runE_s (by omega) hP]) rfl (fun k hk => by rw [up_ne hk]; exact hi k hk)
set_option maxHeartbeats 4000000 in
set_option maxRecDepth 100000 in
theorem metX6_next (l : Launch) (G : xG) (hG : xGood G) (b : Nat → Nat) (i : Nat → Int32) (j : Nat → Int64) (bf : Nat → Int32) (e a : Nat) (he : e ≤ 600) (ha : a ≤ e) (h15 : i 15 = nI e) (h16 : i 16 = nI a) : xWm l G yX6_next (Cond.code yX6_next cX6_next 1 none) { frames := 2, locals := 41, cells := 0, slots := 0 } [.ref (b 0)] [(b 0, .inr (5, mF b i j)), (b 13, .inl (0, 600, .inl bf))] (fun v w' => v = none ∧ ∃ (i' : Nat → Int32) (j' : Nat → Int64), w' = [(b 0, .inr (5, mF b i' j')), (b 13, .inl (0, 600, .inl bf))] ∧ tokS bf e (tBeg bf e a) i' j' ∧ fI i i' ∧ fJ j j') (fun _ _ => False) := by
  intro V hV
  refine xMet_of RX6 hG rfl (by decide) (Nat.le_of_ble_eq_true rfl) fun C hC hQ hX hl hg _ => ?_
  subst hl hg
  obtain ⟨V0, hV0⟩ : ∃ V0, V0 = V := ⟨_, rfl⟩
  obtain ⟨F, hF⟩ : ∃ F, F = xF [(b 0, .inr (5, mF b i j)), (b 13, .inl (0, 600, .inl bf))] := ⟨_, rfl⟩
  refine rn.mono (J := xSt F V0 [(b 0, .inr (5, mF b i j)), (b 13, .inl (0, 600, .inl bf))]) (fun V9 h => by rw [h, hV0, hF]; exact hV.st) ?_
  show rn C (xSt F V0 [(b 0, .inr (5, mF b i j)), (b 13, .inl (0, 600, .inl bf))]) 0 0 0 [(0, .ref (b 0))] []
  refine lpX6_next hG hC b i j bf e (tBeg bf e a) he h15 (fun i9 q hqR e16 ei0 => ?_) (e - a) a _ (by omega) rfl h16 (fun _ _ => rfl)
  have hqe : q ≤ e := by rw [hqR]; exact tBeg_le ha
  have e15 : i9 15 = nI e := (ei0 15 (by decide)).trans h15
  have h15b : (va_up i9 17 (nI q)) 15 = nI e := e15
  have h16b : (va_up i9 17 (nI q)) 16 = nI q := e16
  refine r_aload_n hC 0 dX6_next_39 rfl 40 rfl ?_
  refine r_aload_n hC 0 dX6_next_40 rfl 41 rfl ?_
  refine r_get (v := .int (i9 16)) hC kX6 16 rfl q2769 (fun _ h => h.get 0 rfl) rfl dX6_next_41 44 rfl ?_
  refine r_eqi (y := nI q) (e16) ?_
  refine r_put (J := xSt F V0 [(b 0, .inr (5, mF b (va_up i9 17 (nI q)) j)), (b 13, .inl (0, 600, .inl bf))]) hC kX6 17 rfl q2770 rfl (fun _ h => h.get 0 rfl) (Nat.le_of_ble_eq_true rfl) rfl rfl dX6_next_44 (fun _ h => h.set 0 _ rfl) 47 rfl ?_
  refine r_aload_n hC 0 dX6_next_47 rfl 48 rfl ?_
  refine r_get (v := .int (i9 16)) hC kX6 16 rfl q2769 (fun _ h => h.get 0 rfl) rfl dX6_next_48 51 rfl ?_
  refine r_eqi (y := nI q) (e16) ?_
  refine r_aload_n hC 0 dX6_next_51 rfl 52 rfl ?_
  refine r_get (v := .int (i9 15)) hC kX6 15 rfl q2768 (fun _ h => h.get 0 rfl) rfl dX6_next_52 55 rfl ?_
  refine r_eqi (y := nI e) (e15) ?_
  by_cases hq : q < e
  · skip
    refine r_iclt hC 66 dX6_next_55 (by decide) 58 rfl (fun _ => ?_) (fun h => absurd (nI_lt (by omega) (by omega)) h)
    refine r_aload_n hC 0 dX6_next_66 rfl 67 rfl ?_
    refine r_get (v := .ref (b 13)) hC kX6 13 rfl q2766 (fun _ h => h.get 0 rfl) rfl dX6_next_67 70 rfl ?_
    refine r_aload_n hC 0 dX6_next_70 rfl 71 rfl ?_
    refine r_get (v := .int (i9 16)) hC kX6 16 rfl q2769 (fun _ h => h.get 0 rfl) rfl dX6_next_71 74 rfl ?_
    refine r_eqi (y := nI q) (e16) ?_
    refine r_iald hC q (xix_n q (by omega) (Nat.le_of_ble_eq_true rfl)) (fun _ h => h.get 1 rfl) (bf q) (rfl) dX6_next_74 75 rfl ?_
    refine r_invSr hC [.int (bf q)] (.int (bI (letQ (bf q)))) mSX6_isLetter q2910 (metX6_isLetter _ _ hG (bf q) _ rfl) (fun _ _ => xIn.nil) ⟨rfl, rfl⟩ 0 0 rfl rfl (Nat.le_of_ble_eq_true rfl) (Nat.le_of_ble_eq_true rfl) rfl (Nat.le_of_ble_eq_true rfl) dX6_next_75 78 rfl ?_
    refine r_ifeq hC 88 dX6_next_78 (by decide) 81 rfl (fun c1 => ?_) (fun c1 => ?_)
    · skip
      refine r_aload_n hC 0 dX6_next_88 rfl 89 rfl ?_
      refine r_get (v := .ref (b 13)) hC kX6 13 rfl q2766 (fun _ h => h.get 0 rfl) rfl dX6_next_89 92 rfl ?_
      refine r_aload_n hC 0 dX6_next_92 rfl 93 rfl ?_
      refine r_get (v := .int (i9 16)) hC kX6 16 rfl q2769 (fun _ h => h.get 0 rfl) rfl dX6_next_93 96 rfl ?_
      refine r_eqi (y := nI q) (e16) ?_
      refine r_iald hC q (xix_n q (by omega) (Nat.le_of_ble_eq_true rfl)) (fun _ h => h.get 1 rfl) (bf q) (rfl) dX6_next_96 97 rfl ?_
      refine r_invSr hC [.int (bf q)] (.int (bI (figQ (bf q)))) mSX6_isFigure q2919 (metX6_isFigure _ _ hG (bf q) _ rfl) (fun _ _ => xIn.nil) ⟨rfl, rfl⟩ 0 0 rfl rfl (Nat.le_of_ble_eq_true rfl) (Nat.le_of_ble_eq_true rfl) rfl (Nat.le_of_ble_eq_true rfl) dX6_next_97 100 rfl ?_
      refine r_ifeq hC 110 dX6_next_100 (by decide) 103 rfl (fun c2 => ?_) (fun c2 => ?_)
      · skip
        refine r_aload_n hC 0 dX6_next_110 rfl 111 rfl ?_
        refine r_iconst hC 3 dX6_next_111 ic_3 112 rfl ?_
        refine r_put (J := xSt F V0 [(b 0, .inr (5, mF b (va_up (va_up i9 17 (nI q)) 18 3) j)), (b 13, .inl (0, 600, .inl bf))]) hC kX6 18 rfl q2771 rfl (fun _ h => h.get 0 rfl) (Nat.le_of_ble_eq_true rfl) rfl rfl dX6_next_112 (fun _ h => h.set 0 _ rfl) 115 rfl ?_
        refine r_aload_n hC 0 dX6_next_115 rfl 116 rfl ?_
        refine r_dup hC dX6_next_116 rfl 117 rfl ?_
        refine r_get (v := .int (i9 16)) hC kX6 16 rfl q2769 (fun _ h => h.get 0 rfl) rfl dX6_next_117 120 rfl ?_
        refine r_eqi (y := nI q) (e16) ?_
        refine r_iconst hC 1 dX6_next_120 ic_1 121 rfl ?_
        refine r_iadd hC (nI (q + 1)) dX6_next_121  (nI_add q 1) 122 rfl ?_
        refine r_put (J := xSt F V0 [(b 0, .inr (5, mF b (va_up (va_up (va_up i9 17 (nI q)) 18 3) 16 (nI (q + 1))) j)), (b 13, .inl (0, 600, .inl bf))]) hC kX6 16 rfl q2769 rfl (fun _ h => h.get 0 rfl) (Nat.le_of_ble_eq_true rfl) rfl rfl dX6_next_122 (fun _ h => h.set 0 _ rfl) 125 rfl ?_
        exact r_vret hC (Nat.le_of_ble_eq_true rfl) (Nat.le_of_ble_eq_true rfl) (fun V9 h => hQ _ _ ⟨[(b 0, .inr (5, mF b (va_up (va_up (va_up i9 17 (nI q)) 18 3) 16 (nI (q + 1))) j)), (b 13, .inl (0, 600, .inl bf))], ⟨rfl, _, _, rfl, (by rw [← hqR]; exact tok_s hq (bI_0.mp c1) (bI_0.mp c2) e15 rfl rfl rfl), fun k h1 h2 h3 => by rw [up_ne h1, up_ne h3, up_ne h2]; exact ei0 k h1, fun _ _ _ => rfl⟩, by rw [← hV0, ← hF]; exact h⟩) dX6_next_125
      · skip
        refine r_aload_n hC 0 dX6_next_103 rfl 104 rfl ?_
        refine r_invVw hC kX6 (b 0) [] [] mVX6_readsNumber q2922 0 rfl (metX6_readsNumber _ _ hG b (va_up i9 17 (nI q)) j bf e q he hq h15b h16b rfl) [0, 1] [] rfl rfl rfl rfl (by decide) ⟨rfl, rfl⟩ 0 0 rfl rfl (Nat.le_of_ble_eq_true rfl) (Nat.le_of_ble_eq_true rfl) rfl (Nat.le_of_ble_eq_true rfl) dX6_next_104 107 rfl (fun v3 w4 h5 => ?_) (fun _ _ h => h.elim)
        obtain ⟨rfl, i8, j8, m8, rfl, hm8, e16, e18, ei, ev, ej⟩ := h5
        show rn C (xSt F V0 [(b 0, .inr (5, mF b i8 j8)), (b 13, .inl (0, 600, .inl bf))]) 0 0 107 [(0, .ref (b 0))] []
        refine r_goto hC 125 dX6_next_107 (by decide) ?_
        exact r_vret hC (Nat.le_of_ble_eq_true rfl) (Nat.le_of_ble_eq_true rfl) (fun V9 h => hQ _ _ ⟨[(b 0, .inr (5, mF b i8 j8)), (b 13, .inl (0, 600, .inl bf))], ⟨rfl, _, _, rfl, (by rw [← hqR]; exact tok_n hq (bI_0.mp c1) (bI_n0.mp c2) hm8 ((ei 15 (by decide) (by decide)).trans e15) e16 (ei 17 (by decide) (by decide)) e18 ev), fun k h1 h2 h3 => by rw [ei k h1 h3, up_ne h2]; exact ei0 k h1, fun k h1 h2 => ej k h1⟩, by rw [← hV0, ← hF]; exact h⟩) dX6_next_125
    · skip
      refine r_aload_n hC 0 dX6_next_81 rfl 82 rfl ?_
      refine r_invVw hC kX6 (b 0) [] [] mVX6_readsWord q2913 0 rfl (metX6_readsWord _ _ hG b (va_up i9 17 (nI q)) j bf e q he hq h15b h16b rfl) [0, 1] [] rfl rfl rfl rfl (by decide) ⟨rfl, rfl⟩ 0 0 rfl rfl (Nat.le_of_ble_eq_true rfl) (Nat.le_of_ble_eq_true rfl) rfl (Nat.le_of_ble_eq_true rfl) dX6_next_82 85 rfl (fun v6 w7 h8 => ?_) (fun _ _ h => h.elim)
      obtain ⟨rfl, i8, j8, m8, rfl, hm8, e16, e18, ei, ev, ej⟩ := h8
      show rn C (xSt F V0 [(b 0, .inr (5, mF b i8 j8)), (b 13, .inl (0, 600, .inl bf))]) 0 0 85 [(0, .ref (b 0))] []
      refine r_goto hC 125 dX6_next_85 (by decide) ?_
      exact r_vret hC (Nat.le_of_ble_eq_true rfl) (Nat.le_of_ble_eq_true rfl) (fun V9 h => hQ _ _ ⟨[(b 0, .inr (5, mF b i8 j8)), (b 13, .inl (0, 600, .inl bf))], ⟨rfl, _, _, rfl, (by rw [← hqR]; exact tok_w hq (bI_n0.mp c1) hm8 ((ei 15 (by decide) (by decide)).trans e15) e16 (ei 17 (by decide) (by decide)) e18 ev), fun k h1 h2 h3 => by rw [ei k h1 h3, up_ne h2]; exact ei0 k h1, fun k h1 h2 => ej k h2⟩, by rw [← hV0, ← hF]; exact h⟩) dX6_next_125
  · skip
    refine r_iclt hC 66 dX6_next_55 (by decide) 58 rfl (fun h => absurd h (nI_nlt (by omega) (by omega))) (fun _ => ?_)
    refine r_aload_n hC 0 dX6_next_58 rfl 59 rfl ?_
    refine r_iconst hC 0 dX6_next_59 ic_0 60 rfl ?_
    refine r_put (J := xSt F V0 [(b 0, .inr (5, mF b (va_up (va_up i9 17 (nI q)) 18 0) j)), (b 13, .inl (0, 600, .inl bf))]) hC kX6 18 rfl q2771 rfl (fun _ h => h.get 0 rfl) (Nat.le_of_ble_eq_true rfl) rfl rfl dX6_next_60 (fun _ h => h.set 0 _ rfl) 63 rfl ?_
    refine r_goto hC 125 dX6_next_63 (by decide) ?_
    exact r_vret hC (Nat.le_of_ble_eq_true rfl) (Nat.le_of_ble_eq_true rfl) (fun V9 h => hQ _ _ ⟨[(b 0, .inr (5, mF b (va_up (va_up i9 17 (nI q)) 18 0) j)), (b 13, .inl (0, 600, .inl bf))], ⟨rfl, _, _, rfl, (by rw [← hqR]; exact tok_0 hqe hq e15 e16 rfl rfl), fun k h1 h2 h3 => by rw [up_ne h3, up_ne h2]; exact ei0 k h1, fun _ _ _ => rfl⟩, by rw [← hV0, ← hF]; exact h⟩) dX6_next_125
