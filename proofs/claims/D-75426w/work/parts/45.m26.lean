/-! ===== the reference: reading ===== -/
set_option maxRecDepth 100000
abbrev PS := Except (Int32 × Nat) Nat
def okP : PS → Bool
  | .ok _ => true
  | .error _ => false
def isW (bf : Nat → Int32) (e : Nat) (w : Int64) : PS → Bool
  | .ok g => decide (tKind bf e g = 1) && (decide (tEnd bf e g - g ≤ 8) && decide (tWord bf e g = w))
  | .error _ => false
def isB (bf : Nat → Int32) (e : Nat) (c : Int32) : PS → Bool
  | .ok g => decide (tKind bf e g = 3) && decide (bf g = c)
  | .error _ => false
def isK (bf : Nat → Int32) (e : Nat) (c : Int32) : PS → Bool
  | .ok g => decide (tKind bf e g = c)
  | .error _ => false
def nxP (bf : Nat → Int32) (e : Nat) : PS → PS
  | .ok g => .ok (tBeg bf e (tEnd bf e g))
  | .error x => .error x
def wrP (c : Int32) : PS → PS
  | .ok g => .error (c, g)
  | .error x => .error x
def mustP (bf : Nat → Int32) (e : Nat) (c : Int32) (ps : PS) : PS := if isB bf e c ps = true then nxP bf e ps else wrP 1 ps
def passP (bf : Nat → Int32) (e : Nat) (w : Int64) (ps : PS) : PS := if isW bf e w ps = true then nxP bf e ps else ps
def numG (bf : Nat → Int32) (e : Nat) (lo hi : Int64) (g : Nat) : Bool := decide (tKind bf e g = 2) && m_in (tVal bf e g) lo hi
def numP (bf : Nat → Int32) (e : Nat) (lo hi : Int64) : PS → PS
  | .ok g => if tKind bf e g = 2 then (if m_in (tVal bf e g) lo hi = true then nxP bf e (.ok g) else .error (2, g)) else .error (1, g)
  | .error x => .error x
def numV (bf : Nat → Int32) (e : Nat) (lo hi : Int64) : PS → Int64
  | .ok g => if numG bf e lo hi g = true then tVal bf e g else lo
  | .error _ => lo
def sgn0 (bf : Nat → Int32) (e : Nat) (ps : PS) : PS := if isB bf e 45 ps = true then nxP bf e ps else ps
def sgnP (bf : Nat → Int32) (e : Nat) (hi : Int64) (ps : PS) : PS := numP bf e 0 hi (sgn0 bf e ps)
def sgnV (bf : Nat → Int32) (e : Nat) (hi : Int64) (ps : PS) : Int64 := if isB bf e 45 ps = true then -numV bf e 0 hi (sgn0 bf e ps) else numV bf e 0 hi (sgn0 bf e ps)
theorem isW_ok {bf : Nat → Int32} {e : Nat} {w : Int64} {ps : PS} (h : isW bf e w ps = true) : okP ps = true := by
  cases ps with
  | ok g => rfl
  | error x => exact absurd h (by simp [isW])
theorem isB_ok {bf : Nat → Int32} {e : Nat} {c : Int32} {ps : PS} (h : isB bf e c ps = true) : okP ps = true := by
  cases ps with
  | ok g => rfl
  | error x => exact absurd h (by simp [isB])
def rdP (bf : Nat → Int32) (e : Nat) (i : Nat → Int32) (j : Nat → Int64) : PS → Prop
  | .ok g => tokS bf e g i j ∧ i 21 = 0 ∧ i 22 = -1
  | .error x => i 15 = nI e ∧ ¬ x.1 = 0 ∧ i 21 = x.1 ∧ i 22 = nI x.2
def gI (i i' : Nat → Int32) : Prop := ∀ k, k ≠ 16 → k ≠ 17 → k ≠ 18 → k ≠ 21 → k ≠ 22 → i' k = i k
theorem gI_refl (i : Nat → Int32) : gI i i := fun _ _ _ _ _ _ => rfl
theorem gI.trans {i i1 i2 : Nat → Int32} (h : gI i i1) (h2 : gI i1 i2) : gI i i2 := fun k a b c d f => (h2 k a b c d f).trans (h k a b c d f)
theorem fJ_refl (j : Nat → Int64) : fJ j j := fun _ _ _ => rfl
theorem fJ.trans {j j1 j2 : Nat → Int64} (h : fJ j j1) (h2 : fJ j1 j2) : fJ j j2 := fun k a b => (h2 k a b).trans (h k a b)
theorem rd_good {bf : Nat → Int32} {e : Nat} {i : Nat → Int32} {j : Nat → Int64} {ps : PS} (h : rdP bf e i j ps) : goodQ i = okP ps := by
  cases ps with
  | ok g => exact decide_eq_true h.2.1
  | error x => exact decide_eq_false (by rw [h.2.2.1]; exact h.2.1)
theorem rd_ok {bf : Nat → Int32} {e : Nat} {i : Nat → Int32} {j : Nat → Int64} {ps : PS} (h : rdP bf e i j ps) (ho : okP ps = true) : ∃ g, ps = .ok g ∧ tokS bf e g i j ∧ i 21 = 0 ∧ i 22 = -1 := by
  cases ps with
  | ok g => exact ⟨g, rfl, h⟩
  | error x => exact absurd ho (by simp [okP])
theorem rd_wr {bf : Nat → Int32} {e : Nat} {i : Nat → Int32} {j : Nat → Int64} {ps : PS} {c : Int32} (hc : ¬ c = 0) (h : rdP bf e i j ps) : rdP bf e (wrongsQ i c) j (wrP c ps) := by
  cases ps with
  | ok g =>
    rw [wrongsQ, if_pos h.2.1]
    exact ⟨h.1.2.1, hc, rfl, h.1.2.2.2.1⟩
  | error x =>
    rw [wrongsQ, if_neg (by rw [h.2.2.1]; exact h.2.1)]
    exact h
theorem gI_wr {i : Nat → Int32} {c : Int32} : gI i (wrongsQ i c) := by
  intro k _ _ _ h1 h2
  unfold wrongsQ
  split
  · rw [up_ne h2, up_ne h1]
  · rfl
set_option maxHeartbeats 4000000 in
set_option maxRecDepth 100000 in
theorem metX6_isWordG (l : Launch) (G : xG) (hG : xGood G) (b : Nat → Nat) (i : Nat → Int32) (j : Nat → Int64) (bf : Nat → Int32) (e : Nat) (he : e ≤ 600) (g : Nat) (x : Int64) (ht : tokS bf e g i j) (h21 : i 21 = 0) : xRm l G yX6_isWord (Cond.code yX6_isWord cX6_isWord 3 (some .boolean)) { frames := 1, locals := 20, cells := 0, slots := 0 } [.ref (b 0), .long x] [(b 0, .inr (5, mF b i j)), (b 13, .inl (0, 600, .inl bf))] (some (.int (bI (isW bf e x (.ok g))))) := by
  intro V hV
  refine xMet_of RX6 hG rfl (by decide) (Nat.le_of_ble_eq_true rfl) fun C hC hQ hX hl hg _ => ?_
  subst hl hg
  have hle : tEnd bf e g ≤ e := tEnd_le ht.1
  have hge : g ≤ tEnd bf e g := tEnd_ge
  refine rn.mono (J := xRo [(b 0, .inr (5, mF b i j)), (b 13, .inl (0, 600, .inl bf))] V) (fun V9 h => ⟨h, hV⟩) ?_
  show rn C (xRo [(b 0, .inr (5, mF b i j)), (b 13, .inl (0, 600, .inl bf))] V) 0 0 0 [(0, .ref (b 0)), (1, .long x)] []
  refine r_aload_n hC 0 dX6_isWord_0 rfl 1 rfl ?_
  refine r_invVr hC kX6 (b 0) [] (.int 1) mVX6_isGood q2945 (fun _ h => h.get 0 rfl) (metX6_isGood _ _ hG b i _ 1 (by rw [goodQ, decide_eq_true h21]; rfl)) (fun _ h => h.in.sub [0] rfl rfl) ⟨rfl, rfl⟩ 0 0 rfl rfl (Nat.le_of_ble_eq_true rfl) (Nat.le_of_ble_eq_true rfl) rfl (Nat.le_of_ble_eq_true rfl) dX6_isWord_1 4 rfl ?_
  refine r_ifeq hC 42 dX6_isWord_4 (by decide) 7 rfl (fun h => absurd h (by decide)) (fun _ => ?_)
  refine r_aload_n hC 0 dX6_isWord_7 rfl 8 rfl ?_
  refine r_get (v := .int (i 18)) hC kX6 18 rfl q2771 (fun _ h => h.get 0 rfl) rfl dX6_isWord_8 11 rfl ?_
  refine r_eqi (y := tKind bf e g) (ht.2.2.2.2.1) ?_
  refine r_iconst hC 1 dX6_isWord_11 ic_1 12 rfl ?_
  refine r_icne hC 42 dX6_isWord_12 (by decide) 15 rfl (fun c1 => ?_) (fun c1 => ?_)
  · skip
    refine r_iconst hC 0 dX6_isWord_42 ic_0 43 rfl ?_
    exact r_zret hC (by decide) (Nat.le_of_ble_eq_true rfl) (Nat.le_of_ble_eq_true rfl) (fun V9 h => hQ _ _ ⟨by simp [isW, bI, c1], h.1⟩) dX6_isWord_43
  · skip
    refine r_aload_n hC 0 dX6_isWord_15 rfl 16 rfl ?_
    refine r_get (v := .int (i 16)) hC kX6 16 rfl q2769 (fun _ h => h.get 0 rfl) rfl dX6_isWord_16 19 rfl ?_
    refine r_eqi (y := nI (tEnd bf e g)) (ht.2.2.1) ?_
    refine r_aload_n hC 0 dX6_isWord_19 rfl 20 rfl ?_
    refine r_get (v := .int (i 17)) hC kX6 17 rfl q2770 (fun _ h => h.get 0 rfl) rfl dX6_isWord_20 23 rfl ?_
    refine r_eqi (y := nI g) (ht.2.2.2.1) ?_
    refine r_isub hC (nI ((tEnd bf e g) - g)) dX6_isWord_23  (pk_sub (a := tEnd bf e g) (b := g) (by omega)) 24 rfl ?_
    refine r_bipush hC 8 dX6_isWord_24 bp_8 26 rfl ?_
    by_cases hb : tEnd bf e g - g ≤ 8
    · skip
      refine r_icgt hC 42 dX6_isWord_26 (by decide) 29 rfl (fun h => absurd h (nI_nlt (a := 8) (b := tEnd bf e g - g) (by omega) (by decide))) (fun _ => ?_)
      refine r_aload_n hC 0 dX6_isWord_29 rfl 30 rfl ?_
      refine r_get (v := .long (j 20)) hC kX6 20 rfl q2773 (fun _ h => h.get 0 rfl) rfl dX6_isWord_30 33 rfl ?_
      refine r_eql (y := tWord bf e g) (ht.2.2.2.2.2.2 c1) ?_
      refine r_lload_n hC 1 dX6_isWord_33 rfl 34 rfl ?_
      refine r_lcne hC 42 dX6_isWord_34 dX6_isWord_35 (by decide) 38 rfl (fun c2 => ?_) (fun c2 => ?_)
      · skip
        refine r_iconst hC 0 dX6_isWord_42 ic_0 43 rfl ?_
        exact r_zret hC (by decide) (Nat.le_of_ble_eq_true rfl) (Nat.le_of_ble_eq_true rfl) (fun V9 h => hQ _ _ ⟨by simp [isW, bI, c1, c2, hb], h.1⟩) dX6_isWord_43
      · skip
        refine r_iconst hC 1 dX6_isWord_38 ic_1 39 rfl ?_
        refine r_goto hC 43 dX6_isWord_39 (by decide) ?_
        exact r_zret hC (by decide) (Nat.le_of_ble_eq_true rfl) (Nat.le_of_ble_eq_true rfl) (fun V9 h => hQ _ _ ⟨by simp [isW, bI, c1, c2, hb], h.1⟩) dX6_isWord_43
    · skip
      refine r_icgt hC 42 dX6_isWord_26 (by decide) 29 rfl (fun _ => ?_) (fun h => absurd (nI_lt (a := 8) (b := tEnd bf e g - g) (by omega) (by omega)) h)
      refine r_iconst hC 0 dX6_isWord_42 ic_0 43 rfl ?_
      exact r_zret hC (by decide) (Nat.le_of_ble_eq_true rfl) (Nat.le_of_ble_eq_true rfl) (fun V9 h => hQ _ _ ⟨by simp [isW, bI, c1, hb], h.1⟩) dX6_isWord_43
set_option maxHeartbeats 4000000 in
set_option maxRecDepth 100000 in
theorem metX6_isWordB (l : Launch) (G : xG) (hG : xGood G) (b : Nat → Nat) (i : Nat → Int32) (j : Nat → Int64) (bf : Nat → Int32) (e : Nat) (he : e ≤ 600) (x : Int32 × Nat) (w : Int64) (hr : rdP bf e i j (.error x)) : xRm l G yX6_isWord (Cond.code yX6_isWord cX6_isWord 3 (some .boolean)) { frames := 1, locals := 20, cells := 0, slots := 0 } [.ref (b 0), .long w] [(b 0, .inr (5, mF b i j)), (b 13, .inl (0, 600, .inl bf))] (some (.int (bI (isW bf e w (.error x))))) := by
  intro V hV
  refine xMet_of RX6 hG rfl (by decide) (Nat.le_of_ble_eq_true rfl) fun C hC hQ hX hl hg _ => ?_
  subst hl hg
  refine rn.mono (J := xRo [(b 0, .inr (5, mF b i j)), (b 13, .inl (0, 600, .inl bf))] V) (fun V9 h => ⟨h, hV⟩) ?_
  show rn C (xRo [(b 0, .inr (5, mF b i j)), (b 13, .inl (0, 600, .inl bf))] V) 0 0 0 [(0, .ref (b 0)), (1, .long w)] []
  refine r_aload_n hC 0 dX6_isWord_0 rfl 1 rfl ?_
  refine r_invVr hC kX6 (b 0) [] (.int 0) mVX6_isGood q2945 (fun _ h => h.get 0 rfl) (metX6_isGood _ _ hG b i _ 0 (by rw [rd_good hr, show okP (.error x) = false from rfl]; rfl)) (fun _ h => h.in.sub [0] rfl rfl) ⟨rfl, rfl⟩ 0 0 rfl rfl (Nat.le_of_ble_eq_true rfl) (Nat.le_of_ble_eq_true rfl) rfl (Nat.le_of_ble_eq_true rfl) dX6_isWord_1 4 rfl ?_
  refine r_ifeq hC 42 dX6_isWord_4 (by decide) 7 rfl (fun _ => ?_) (fun h => absurd h (by decide))
  refine r_iconst hC 0 dX6_isWord_42 ic_0 43 rfl ?_
  exact r_zret hC (by decide) (Nat.le_of_ble_eq_true rfl) (Nat.le_of_ble_eq_true rfl) (fun V9 h => hQ _ _ ⟨rfl, h.1⟩) dX6_isWord_43
theorem metX6_isWord (l : Launch) (G : xG) (hG : xGood G) (b : Nat → Nat) (i : Nat → Int32) (j : Nat → Int64) (bf : Nat → Int32) (e : Nat) (he : e ≤ 600) (ps : PS) (hr : rdP bf e i j ps) (w : Int64) : xRm l G yX6_isWord (Cond.code yX6_isWord cX6_isWord 3 (some .boolean)) { frames := 1, locals := 20, cells := 0, slots := 0 } [.ref (b 0), .long w] [(b 0, .inr (5, mF b i j)), (b 13, .inl (0, 600, .inl bf))] (some (.int (bI (isW bf e w ps)))) := by
  cases ps with
  | ok g => exact metX6_isWordG l G hG b i j bf e he g w hr.1 hr.2.1
  | error x => exact metX6_isWordB l G hG b i j bf e he x w hr
theorem tK_lt {bf : Nat → Int32} {e g : Nat} (h : tKind bf e g = 3) : g < e := by
  refine Classical.byContradiction fun hn => ?_
  rw [tKind, if_neg hn] at h
  exact absurd h (by decide)
set_option maxHeartbeats 4000000 in
set_option maxRecDepth 100000 in
theorem metX6_isByteG (l : Launch) (G : xG) (hG : xGood G) (b : Nat → Nat) (i : Nat → Int32) (j : Nat → Int64) (bf : Nat → Int32) (e : Nat) (he : e ≤ 600) (g : Nat) (x : Int32) (ht : tokS bf e g i j) (h21 : i 21 = 0) : xRm l G yX6_isByte (Cond.code yX6_isByte cX6_isByte 2 (some .boolean)) { frames := 1, locals := 20, cells := 0, slots := 0 } [.ref (b 0), .int x] [(b 0, .inr (5, mF b i j)), (b 13, .inl (0, 600, .inl bf))] (some (.int (bI (isB bf e x (.ok g))))) := by
  intro V hV
  refine xMet_of RX6 hG rfl (by decide) (Nat.le_of_ble_eq_true rfl) fun C hC hQ hX hl hg _ => ?_
  subst hl hg
  have hle : g ≤ e := ht.1
  refine rn.mono (J := xRo [(b 0, .inr (5, mF b i j)), (b 13, .inl (0, 600, .inl bf))] V) (fun V9 h => ⟨h, hV⟩) ?_
  show rn C (xRo [(b 0, .inr (5, mF b i j)), (b 13, .inl (0, 600, .inl bf))] V) 0 0 0 [(0, .ref (b 0)), (1, .int x)] []
  refine r_aload_n hC 0 dX6_isByte_0 rfl 1 rfl ?_
  refine r_invVr hC kX6 (b 0) [] (.int 1) mVX6_isGood q2945 (fun _ h => h.get 0 rfl) (metX6_isGood _ _ hG b i _ 1 (by rw [goodQ, decide_eq_true h21]; rfl)) (fun _ h => h.in.sub [0] rfl rfl) ⟨rfl, rfl⟩ 0 0 rfl rfl (Nat.le_of_ble_eq_true rfl) (Nat.le_of_ble_eq_true rfl) rfl (Nat.le_of_ble_eq_true rfl) dX6_isByte_1 4 rfl ?_
  refine r_ifeq hC 32 dX6_isByte_4 (by decide) 7 rfl (fun h => absurd h (by decide)) (fun _ => ?_)
  refine r_aload_n hC 0 dX6_isByte_7 rfl 8 rfl ?_
  refine r_get (v := .int (i 18)) hC kX6 18 rfl q2771 (fun _ h => h.get 0 rfl) rfl dX6_isByte_8 11 rfl ?_
  refine r_eqi (y := tKind bf e g) (ht.2.2.2.2.1) ?_
  refine r_iconst hC 3 dX6_isByte_11 ic_3 12 rfl ?_
  refine r_icne hC 32 dX6_isByte_12 (by decide) 15 rfl (fun c1 => ?_) (fun c1 => ?_)
  · skip
    refine r_iconst hC 0 dX6_isByte_32 ic_0 33 rfl ?_
    exact r_zret hC (by decide) (Nat.le_of_ble_eq_true rfl) (Nat.le_of_ble_eq_true rfl) (fun V9 h => hQ _ _ ⟨by simp [isB, bI, c1], h.1⟩) dX6_isByte_33
  · skip
    refine r_aload_n hC 0 dX6_isByte_15 rfl 16 rfl ?_
    refine r_get (v := .ref (b 13)) hC kX6 13 rfl q2766 (fun _ h => h.get 0 rfl) rfl dX6_isByte_16 19 rfl ?_
    refine r_aload_n hC 0 dX6_isByte_19 rfl 20 rfl ?_
    refine r_get (v := .int (i 17)) hC kX6 17 rfl q2770 (fun _ h => h.get 0 rfl) rfl dX6_isByte_20 23 rfl ?_
    refine r_eqi (y := nI g) (ht.2.2.2.1) ?_
    refine r_iald hC g (xix_n g (by have := tK_lt c1; omega) (Nat.le_of_ble_eq_true rfl)) (fun _ h => h.get 1 rfl) (bf g) (rfl) dX6_isByte_23 24 rfl ?_
    refine r_iload_n hC 1 dX6_isByte_24 rfl 25 rfl ?_
    refine r_icne hC 32 dX6_isByte_25 (by decide) 28 rfl (fun c2 => ?_) (fun c2 => ?_)
    · skip
      refine r_iconst hC 0 dX6_isByte_32 ic_0 33 rfl ?_
      exact r_zret hC (by decide) (Nat.le_of_ble_eq_true rfl) (Nat.le_of_ble_eq_true rfl) (fun V9 h => hQ _ _ ⟨by simp [isB, bI, c1, c2], h.1⟩) dX6_isByte_33
    · skip
      refine r_iconst hC 1 dX6_isByte_28 ic_1 29 rfl ?_
      refine r_goto hC 33 dX6_isByte_29 (by decide) ?_
      exact r_zret hC (by decide) (Nat.le_of_ble_eq_true rfl) (Nat.le_of_ble_eq_true rfl) (fun V9 h => hQ _ _ ⟨by simp [isB, bI, c1, c2], h.1⟩) dX6_isByte_33
set_option maxHeartbeats 4000000 in
set_option maxRecDepth 100000 in
theorem metX6_isByteB (l : Launch) (G : xG) (hG : xGood G) (b : Nat → Nat) (i : Nat → Int32) (j : Nat → Int64) (bf : Nat → Int32) (e : Nat) (he : e ≤ 600) (x : Int32 × Nat) (w : Int32) (hr : rdP bf e i j (.error x)) : xRm l G yX6_isByte (Cond.code yX6_isByte cX6_isByte 2 (some .boolean)) { frames := 1, locals := 20, cells := 0, slots := 0 } [.ref (b 0), .int w] [(b 0, .inr (5, mF b i j)), (b 13, .inl (0, 600, .inl bf))] (some (.int (bI (isB bf e w (.error x))))) := by
  intro V hV
  refine xMet_of RX6 hG rfl (by decide) (Nat.le_of_ble_eq_true rfl) fun C hC hQ hX hl hg _ => ?_
  subst hl hg
  refine rn.mono (J := xRo [(b 0, .inr (5, mF b i j)), (b 13, .inl (0, 600, .inl bf))] V) (fun V9 h => ⟨h, hV⟩) ?_
  show rn C (xRo [(b 0, .inr (5, mF b i j)), (b 13, .inl (0, 600, .inl bf))] V) 0 0 0 [(0, .ref (b 0)), (1, .int w)] []
  refine r_aload_n hC 0 dX6_isByte_0 rfl 1 rfl ?_
  refine r_invVr hC kX6 (b 0) [] (.int 0) mVX6_isGood q2945 (fun _ h => h.get 0 rfl) (metX6_isGood _ _ hG b i _ 0 (by rw [rd_good hr, show okP (.error x) = false from rfl]; rfl)) (fun _ h => h.in.sub [0] rfl rfl) ⟨rfl, rfl⟩ 0 0 rfl rfl (Nat.le_of_ble_eq_true rfl) (Nat.le_of_ble_eq_true rfl) rfl (Nat.le_of_ble_eq_true rfl) dX6_isByte_1 4 rfl ?_
  refine r_ifeq hC 32 dX6_isByte_4 (by decide) 7 rfl (fun _ => ?_) (fun h => absurd h (by decide))
  refine r_iconst hC 0 dX6_isByte_32 ic_0 33 rfl ?_
  exact r_zret hC (by decide) (Nat.le_of_ble_eq_true rfl) (Nat.le_of_ble_eq_true rfl) (fun V9 h => hQ _ _ ⟨rfl, h.1⟩) dX6_isByte_33
theorem metX6_isByte (l : Launch) (G : xG) (hG : xGood G) (b : Nat → Nat) (i : Nat → Int32) (j : Nat → Int64) (bf : Nat → Int32) (e : Nat) (he : e ≤ 600) (ps : PS) (hr : rdP bf e i j ps) (c : Int32) : xRm l G yX6_isByte (Cond.code yX6_isByte cX6_isByte 2 (some .boolean)) { frames := 1, locals := 20, cells := 0, slots := 0 } [.ref (b 0), .int c] [(b 0, .inr (5, mF b i j)), (b 13, .inl (0, 600, .inl bf))] (some (.int (bI (isB bf e c ps)))) := by
  cases ps with
  | ok g => exact metX6_isByteG l G hG b i j bf e he g c hr.1 hr.2.1
  | error x => exact metX6_isByteB l G hG b i j bf e he x c hr
theorem metX6_wrongsP (l : Launch) (G : xG) (hG : xGood G) (b : Nat → Nat) (i : Nat → Int32) (j : Nat → Int64) (bf : Nat → Int32) (e : Nat) (he : e ≤ 600) (ps : PS) (hr : rdP bf e i j ps) (x : Int32) (hx : ¬ x = 0) : xWm l G yX6_wrongs (Cond.code yX6_wrongs cX6_wrongs 2 (some .boolean)) { frames := 0, locals := 0, cells := 0, slots := 0 } [.ref (b 0), .int x] [(b 0, .inr (5, mF b i j))] (fun v w' => v = some (.int 0) ∧ ∃ (i' : Nat → Int32) (j' : Nat → Int64), w' = [(b 0, .inr (5, mF b i' j'))] ∧ rdP bf e i' j' (wrP x ps) ∧ gI i i' ∧ fJ j j') (fun _ _ => False) := by
  intro V hV
  refine xMet.imp (metX6_wrongs l G hG b i j x V hV) (fun v V' ⟨w', ⟨h1, h2⟩, h3⟩ => ?_) (fun _ _ ⟨_, h, _⟩ => h.elim)
  exact ⟨w', ⟨h1, _, _, h2, rd_wr hx hr, gI_wr, fJ_refl j⟩, h3⟩
theorem metX6_nextP (l : Launch) (G : xG) (hG : xGood G) (b : Nat → Nat) (i : Nat → Int32) (j : Nat → Int64) (bf : Nat → Int32) (e : Nat) (he : e ≤ 600) (ps : PS) (hr : rdP bf e i j ps) (ho : okP ps = true) : xWm l G yX6_next (Cond.code yX6_next cX6_next 1 none) { frames := 2, locals := 41, cells := 0, slots := 0 } [.ref (b 0)] [(b 0, .inr (5, mF b i j)), (b 13, .inl (0, 600, .inl bf))] (fun v w' => v = none ∧ ∃ (i' : Nat → Int32) (j' : Nat → Int64), w' = [(b 0, .inr (5, mF b i' j')), (b 13, .inl (0, 600, .inl bf))] ∧ rdP bf e i' j' (nxP bf e ps) ∧ gI i i' ∧ fJ j j') (fun _ _ => False) := by
  obtain ⟨g, rfl, ht, h21, h22⟩ := rd_ok hr ho
  intro V hV
  refine xMet.imp (metX6_next l G hG b i j bf e (tEnd bf e g) he (tEnd_le ht.1) ht.2.1 ht.2.2.1 V hV) (fun v V' ⟨w', ⟨h1, i1, j1, h2, h3, h4, h5⟩, h6⟩ => ?_) (fun _ _ ⟨_, h, _⟩ => h.elim)
  exact ⟨w', ⟨h1, i1, j1, h2, ⟨h3, (h4 21 (by decide) (by decide) (by decide)).trans h21, (h4 22 (by decide) (by decide) (by decide)).trans h22⟩, fun k a1 a2 a3 _ _ => h4 k a1 a2 a3, h5⟩, h6⟩
theorem not_isB {bf : Nat → Int32} {e : Nat} {c : Int32} {ps : PS} (h : okP ps = false) : isB bf e c ps = false := by
  cases ps with
  | ok g => exact absurd h (by simp [okP])
  | error x => rfl
theorem not_isW {bf : Nat → Int32} {e : Nat} {w : Int64} {ps : PS} (h : okP ps = false) : isW bf e w ps = false := by
  cases ps with
  | ok g => exact absurd h (by simp [okP])
  | error x => rfl
theorem wr_same {c : Int32} {ps : PS} (h : okP ps = false) : wrP c ps = ps := by
  cases ps with
  | ok g => exact absurd h (by simp [okP])
  | error x => rfl
theorem okP_nx {bf : Nat → Int32} {e : Nat} {ps : PS} : okP (nxP bf e ps) = okP ps := by cases ps <;> rfl
theorem okP_wr {c : Int32} {ps : PS} : okP (wrP c ps) = false := by cases ps <;> rfl
theorem bI_f {b : Bool} (h : bI b = 0) : ¬ b = true := by rw [bI_0.mp h]; decide
theorem nt {b : Bool} (h : b = false) : ¬ b = true := by rw [h]; decide
theorem xRm_v {l : Launch} {G : xG} {y : MethodName} {w : Cond} {rm : Room} {As : List Value} {wc : xW} {r r2 : Option Value} (h : xRm l G y w rm As wc r) (e : r = r2) : xRm l G y w rm As wc r2 := e ▸ h
set_option maxHeartbeats 4000000 in
set_option maxRecDepth 100000 in
theorem metX6_passes1 (l : Launch) (G : xG) (hG : xGood G) (b : Nat → Nat) (i : Nat → Int32) (j : Nat → Int64) (bf : Nat → Int32) (e : Nat) (he : e ≤ 600) (ps : PS) (hr : rdP bf e i j ps) (x : Int64) (hz : isW bf e x ps = true) : xWm l G yX6_passes (Cond.code yX6_passes cX6_passes 3 (some .boolean)) { frames := 3, locals := 61, cells := 0, slots := 0 } [.ref (b 0), .long x] [(b 0, .inr (5, mF b i j)), (b 13, .inl (0, 600, .inl bf))] (fun v w' => v = some (.int 1) ∧ ∃ (i' : Nat → Int32) (j' : Nat → Int64), w' = [(b 0, .inr (5, mF b i' j')), (b 13, .inl (0, 600, .inl bf))] ∧ rdP bf e i' j' (nxP bf e ps) ∧ gI i i' ∧ fJ j j') (fun _ _ => False) := by
  intro V hV
  refine xMet_of RX6 hG rfl (by decide) (Nat.le_of_ble_eq_true rfl) fun C hC hQ hX hl hg _ => ?_
  subst hl hg
  obtain ⟨V0, hV0⟩ : ∃ V0, V0 = V := ⟨_, rfl⟩
  obtain ⟨F, hF⟩ : ∃ F, F = xF [(b 0, .inr (5, mF b i j)), (b 13, .inl (0, 600, .inl bf))] := ⟨_, rfl⟩
  refine rn.mono (J := xSt F V0 [(b 0, .inr (5, mF b i j)), (b 13, .inl (0, 600, .inl bf))]) (fun V9 h => by rw [h, hV0, hF]; exact hV.st) ?_
  show rn C (xSt F V0 [(b 0, .inr (5, mF b i j)), (b 13, .inl (0, 600, .inl bf))]) 0 0 0 [(0, .ref (b 0)), (1, .long x)] []
  refine r_aload_n hC 0 dX6_passes_0 rfl 1 rfl ?_
  refine r_lload_n hC 1 dX6_passes_1 rfl 2 rfl ?_
  refine r_invVr hC kX6 (b 0) [.long x] (.int 1) mVX6_isWord q2941 (fun _ h => h.get 0 rfl) (xRm_v (metX6_isWord _ _ hG b i j bf e he ps hr x) (show _ = some (Value.int 1) by rw [hz]; rfl)) (fun _ h => h.in.sub [0, 1] rfl rfl) ⟨rfl, rfl⟩ 0 0 rfl rfl (Nat.le_of_ble_eq_true rfl) (Nat.le_of_ble_eq_true rfl) rfl (Nat.le_of_ble_eq_true rfl) dX6_passes_2 5 rfl ?_
  refine r_ifne hC 10 dX6_passes_5 (by decide) 8 rfl (fun _ => ?_) (fun h => absurd h (by decide))
  refine r_aload_n hC 0 dX6_passes_10 rfl 11 rfl ?_
  refine r_invVw hC kX6 (b 0) [] [] mVX6_next q2902 0 rfl (metX6_nextP _ _ hG b i j bf e he ps hr (isW_ok hz)) [0, 1] [] rfl rfl rfl rfl (by decide) ⟨rfl, rfl⟩ 0 0 rfl rfl (Nat.le_of_ble_eq_true rfl) (Nat.le_of_ble_eq_true rfl) rfl (Nat.le_of_ble_eq_true rfl) dX6_passes_11 14 rfl (fun v2 w3 h4 => ?_) (fun _ _ h => h.elim)
  obtain ⟨rfl, i1, j1, rfl, hr1, gi1, fj1⟩ := h4
  show rn C (xSt F V0 [(b 0, .inr (5, mF b i1 j1)), (b 13, .inl (0, 600, .inl bf))]) 0 0 14 [(0, .ref (b 0)), (1, .long x)] []
  refine r_iconst hC 1 dX6_passes_14 ic_1 15 rfl ?_
  exact r_zret hC (by decide) (Nat.le_of_ble_eq_true rfl) (Nat.le_of_ble_eq_true rfl) (fun V9 h => hQ _ _ ⟨[(b 0, .inr (5, mF b i1 j1)), (b 13, .inl (0, 600, .inl bf))], ⟨rfl, _, _, rfl, hr1, gi1, fj1⟩, by rw [← hV0, ← hF]; exact h⟩) dX6_passes_15
set_option maxHeartbeats 4000000 in
set_option maxRecDepth 100000 in
theorem metX6_passes0 (l : Launch) (G : xG) (hG : xGood G) (b : Nat → Nat) (i : Nat → Int32) (j : Nat → Int64) (bf : Nat → Int32) (e : Nat) (he : e ≤ 600) (ps : PS) (hr : rdP bf e i j ps) (x : Int64) (hz : isW bf e x ps = false) : xRm l G yX6_passes (Cond.code yX6_passes cX6_passes 3 (some .boolean)) { frames := 2, locals := 42, cells := 0, slots := 0 } [.ref (b 0), .long x] [(b 0, .inr (5, mF b i j)), (b 13, .inl (0, 600, .inl bf))] (some (.int 0)) := by
  intro V hV
  refine xMet_of RX6 hG rfl (by decide) (Nat.le_of_ble_eq_true rfl) fun C hC hQ hX hl hg _ => ?_
  subst hl hg
  refine rn.mono (J := xRo [(b 0, .inr (5, mF b i j)), (b 13, .inl (0, 600, .inl bf))] V) (fun V9 h => ⟨h, hV⟩) ?_
  show rn C (xRo [(b 0, .inr (5, mF b i j)), (b 13, .inl (0, 600, .inl bf))] V) 0 0 0 [(0, .ref (b 0)), (1, .long x)] []
  refine r_aload_n hC 0 dX6_passes_0 rfl 1 rfl ?_
  refine r_lload_n hC 1 dX6_passes_1 rfl 2 rfl ?_
  refine r_invVr hC kX6 (b 0) [.long x] (.int 0) mVX6_isWord q2941 (fun _ h => h.get 0 rfl) (xRm_v (metX6_isWord _ _ hG b i j bf e he ps hr x) (show _ = some (Value.int 0) by rw [hz]; rfl)) (fun _ h => h.in.sub [0, 1] rfl rfl) ⟨rfl, rfl⟩ 0 0 rfl rfl (Nat.le_of_ble_eq_true rfl) (Nat.le_of_ble_eq_true rfl) rfl (Nat.le_of_ble_eq_true rfl) dX6_passes_2 5 rfl ?_
  refine r_ifne hC 10 dX6_passes_5 (by decide) 8 rfl (fun h => absurd h (by decide)) (fun _ => ?_)
  refine r_iconst hC 0 dX6_passes_8 ic_0 9 rfl ?_
  exact r_zret hC (by decide) (Nat.le_of_ble_eq_true rfl) (Nat.le_of_ble_eq_true rfl) (fun V9 h => hQ _ _ ⟨rfl, h.1⟩) dX6_passes_9
set_option maxHeartbeats 4000000 in
set_option maxRecDepth 100000 in
theorem metX6_must (l : Launch) (G : xG) (hG : xGood G) (b : Nat → Nat) (i : Nat → Int32) (j : Nat → Int64) (bf : Nat → Int32) (e : Nat) (he : e ≤ 600) (ps : PS) (hr : rdP bf e i j ps) (x : Int32) : xWm l G yX6_must (Cond.code yX6_must cX6_must 2 none) { frames := 3, locals := 61, cells := 0, slots := 0 } [.ref (b 0), .int x] [(b 0, .inr (5, mF b i j)), (b 13, .inl (0, 600, .inl bf))] (fun v w' => v = none ∧ ∃ (i' : Nat → Int32) (j' : Nat → Int64), w' = [(b 0, .inr (5, mF b i' j')), (b 13, .inl (0, 600, .inl bf))] ∧ rdP bf e i' j' (mustP bf e x ps) ∧ gI i i' ∧ fJ j j') (fun _ _ => False) := by
  intro V hV
  refine xMet_of RX6 hG rfl (by decide) (Nat.le_of_ble_eq_true rfl) fun C hC hQ hX hl hg _ => ?_
  subst hl hg
  obtain ⟨V0, hV0⟩ : ∃ V0, V0 = V := ⟨_, rfl⟩
  obtain ⟨F, hF⟩ : ∃ F, F = xF [(b 0, .inr (5, mF b i j)), (b 13, .inl (0, 600, .inl bf))] := ⟨_, rfl⟩
  refine rn.mono (J := xSt F V0 [(b 0, .inr (5, mF b i j)), (b 13, .inl (0, 600, .inl bf))]) (fun V9 h => by rw [h, hV0, hF]; exact hV.st) ?_
  show rn C (xSt F V0 [(b 0, .inr (5, mF b i j)), (b 13, .inl (0, 600, .inl bf))]) 0 0 0 [(0, .ref (b 0)), (1, .int x)] []
  refine r_aload_n hC 0 dX6_must_0 rfl 1 rfl ?_
  rcases Bool.eq_false_or_eq_true (okP ps) with hk1 | hk1
  · skip
    refine r_invVr hC kX6 (b 0) [] (.int 1) mVX6_isGood q2945 (fun _ h => h.get 0 rfl) (metX6_isGood _ _ hG b i _ 1 (by rw [rd_good hr, hk1]; rfl)) (fun _ h => h.in.sub [0] rfl rfl) ⟨rfl, rfl⟩ 0 0 rfl rfl (Nat.le_of_ble_eq_true rfl) (Nat.le_of_ble_eq_true rfl) rfl (Nat.le_of_ble_eq_true rfl) dX6_must_1 4 rfl ?_
    refine r_ifne hC 8 dX6_must_4 (by decide) 7 rfl (fun _ => ?_) (fun h => absurd h (by decide))
    refine r_aload_n hC 0 dX6_must_8 rfl 9 rfl ?_
    refine r_iload_n hC 1 dX6_must_9 rfl 10 rfl ?_
    rcases Bool.eq_false_or_eq_true (isB bf e x ps) with hk2 | hk2
    · skip
      refine r_invVr hC kX6 (b 0) [.int x] (.int 1) mVX6_isByte q2961 (fun _ h => h.get 0 rfl) (xRm_v (metX6_isByte _ _ hG b i j bf e he ps hr x) (show _ = some (Value.int 1) by rw [hk2]; rfl)) (fun _ h => h.in.sub [0, 1] rfl rfl) ⟨rfl, rfl⟩ 0 0 rfl rfl (Nat.le_of_ble_eq_true rfl) (Nat.le_of_ble_eq_true rfl) rfl (Nat.le_of_ble_eq_true rfl) dX6_must_10 13 rfl ?_
      refine r_ifeq hC 23 dX6_must_13 (by decide) 16 rfl (fun h => absurd h (by decide)) (fun _ => ?_)
      refine r_aload_n hC 0 dX6_must_16 rfl 17 rfl ?_
      refine r_invVw hC kX6 (b 0) [] [] mVX6_next q2902 0 rfl (metX6_nextP _ _ hG b i j bf e he ps hr hk1) [0, 1] [] rfl rfl rfl rfl (by decide) ⟨rfl, rfl⟩ 0 0 rfl rfl (Nat.le_of_ble_eq_true rfl) (Nat.le_of_ble_eq_true rfl) rfl (Nat.le_of_ble_eq_true rfl) dX6_must_17 20 rfl (fun v4 w5 h6 => ?_) (fun _ _ h => h.elim)
      obtain ⟨rfl, i3, j3, rfl, hr3, gi3, fj3⟩ := h6
      show rn C (xSt F V0 [(b 0, .inr (5, mF b i3 j3)), (b 13, .inl (0, 600, .inl bf))]) 0 0 20 [(0, .ref (b 0)), (1, .int x)] []
      refine r_goto hC 29 dX6_must_20 (by decide) ?_
      exact r_vret hC (Nat.le_of_ble_eq_true rfl) (Nat.le_of_ble_eq_true rfl) (fun V9 h => hQ _ _ ⟨[(b 0, .inr (5, mF b i3 j3)), (b 13, .inl (0, 600, .inl bf))], ⟨rfl, _, _, rfl, (by rw [mustP, if_pos hk2]; exact hr3), gi3, fj3⟩, by rw [← hV0, ← hF]; exact h⟩) dX6_must_29
    · skip
      refine r_invVr hC kX6 (b 0) [.int x] (.int 0) mVX6_isByte q2961 (fun _ h => h.get 0 rfl) (xRm_v (metX6_isByte _ _ hG b i j bf e he ps hr x) (show _ = some (Value.int 0) by rw [hk2]; rfl)) (fun _ h => h.in.sub [0, 1] rfl rfl) ⟨rfl, rfl⟩ 0 0 rfl rfl (Nat.le_of_ble_eq_true rfl) (Nat.le_of_ble_eq_true rfl) rfl (Nat.le_of_ble_eq_true rfl) dX6_must_10 13 rfl ?_
      refine r_ifeq hC 23 dX6_must_13 (by decide) 16 rfl (fun _ => ?_) (fun h => absurd h (by decide))
      refine r_aload_n hC 0 dX6_must_23 rfl 24 rfl ?_
      refine r_iconst hC 1 dX6_must_24 ic_1 25 rfl ?_
      refine r_invVw hC kX6 (b 0) [.int 1] [(b 13, .inl (0, 600, .inl bf))] mVX6_wrongs q2953 0 rfl (metX6_wrongsP _ _ hG b i j bf e he ps hr 1 (by decide)) [0] [1] rfl rfl rfl rfl (by decide) ⟨rfl, rfl⟩ 0 0 rfl rfl (Nat.le_of_ble_eq_true rfl) (Nat.le_of_ble_eq_true rfl) rfl (Nat.le_of_ble_eq_true rfl) dX6_must_25 28 rfl (fun v8 w9 h10 => ?_) (fun _ _ h => h.elim)
      obtain ⟨rfl, i7, j7, rfl, hr7, gi7, fj7⟩ := h10
      show rn C (xSt F V0 [(b 13, .inl (0, 600, .inl bf)), (b 0, .inr (5, mF b i7 j7))]) 0 0 28 [(0, .ref (b 0)), (1, .int x)] [.int 0]
      refine r_pop hC dX6_must_28 rfl 29 rfl ?_
      exact r_vret hC (Nat.le_of_ble_eq_true rfl) (Nat.le_of_ble_eq_true rfl) (fun V9 h => hQ _ _ ⟨[(b 0, .inr (5, mF b i7 j7)), (b 13, .inl (0, 600, .inl bf))], ⟨rfl, _, _, rfl, (by rw [mustP, if_neg (nt hk2)]; exact hr7), gi7, fj7⟩, by rw [← hV0, ← hF]; exact (h.sub [1, 0] rfl rfl)⟩) dX6_must_29
  · skip
    refine r_invVr hC kX6 (b 0) [] (.int 0) mVX6_isGood q2945 (fun _ h => h.get 0 rfl) (metX6_isGood _ _ hG b i _ 0 (by rw [rd_good hr, hk1]; rfl)) (fun _ h => h.in.sub [0] rfl rfl) ⟨rfl, rfl⟩ 0 0 rfl rfl (Nat.le_of_ble_eq_true rfl) (Nat.le_of_ble_eq_true rfl) rfl (Nat.le_of_ble_eq_true rfl) dX6_must_1 4 rfl ?_
    refine r_ifne hC 8 dX6_must_4 (by decide) 7 rfl (fun h => absurd h (by decide)) (fun _ => ?_)
    exact r_vret hC (Nat.le_of_ble_eq_true rfl) (Nat.le_of_ble_eq_true rfl) (fun V9 h => hQ _ _ ⟨[(b 0, .inr (5, mF b i j)), (b 13, .inl (0, 600, .inl bf))], ⟨rfl, _, _, rfl, (by rw [mustP, if_neg (nt (not_isB hk1)), wr_same hk1]; exact hr), (gI_refl i), (fJ_refl j)⟩, by rw [← hV0, ← hF]; exact h⟩) dX6_must_7
set_option maxHeartbeats 4000000 in
set_option maxRecDepth 100000 in
theorem metX6_numberG (l : Launch) (G : xG) (hG : xGood G) (b : Nat → Nat) (i : Nat → Int32) (j : Nat → Int64) (bf : Nat → Int32) (e : Nat) (he : e ≤ 600) (g : Nat) (hr : rdP bf e i j (.ok g)) (lo hi : Int64) : xWm l G yX6_number (Cond.code yX6_number cX6_number 7 (some .long)) { frames := 3, locals := 61, cells := 0, slots := 0 } [.ref (b 0), .long lo, .long hi] [(b 0, .inr (5, mF b i j)), (b 13, .inl (0, 600, .inl bf))] (fun v w' => v = some (.long (numV bf e lo hi (.ok g))) ∧ ∃ (i' : Nat → Int32) (j' : Nat → Int64), w' = [(b 0, .inr (5, mF b i' j')), (b 13, .inl (0, 600, .inl bf))] ∧ rdP bf e i' j' (numP bf e lo hi (.ok g)) ∧ gI i i' ∧ fJ j j') (fun _ _ => False) := by
  intro V hV
  refine xMet_of RX6 hG rfl (by decide) (Nat.le_of_ble_eq_true rfl) fun C hC hQ hX hl hg _ => ?_
  subst hl hg
  have hok : okP (.ok g) = true := rfl
  obtain ⟨V0, hV0⟩ : ∃ V0, V0 = V := ⟨_, rfl⟩
  obtain ⟨F, hF⟩ : ∃ F, F = xF [(b 0, .inr (5, mF b i j)), (b 13, .inl (0, 600, .inl bf))] := ⟨_, rfl⟩
  refine rn.mono (J := xSt F V0 [(b 0, .inr (5, mF b i j)), (b 13, .inl (0, 600, .inl bf))]) (fun V9 h => by rw [h, hV0, hF]; exact hV.st) ?_
  show rn C (xSt F V0 [(b 0, .inr (5, mF b i j)), (b 13, .inl (0, 600, .inl bf))]) 0 0 0 [(0, .ref (b 0)), (1, .long lo), (3, .long hi)] []
  refine r_aload_n hC 0 dX6_number_0 rfl 1 rfl ?_
  refine r_invVr hC kX6 (b 0) [] (.int 1) mVX6_isGood q2945 (fun _ h => h.get 0 rfl) (metX6_isGood _ _ hG b i _ 1 (by rw [rd_good hr, hok]; rfl)) (fun _ h => h.in.sub [0] rfl rfl) ⟨rfl, rfl⟩ 0 0 rfl rfl (Nat.le_of_ble_eq_true rfl) (Nat.le_of_ble_eq_true rfl) rfl (Nat.le_of_ble_eq_true rfl) dX6_number_1 4 rfl ?_
  refine r_ifne hC 9 dX6_number_4 (by decide) 7 rfl (fun _ => ?_) (fun h => absurd h (by decide))
  refine r_aload_n hC 0 dX6_number_9 rfl 10 rfl ?_
  refine r_get (v := .int (i 18)) hC kX6 18 rfl q2771 (fun _ h => h.get 0 rfl) rfl dX6_number_10 13 rfl ?_
  refine r_eqi (y := tKind bf e g) (hr.1.2.2.2.2.1) ?_
  refine r_iconst hC 2 dX6_number_13 ic_2 14 rfl ?_
  refine r_iceq hC 26 dX6_number_14 (by decide) 17 rfl (fun c1 => ?_) (fun c1 => ?_)
  · skip
    refine r_aload_n hC 0 dX6_number_26 rfl 27 rfl ?_
    refine r_get (v := .long (j 19)) hC kX6 19 rfl q2772 (fun _ h => h.get 0 rfl) rfl dX6_number_27 30 rfl ?_
    refine r_eql (y := tVal bf e g) (hr.1.2.2.2.2.2.1 c1) ?_
    refine r_lload_n hC 1 dX6_number_30 rfl 31 rfl ?_
    refine r_lload_n hC 2 dX6_number_31 rfl 32 rfl ?_
    refine r_invSr hC [.long (tVal bf e g), .long lo, .long hi] (.int (bI (m_in (tVal bf e g) lo hi))) mSX6_in q2891 (metX6_in _ _ hG (tVal bf e g) lo hi) (fun _ _ => xIn.nil) ⟨rfl, rfl⟩ 0 0 rfl rfl (Nat.le_of_ble_eq_true rfl) (Nat.le_of_ble_eq_true rfl) rfl (Nat.le_of_ble_eq_true rfl) dX6_number_32 35 rfl ?_
    refine r_ifne hC 44 dX6_number_35 (by decide) 38 rfl (fun c2 => ?_) (fun c2 => ?_)
    · skip
      refine r_aload_n hC 0 dX6_number_44 rfl 45 rfl ?_
      refine r_invVr hC kX6 (b 0) [] (.int 1) mVX6_isGood q2945 (fun _ h => h.get 0 rfl) (metX6_isGood _ _ hG b i _ 1 (by rw [rd_good hr, hok]; rfl)) (fun _ h => h.in.sub [0] rfl rfl) ⟨rfl, rfl⟩ 0 0 rfl rfl (Nat.le_of_ble_eq_true rfl) (Nat.le_of_ble_eq_true rfl) rfl (Nat.le_of_ble_eq_true rfl) dX6_number_45 48 rfl ?_
      refine r_ifne hC 53 dX6_number_48 (by decide) 51 rfl (fun _ => ?_) (fun h => absurd h (by decide))
      refine r_aload_n hC 0 dX6_number_53 rfl 54 rfl ?_
      refine r_get (v := .long (j 19)) hC kX6 19 rfl q2772 (fun _ h => h.get 0 rfl) rfl dX6_number_54 57 rfl ?_
      refine r_eql (y := tVal bf e g) (hr.1.2.2.2.2.2.1 c1) ?_
      refine r_lstore hC 5 [(5, .long (tVal bf e g)), (0, .ref (b 0)), (1, .long lo), (3, .long hi)] dX6_number_57 (Nat.le_of_ble_eq_true rfl) rfl 59 rfl ?_
      refine r_aload_n hC 1 dX6_number_59 rfl 60 rfl ?_
      refine r_invVw hC kX6 (b 0) [] [] mVX6_next q2902 0 rfl (metX6_nextP _ _ hG b i j bf e he (.ok g) hr hok) [0, 1] [] rfl rfl rfl rfl (by decide) ⟨rfl, rfl⟩ 0 0 rfl rfl (Nat.le_of_ble_eq_true rfl) (Nat.le_of_ble_eq_true rfl) rfl (Nat.le_of_ble_eq_true rfl) dX6_number_60 63 rfl (fun v4 w5 h6 => ?_) (fun _ _ h => h.elim)
      obtain ⟨rfl, i3, j3, rfl, hr3, gi3, fj3⟩ := h6
      show rn C (xSt F V0 [(b 0, .inr (5, mF b i3 j3)), (b 13, .inl (0, 600, .inl bf))]) 0 0 63 [(5, .long (tVal bf e g)), (0, .ref (b 0)), (1, .long lo), (3, .long hi)] []
      refine r_lload hC 0 dX6_number_63 rfl 65 rfl ?_
      exact r_lret hC (Nat.le_of_ble_eq_true rfl) (Nat.le_of_ble_eq_true rfl) (fun V9 h => hQ _ _ ⟨[(b 0, .inr (5, mF b i3 j3)), (b 13, .inl (0, 600, .inl bf))], ⟨by rw [numV, numG, decide_eq_true c1, bI_n0.mp c2]; rfl, _, _, rfl, (by rw [numP, if_pos c1, if_pos (bI_n0.mp c2)]; exact hr3), gi3, fj3⟩, by rw [← hV0, ← hF]; exact h⟩) dX6_number_65
    · skip
      refine r_aload_n hC 0 dX6_number_38 rfl 39 rfl ?_
      refine r_iconst hC 2 dX6_number_39 ic_2 40 rfl ?_
      refine r_invVw hC kX6 (b 0) [.int 2] [(b 13, .inl (0, 600, .inl bf))] mVX6_wrongs q2953 0 rfl (metX6_wrongsP _ _ hG b i j bf e he (.ok g) hr 2 (by decide)) [0] [1] rfl rfl rfl rfl (by decide) ⟨rfl, rfl⟩ 0 0 rfl rfl (Nat.le_of_ble_eq_true rfl) (Nat.le_of_ble_eq_true rfl) rfl (Nat.le_of_ble_eq_true rfl) dX6_number_40 43 rfl (fun v8 w9 h10 => ?_) (fun _ _ h => h.elim)
      obtain ⟨rfl, i7, j7, rfl, hr7, gi7, fj7⟩ := h10
      show rn C (xSt F V0 [(b 13, .inl (0, 600, .inl bf)), (b 0, .inr (5, mF b i7 j7))]) 0 0 43 [(0, .ref (b 0)), (1, .long lo), (3, .long hi)] [.int 0]
      refine r_pop hC dX6_number_43 rfl 44 rfl ?_
      refine r_aload_n hC 0 dX6_number_44 rfl 45 rfl ?_
      refine r_invVr hC kX6 (b 0) [] (.int 0) mVX6_isGood q2945 (fun _ h => h.get 1 rfl) (metX6_isGood _ _ hG b i7 _ 0 (by rw [rd_good hr7, okP_wr]; rfl)) (fun _ h => h.in.sub [1] rfl rfl) ⟨rfl, rfl⟩ 0 0 rfl rfl (Nat.le_of_ble_eq_true rfl) (Nat.le_of_ble_eq_true rfl) rfl (Nat.le_of_ble_eq_true rfl) dX6_number_45 48 rfl ?_
      refine r_ifne hC 53 dX6_number_48 (by decide) 51 rfl (fun h => absurd h (by decide)) (fun _ => ?_)
      refine r_lload_n hC 1 dX6_number_51 rfl 52 rfl ?_
      exact r_lret hC (Nat.le_of_ble_eq_true rfl) (Nat.le_of_ble_eq_true rfl) (fun V9 h => hQ _ _ ⟨[(b 0, .inr (5, mF b i7 j7)), (b 13, .inl (0, 600, .inl bf))], ⟨by rw [numV, numG, decide_eq_true c1, bI_0.mp c2]; rfl, _, _, rfl, (by rw [numP, if_pos c1, if_neg (by rw [bI_0.mp c2]; decide)]; exact hr7), gi7, fj7⟩, by rw [← hV0, ← hF]; exact (h.sub [1, 0] rfl rfl)⟩) dX6_number_52
  · skip
    refine r_aload_n hC 0 dX6_number_17 rfl 18 rfl ?_
    refine r_iconst hC 1 dX6_number_18 ic_1 19 rfl ?_
    refine r_invVw hC kX6 (b 0) [.int 1] [(b 13, .inl (0, 600, .inl bf))] mVX6_wrongs q2953 0 rfl (metX6_wrongsP _ _ hG b i j bf e he (.ok g) hr 1 (by decide)) [0] [1] rfl rfl rfl rfl (by decide) ⟨rfl, rfl⟩ 0 0 rfl rfl (Nat.le_of_ble_eq_true rfl) (Nat.le_of_ble_eq_true rfl) rfl (Nat.le_of_ble_eq_true rfl) dX6_number_19 22 rfl (fun v12 w13 h14 => ?_) (fun _ _ h => h.elim)
    obtain ⟨rfl, i11, j11, rfl, hr11, gi11, fj11⟩ := h14
    show rn C (xSt F V0 [(b 13, .inl (0, 600, .inl bf)), (b 0, .inr (5, mF b i11 j11))]) 0 0 22 [(0, .ref (b 0)), (1, .long lo), (3, .long hi)] [.int 0]
    refine r_pop hC dX6_number_22 rfl 23 rfl ?_
    refine r_goto hC 44 dX6_number_23 (by decide) ?_
    refine r_aload_n hC 0 dX6_number_44 rfl 45 rfl ?_
    refine r_invVr hC kX6 (b 0) [] (.int 0) mVX6_isGood q2945 (fun _ h => h.get 1 rfl) (metX6_isGood _ _ hG b i11 _ 0 (by rw [rd_good hr11, okP_wr]; rfl)) (fun _ h => h.in.sub [1] rfl rfl) ⟨rfl, rfl⟩ 0 0 rfl rfl (Nat.le_of_ble_eq_true rfl) (Nat.le_of_ble_eq_true rfl) rfl (Nat.le_of_ble_eq_true rfl) dX6_number_45 48 rfl ?_
    refine r_ifne hC 53 dX6_number_48 (by decide) 51 rfl (fun h => absurd h (by decide)) (fun _ => ?_)
    refine r_lload_n hC 1 dX6_number_51 rfl 52 rfl ?_
    exact r_lret hC (Nat.le_of_ble_eq_true rfl) (Nat.le_of_ble_eq_true rfl) (fun V9 h => hQ _ _ ⟨[(b 0, .inr (5, mF b i11 j11)), (b 13, .inl (0, 600, .inl bf))], ⟨by rw [numV, numG, decide_eq_false c1]; rfl, _, _, rfl, (by rw [numP, if_neg c1]; exact hr11), gi11, fj11⟩, by rw [← hV0, ← hF]; exact (h.sub [1, 0] rfl rfl)⟩) dX6_number_52
set_option maxHeartbeats 4000000 in
set_option maxRecDepth 100000 in
theorem metX6_numberB (l : Launch) (G : xG) (hG : xGood G) (b : Nat → Nat) (i : Nat → Int32) (j : Nat → Int64) (bf : Nat → Int32) (e : Nat) (he : e ≤ 600) (x : Int32 × Nat) (hr : rdP bf e i j (.error x)) (lo hi : Int64) : xWm l G yX6_number (Cond.code yX6_number cX6_number 7 (some .long)) { frames := 3, locals := 61, cells := 0, slots := 0 } [.ref (b 0), .long lo, .long hi] [(b 0, .inr (5, mF b i j)), (b 13, .inl (0, 600, .inl bf))] (fun v w' => v = some (.long (numV bf e lo hi (.error x))) ∧ ∃ (i' : Nat → Int32) (j' : Nat → Int64), w' = [(b 0, .inr (5, mF b i' j')), (b 13, .inl (0, 600, .inl bf))] ∧ rdP bf e i' j' (numP bf e lo hi (.error x)) ∧ gI i i' ∧ fJ j j') (fun _ _ => False) := by
  intro V hV
  refine xMet_of RX6 hG rfl (by decide) (Nat.le_of_ble_eq_true rfl) fun C hC hQ hX hl hg _ => ?_
  subst hl hg
  have hok : okP (.error x) = false := rfl
  obtain ⟨V0, hV0⟩ : ∃ V0, V0 = V := ⟨_, rfl⟩
  obtain ⟨F, hF⟩ : ∃ F, F = xF [(b 0, .inr (5, mF b i j)), (b 13, .inl (0, 600, .inl bf))] := ⟨_, rfl⟩
  refine rn.mono (J := xSt F V0 [(b 0, .inr (5, mF b i j)), (b 13, .inl (0, 600, .inl bf))]) (fun V9 h => by rw [h, hV0, hF]; exact hV.st) ?_
  show rn C (xSt F V0 [(b 0, .inr (5, mF b i j)), (b 13, .inl (0, 600, .inl bf))]) 0 0 0 [(0, .ref (b 0)), (1, .long lo), (3, .long hi)] []
  refine r_aload_n hC 0 dX6_number_0 rfl 1 rfl ?_
  refine r_invVr hC kX6 (b 0) [] (.int 0) mVX6_isGood q2945 (fun _ h => h.get 0 rfl) (metX6_isGood _ _ hG b i _ 0 (by rw [rd_good hr, hok]; rfl)) (fun _ h => h.in.sub [0] rfl rfl) ⟨rfl, rfl⟩ 0 0 rfl rfl (Nat.le_of_ble_eq_true rfl) (Nat.le_of_ble_eq_true rfl) rfl (Nat.le_of_ble_eq_true rfl) dX6_number_1 4 rfl ?_
  refine r_ifne hC 9 dX6_number_4 (by decide) 7 rfl (fun h => absurd h (by decide)) (fun _ => ?_)
  refine r_lload_n hC 1 dX6_number_7 rfl 8 rfl ?_
  exact r_lret hC (Nat.le_of_ble_eq_true rfl) (Nat.le_of_ble_eq_true rfl) (fun V9 h => hQ _ _ ⟨[(b 0, .inr (5, mF b i j)), (b 13, .inl (0, 600, .inl bf))], ⟨rfl, _, _, rfl, hr, (gI_refl i), (fJ_refl j)⟩, by rw [← hV0, ← hF]; exact h⟩) dX6_number_8
theorem metX6_number (l : Launch) (G : xG) (hG : xGood G) (b : Nat → Nat) (i : Nat → Int32) (j : Nat → Int64) (bf : Nat → Int32) (e : Nat) (he : e ≤ 600) (ps : PS) (hr : rdP bf e i j ps) (lo hi : Int64) : xWm l G yX6_number (Cond.code yX6_number cX6_number 7 (some .long)) { frames := 3, locals := 61, cells := 0, slots := 0 } [.ref (b 0), .long lo, .long hi] [(b 0, .inr (5, mF b i j)), (b 13, .inl (0, 600, .inl bf))] (fun v w' => v = some (.long (numV bf e lo hi ps)) ∧ ∃ (i' : Nat → Int32) (j' : Nat → Int64), w' = [(b 0, .inr (5, mF b i' j')), (b 13, .inl (0, 600, .inl bf))] ∧ rdP bf e i' j' (numP bf e lo hi ps) ∧ gI i i' ∧ fJ j j') (fun _ _ => False) := by
  cases ps with
  | ok g => exact metX6_numberG l G hG b i j bf e he g hr lo hi
  | error x => exact metX6_numberB l G hG b i j bf e he x hr lo hi
set_option maxHeartbeats 4000000 in
set_option maxRecDepth 100000 in
theorem metX6_signed (l : Launch) (G : xG) (hG : xGood G) (b : Nat → Nat) (i : Nat → Int32) (j : Nat → Int64) (bf : Nat → Int32) (e : Nat) (he : e ≤ 600) (ps : PS) (hr : rdP bf e i j ps) (x : Int64) : xWm l G yX6_signed (Cond.code yX6_signed cX6_signed 6 (some .long)) { frames := 4, locals := 87, cells := 0, slots := 0 } [.ref (b 0), .long x] [(b 0, .inr (5, mF b i j)), (b 13, .inl (0, 600, .inl bf))] (fun v w' => v = some (.long (sgnV bf e x ps)) ∧ ∃ (i' : Nat → Int32) (j' : Nat → Int64), w' = [(b 0, .inr (5, mF b i' j')), (b 13, .inl (0, 600, .inl bf))] ∧ rdP bf e i' j' (sgnP bf e x ps) ∧ gI i i' ∧ fJ j j') (fun _ _ => False) := by
  intro V hV
  refine xMet_of RX6 hG rfl (by decide) (Nat.le_of_ble_eq_true rfl) fun C hC hQ hX hl hg _ => ?_
  subst hl hg
  obtain ⟨V0, hV0⟩ : ∃ V0, V0 = V := ⟨_, rfl⟩
  obtain ⟨F, hF⟩ : ∃ F, F = xF [(b 0, .inr (5, mF b i j)), (b 13, .inl (0, 600, .inl bf))] := ⟨_, rfl⟩
  refine rn.mono (J := xSt F V0 [(b 0, .inr (5, mF b i j)), (b 13, .inl (0, 600, .inl bf))]) (fun V9 h => by rw [h, hV0, hF]; exact hV.st) ?_
  show rn C (xSt F V0 [(b 0, .inr (5, mF b i j)), (b 13, .inl (0, 600, .inl bf))]) 0 0 0 [(0, .ref (b 0)), (1, .long x)] []
  refine r_aload_n hC 0 dX6_signed_0 rfl 1 rfl ?_
  refine r_bipush hC 45 dX6_signed_1 bp_45 3 rfl ?_
  rcases Bool.eq_false_or_eq_true (isB bf e 45 ps) with hk1 | hk1
  · skip
    refine r_invVr hC kX6 (b 0) [.int 45] (.int 1) mVX6_isByte q2961 (fun _ h => h.get 0 rfl) (xRm_v (metX6_isByte _ _ hG b i j bf e he ps hr 45) (show _ = some (Value.int 1) by rw [hk1]; rfl)) (fun _ h => h.in.sub [0, 1] rfl rfl) ⟨rfl, rfl⟩ 0 0 rfl rfl (Nat.le_of_ble_eq_true rfl) (Nat.le_of_ble_eq_true rfl) rfl (Nat.le_of_ble_eq_true rfl) dX6_signed_3 6 rfl ?_
    refine r_istore_n hC 3 [(3, .int 1), (0, .ref (b 0)), (1, .long x)] dX6_signed_6 rfl (Nat.le_of_ble_eq_true rfl) rfl 7 rfl ?_
    refine r_iload_n hC 0 dX6_signed_7 rfl 8 rfl ?_
    refine r_ifeq hC 15 dX6_signed_8 (by decide) 11 rfl (fun h => absurd h (by decide)) (fun _ => ?_)
    refine r_aload_n hC 1 dX6_signed_11 rfl 12 rfl ?_
    refine r_invVw hC kX6 (b 0) [] [] mVX6_next q2902 0 rfl (metX6_nextP _ _ hG b i j bf e he ps hr (isB_ok hk1)) [0, 1] [] rfl rfl rfl rfl (by decide) ⟨rfl, rfl⟩ 0 0 rfl rfl (Nat.le_of_ble_eq_true rfl) (Nat.le_of_ble_eq_true rfl) rfl (Nat.le_of_ble_eq_true rfl) dX6_signed_12 15 rfl (fun v3 w4 h5 => ?_) (fun _ _ h => h.elim)
    obtain ⟨rfl, i2, j2, rfl, hr2, gi2, fj2⟩ := h5
    show rn C (xSt F V0 [(b 0, .inr (5, mF b i2 j2)), (b 13, .inl (0, 600, .inl bf))]) 0 0 15 [(3, .int 1), (0, .ref (b 0)), (1, .long x)] []
    refine r_aload_n hC 1 dX6_signed_15 rfl 16 rfl ?_
    refine r_lconst hC 0 dX6_signed_16 lc_0 17 rfl ?_
    refine r_lload_n hC 2 dX6_signed_17 rfl 18 rfl ?_
    refine r_invVw hC kX6 (b 0) [.long 0, .long x] [] mVX6_number q2949 0 rfl (metX6_number _ _ hG b i2 j2 bf e he (nxP bf e ps) hr2 0 x) [0, 1] [] rfl rfl rfl rfl (by decide) ⟨rfl, rfl⟩ 0 0 rfl rfl (Nat.le_of_ble_eq_true rfl) (Nat.le_of_ble_eq_true rfl) rfl (Nat.le_of_ble_eq_true rfl) dX6_signed_18 21 rfl (fun v7 w8 h9 => ?_) (fun _ _ h => h.elim)
    obtain ⟨rfl, i6, j6, rfl, hr6, gi6, fj6⟩ := h9
    show rn C (xSt F V0 [(b 0, .inr (5, mF b i6 j6)), (b 13, .inl (0, 600, .inl bf))]) 0 0 21 [(3, .int 1), (0, .ref (b 0)), (1, .long x)] [.long (numV bf e 0 x (nxP bf e ps))]
    refine r_lstore hC 4 [(4, .long (numV bf e 0 x (nxP bf e ps))), (3, .int 1), (0, .ref (b 0)), (1, .long x)] dX6_signed_21 (Nat.le_of_ble_eq_true rfl) rfl 23 rfl ?_
    refine r_iload_n hC 1 dX6_signed_23 rfl 24 rfl ?_
    refine r_ifeq hC 33 dX6_signed_24 (by decide) 27 rfl (fun h => absurd h (by decide)) (fun _ => ?_)
    refine r_lload hC 0 dX6_signed_27 rfl 29 rfl ?_
    refine r_lneg hC (-(numV bf e 0 x (nxP bf e ps))) dX6_signed_29 (rfl) 30 rfl ?_
    refine r_goto hC 35 dX6_signed_30 (by decide) ?_
    exact r_lret hC (Nat.le_of_ble_eq_true rfl) (Nat.le_of_ble_eq_true rfl) (fun V9 h => hQ _ _ ⟨[(b 0, .inr (5, mF b i6 j6)), (b 13, .inl (0, 600, .inl bf))], ⟨by rw [sgnV, sgn0, if_pos hk1, if_pos hk1], _, _, rfl, (by rw [sgnP, sgn0, if_pos hk1]; exact hr6), (gi2.trans gi6), (fj2.trans fj6)⟩, by rw [← hV0, ← hF]; exact h⟩) dX6_signed_35
  · skip
    refine r_invVr hC kX6 (b 0) [.int 45] (.int 0) mVX6_isByte q2961 (fun _ h => h.get 0 rfl) (xRm_v (metX6_isByte _ _ hG b i j bf e he ps hr 45) (show _ = some (Value.int 0) by rw [hk1]; rfl)) (fun _ h => h.in.sub [0, 1] rfl rfl) ⟨rfl, rfl⟩ 0 0 rfl rfl (Nat.le_of_ble_eq_true rfl) (Nat.le_of_ble_eq_true rfl) rfl (Nat.le_of_ble_eq_true rfl) dX6_signed_3 6 rfl ?_
    refine r_istore_n hC 3 [(3, .int 0), (0, .ref (b 0)), (1, .long x)] dX6_signed_6 rfl (Nat.le_of_ble_eq_true rfl) rfl 7 rfl ?_
    refine r_iload_n hC 0 dX6_signed_7 rfl 8 rfl ?_
    refine r_ifeq hC 15 dX6_signed_8 (by decide) 11 rfl (fun _ => ?_) (fun h => absurd h (by decide))
    refine r_aload_n hC 1 dX6_signed_15 rfl 16 rfl ?_
    refine r_lconst hC 0 dX6_signed_16 lc_0 17 rfl ?_
    refine r_lload_n hC 2 dX6_signed_17 rfl 18 rfl ?_
    refine r_invVw hC kX6 (b 0) [.long 0, .long x] [] mVX6_number q2949 0 rfl (metX6_number _ _ hG b i j bf e he ps hr 0 x) [0, 1] [] rfl rfl rfl rfl (by decide) ⟨rfl, rfl⟩ 0 0 rfl rfl (Nat.le_of_ble_eq_true rfl) (Nat.le_of_ble_eq_true rfl) rfl (Nat.le_of_ble_eq_true rfl) dX6_signed_18 21 rfl (fun v11 w12 h13 => ?_) (fun _ _ h => h.elim)
    obtain ⟨rfl, i10, j10, rfl, hr10, gi10, fj10⟩ := h13
    show rn C (xSt F V0 [(b 0, .inr (5, mF b i10 j10)), (b 13, .inl (0, 600, .inl bf))]) 0 0 21 [(3, .int 0), (0, .ref (b 0)), (1, .long x)] [.long (numV bf e 0 x ps)]
    refine r_lstore hC 4 [(4, .long (numV bf e 0 x ps)), (3, .int 0), (0, .ref (b 0)), (1, .long x)] dX6_signed_21 (Nat.le_of_ble_eq_true rfl) rfl 23 rfl ?_
    refine r_iload_n hC 1 dX6_signed_23 rfl 24 rfl ?_
    refine r_ifeq hC 33 dX6_signed_24 (by decide) 27 rfl (fun _ => ?_) (fun h => absurd h (by decide))
    refine r_lload hC 0 dX6_signed_33 rfl 35 rfl ?_
    exact r_lret hC (Nat.le_of_ble_eq_true rfl) (Nat.le_of_ble_eq_true rfl) (fun V9 h => hQ _ _ ⟨[(b 0, .inr (5, mF b i10 j10)), (b 13, .inl (0, 600, .inl bf))], ⟨by rw [sgnV, sgn0, if_neg (nt hk1), if_neg (nt hk1)], _, _, rfl, (by rw [sgnP, sgn0, if_neg (nt hk1)]; exact hr10), gi10, fj10⟩, by rw [← hV0, ← hF]; exact h⟩) dX6_signed_35
