/-! ===== plain: the machine that reads queries ===== -/
set_option maxRecDepth 100000
def strQ (x : Int32) : Nat := if x = 25 then 1 else if x = 24 then 2 else if x = 23 then 3 else 0
def opnQ : List Int32 → Nat
  | [] => 0
  | x :: W => opnQ W + (if x = 23 ∨ x = 1 then 1 else 0)
def insQ : List Int32 → Bool
  | [] => false
  | x :: W => decide (x = 1) || insQ W
def topN : List Int32 → Bool
  | [] => false
  | x :: _ => decide (x = 23)
def setT (k : Nat) : List Int32 → List Int32 → List Int32 × List Int32
  | C, [] => (C, [])
  | C, x :: W => if k ≤ strQ x then setT k (C ++ [x]) W else (C, x :: W)
theorem setT_len {k : Nat} : ∀ (W C : List Int32), (setT k C W).1.length + (setT k C W).2.length = C.length + W.length := by
  intro W
  induction W with
  | nil => intro C; rfl
  | cons x W ih =>
    intro C
    rw [setT]
    split
    · rw [ih]; simp; omega
    · rfl
theorem setT_le {k : Nat} (W C : List Int32) : (setT k C W).2.length ≤ W.length := by
  induction W generalizing C with
  | nil => exact Nat.le_refl _
  | cons x W ih =>
    rw [setT]
    split
    · exact Nat.le_succ_of_le (ih _)
    · exact Nat.le_refl _
theorem setT_ins {k : Nat} (hk : 0 < k) : ∀ (W C : List Int32), insQ W = true → insQ (setT k C W).2 = true := by
  intro W
  induction W with
  | nil => intro C h; exact h
  | cons x W ih =>
    intro C h
    rw [setT]
    split
    · rename_i hs
      refine ih _ ?_
      simp only [insQ, Bool.or_eq_true, decide_eq_true_eq] at h
      rcases h with h | h
      · subst h
        have h0 : strQ 1 = 0 := by decide
        omega
      · exact h
    · exact h
theorem setT_top1 : ∀ (W C : List Int32), insQ W = true → (∀ x ∈ W, x = 1 ∨ x = 23 ∨ x = 24 ∨ x = 25) → ∃ W2, (setT 1 C W).2 = 1 :: W2 := by
  intro W
  induction W with
  | nil => intro C h; exact absurd h (by decide)
  | cons x W ih =>
    intro C h ha
    rw [setT]
    split
    · rename_i hs
      refine ih _ ?_ (fun y hy => ha y (List.mem_cons_of_mem _ hy))
      simp only [insQ, Bool.or_eq_true, decide_eq_true_eq] at h
      rcases h with h | h
      · subst h
        have h0 : strQ 1 = 0 := by decide
        omega
      · exact h
    · rename_i hs
      rcases ha x List.mem_cons_self with rfl | rfl | rfl | rfl
      · exact ⟨W, rfl⟩
      · exact absurd (by decide) hs
      · exact absurd (by decide) hs
      · exact absurd (by decide) hs
theorem setT_all {k : Nat} : ∀ (W C : List Int32), (∀ x ∈ W, x = 1 ∨ x = 23 ∨ x = 24 ∨ x = 25) → ∀ x ∈ (setT k C W).2, x = 1 ∨ x = 23 ∨ x = 24 ∨ x = 25 := by
  intro W
  induction W with
  | nil => intro C _ x hx; exact absurd hx (by simp [setT])
  | cons y W ih =>
    intro C ha x hx
    rw [setT] at hx
    split at hx
    · exact ih _ (fun y hy => ha y (List.mem_cons_of_mem _ hy)) x hx
    · exact ha x hx
def prpQ (bf : Nat → Int32) (e : Nat) (ps : PS) : Int32 := if isW bf e 212302449 ps = true then 0 else if isW bf e 1841546 ps = true then 1 else if isW bf e 315918 ps = true then 2 else if isW bf e 45611485241 ps = true then 3 else -1
/-- a value: what is behind it, its code -/
def valP (bf : Nat → Int32) (e : Nat) (ps : PS) : PS := if isK bf e 2 ps = true then numP bf e 0 9999999 ps else if prpQ bf e ps = -1 then wrP 1 ps else nxP bf e ps
def valC (bf : Nat → Int32) (e : Nat) (ps : PS) : List Int32 := if isK bf e 2 ps = true then [100 + (numV bf e 0 9999999 ps).toInt32] else if prpQ bf e ps = -1 then [] else [prpQ bf e ps]
def opC (bf : Nat → Int32) (e : Nat) (ps : PS) : Int32 := if isB bf e 60 ps = true then 20 else if isB bf e 62 ps = true then 22 else 21
def opP (bf : Nat → Int32) (e : Nat) (ps : PS) : PS := if isB bf e 60 ps = true then ps else if isB bf e 62 ps = true then ps else if isB bf e 61 ps = true then ps else wrP 1 ps
def cmpM (bf : Nat → Int32) (e : Nat) (ps : PS) : PS := nxP bf e (opP bf e (valP bf e ps))
def cmpP (bf : Nat → Int32) (e : Nat) (ps : PS) : PS := valP bf e (cmpM bf e ps)
def cmpC (bf : Nat → Int32) (e : Nat) (ps : PS) : List Int32 := valC bf e ps ++ (valC bf e (cmpM bf e ps) ++ [opC bf e (valP bf e ps)])
theorem prp_bad {bf : Nat → Int32} {e : Nat} {ps : PS} (h : okP ps = false) : prpQ bf e ps = -1 := by
  unfold prpQ
  rw [if_neg (nt (not_isW h)), if_neg (nt (not_isW h)), if_neg (nt (not_isW h)), if_neg (nt (not_isW h))]
theorem isK_bad {bf : Nat → Int32} {e : Nat} {c : Int32} {ps : PS} (h : okP ps = false) : isK bf e c ps = false := by
  cases ps with
  | ok g => exact absurd h (by simp [okP])
  | error x => rfl
theorem val_bad {bf : Nat → Int32} {e : Nat} {ps : PS} (h : okP ps = false) : valP bf e ps = ps := by
  rw [valP, if_neg (nt (isK_bad h)), if_pos (prp_bad h), wr_same h]
theorem valC_bad {bf : Nat → Int32} {e : Nat} {ps : PS} (h : okP ps = false) : valC bf e ps = [] := by
  rw [valC, if_neg (nt (isK_bad h)), if_pos (prp_bad h)]
theorem prp_w {bf : Nat → Int32} {e : Nat} {ps : PS} (h : ¬ prpQ bf e ps = -1) : ∃ w, isW bf e w ps = true := by
  refine Classical.byContradiction fun hn => h ?_
  have hf : ∀ w, ¬ isW bf e w ps = true := fun w hw => hn ⟨w, hw⟩
  unfold prpQ
  rw [if_neg (hf _), if_neg (hf _), if_neg (hf _), if_neg (hf _)]
theorem isB_g {bf : Nat → Int32} {e : Nat} {c : Int32} {g : Nat} (h : isB bf e c (.ok g) = true) : tKind bf e g = 3 := by
  simp only [isB, Bool.and_eq_true, decide_eq_true_eq] at h
  exact h.1
theorem mu_nxK {bf : Nat → Int32} {e g : Nat} (h : ¬ tKind bf e g = 0) : muP e (nxP bf e (.ok g)) < muP e (.ok g) := by
  have h0 : g < e := tK_in h
  have h1 := @tEnd_gt bf e g h0
  have h2 := @tBeg_ge bf e (tEnd bf e g)
  show e - _ + 1 < e - g + 1
  omega
theorem mu_nxB {bf : Nat → Int32} {e : Nat} {c : Int32} {ps : PS} (h : isB bf e c ps = true) : muP e (nxP bf e ps) < muP e ps := by
  cases ps with
  | ok g => exact mu_nxK (by rw [isB_g h]; decide)
  | error x => exact absurd h (by simp [isB])
theorem mu_numK {bf : Nat → Int32} {e : Nat} {lo hi : Int64} {ps : PS} (h : okP (numP bf e lo hi ps) = true) : muP e (numP bf e lo hi ps) < muP e ps := by
  cases ps with
  | ok g =>
    have h : okP (if tKind bf e g = 2 then (if m_in (tVal bf e g) lo hi = true then nxP bf e (.ok g) else .error (2, g)) else .error (1, g)) = true := h
    show muP e (if tKind bf e g = 2 then (if m_in (tVal bf e g) lo hi = true then nxP bf e (.ok g) else .error (2, g)) else .error (1, g)) < _
    split at h
    · rename_i hk
      rw [if_pos hk]
      split at h
      · rename_i hm
        rw [if_pos hm]
        exact mu_nxK (by rw [hk]; decide)
      · exact absurd h (by simp [okP])
    · exact absurd h (by simp [okP])
  | error x => exact absurd h (by simp [okP, numP])
theorem mu_val {bf : Nat → Int32} {e : Nat} {ps : PS} (h : okP (valP bf e ps) = true) : muP e (valP bf e ps) < muP e ps := by
  unfold valP at h ⊢
  split at h
  · rename_i hk
    rw [if_pos hk]
    exact mu_numK h
  · rename_i hk
    rw [if_neg hk]
    split at h
    · rw [okP_wr] at h; exact absurd h (by decide)
    · rename_i hp
      rw [if_neg hp]
      obtain ⟨w, hw⟩ := prp_w hp
      exact mu_nxW hw
theorem mu_valle {bf : Nat → Int32} {e : Nat} {ps : PS} : muP e (valP bf e ps) ≤ muP e ps := by
  unfold valP
  split
  · exact mu_num
  · split
    · exact mu_wr
    · exact mu_nx
theorem mu_op {bf : Nat → Int32} {e : Nat} {ps : PS} : muP e (opP bf e ps) ≤ muP e ps := by
  unfold opP
  split
  · exact Nat.le_refl _
  · split
    · exact Nat.le_refl _
    · split
      · exact Nat.le_refl _
      · exact mu_wr
theorem mu_cmp {bf : Nat → Int32} {e : Nat} {ps : PS} (h : okP (cmpP bf e ps) = true) : muP e (cmpP bf e ps) < muP e ps :=
  Nat.lt_of_lt_of_le (mu_val h) (Nat.le_trans mu_nx (Nat.le_trans mu_op mu_valle))
theorem topN_len {W : List Int32} (h : topN W = true) : W.tail.length + 1 = W.length := by
  cases W with
  | nil => exact absurd h (by decide)
  | cons x W => rfl
/-- the machine: ahead of a factor (true), behind one (false); codes laid, codes that wait (the latest first), the text's state -/
def mch (bf : Nat → Int32) (e : Nat) (m : Bool) (C W : List Int32) (ps : PS) : List Int32 × PS :=
  if okP ps = true then
    if m = true then
      if h1 : isW bf e 10631 ps = true then (if opnQ W = 6 then (C, wrP 3 ps) else mch bf e true C (23 :: W) (nxP bf e ps))
      else if h2 : isB bf e 40 ps = true then (if opnQ W = 6 then (C, wrP 3 ps) else mch bf e true C (1 :: W) (nxP bf e ps))
      else if h3 : okP (cmpP bf e ps) = true then mch bf e false (C ++ cmpC bf e ps) W (cmpP bf e ps) else (C, cmpP bf e ps)
    else
      if h4 : topN W = true then mch bf e false (C ++ [23]) W.tail ps
      else if h5 : isB bf e 41 ps = true ∧ insQ W = true then mch bf e false (setT 1 C W).1 (setT 1 C W).2.tail (nxP bf e ps)
      else if h6 : isW bf e 1111 ps = true then mch bf e true (setT 2 C W).1 (24 :: (setT 2 C W).2) (nxP bf e ps)
      else if h7 : isW bf e 423 ps = true then mch bf e true (setT 1 C W).1 (25 :: (setT 1 C W).2) (nxP bf e ps)
      else if insQ W = true ∨ ¬ isK bf e 0 ps = true then (C, wrP 1 ps) else ((setT 1 C W).1, ps)
  else (C, ps)
termination_by 2 * muP e ps + W.length
decreasing_by
  · have := mu_nxW h1
    simp only [List.length_cons]
    omega
  · have := mu_nxB h2
    simp only [List.length_cons]
    omega
  · have := mu_cmp h3
    omega
  · have := topN_len h4
    omega
  · have := mu_nxB h5.1
    have h8 := setT_le (k := 1) W C
    have h9 : (setT 1 C W).2.tail.length ≤ (setT 1 C W).2.length := by simp
    omega
  · have := mu_nxW h6
    have h8 := setT_le (k := 2) W C
    simp only [List.length_cons]
    omega
  · have := mu_nxW h7
    have h8 := setT_le (k := 1) W C
    simp only [List.length_cons]
    omega
section MCH
variable {bf : Nat → Int32} {e : Nat} {C W : List Int32} {ps : PS}
theorem mch_bad {m : Bool} (h : okP ps = false) : mch bf e m C W ps = (C, ps) := by
  rw [mch, if_neg (nt h)]
theorem mch_n6 (h : isW bf e 10631 ps = true) (h6 : opnQ W = 6) : mch bf e true C W ps = (C, wrP 3 ps) := by
  rw [mch, if_pos (isW_ok h), if_pos rfl, dif_pos h, if_pos h6]
theorem mch_n (h : isW bf e 10631 ps = true) (h6 : ¬ opnQ W = 6) : mch bf e true C W ps = mch bf e true C (23 :: W) (nxP bf e ps) := by
  rw [mch, if_pos (isW_ok h), if_pos rfl, dif_pos h, if_neg h6]
theorem mch_p6 (hn : isW bf e 10631 ps = false) (h : isB bf e 40 ps = true) (h6 : opnQ W = 6) : mch bf e true C W ps = (C, wrP 3 ps) := by
  rw [mch, if_pos (isB_ok h), if_pos rfl, dif_neg (nt hn), dif_pos h, if_pos h6]
theorem mch_p (hn : isW bf e 10631 ps = false) (h : isB bf e 40 ps = true) (h6 : ¬ opnQ W = 6) : mch bf e true C W ps = mch bf e true C (1 :: W) (nxP bf e ps) := by
  rw [mch, if_pos (isB_ok h), if_pos rfl, dif_neg (nt hn), dif_pos h, if_neg h6]
theorem val_okP (h : okP (cmpP bf e ps) = true) : okP ps = true := by
  cases ho : okP ps with
  | true => rfl
  | false =>
    have h1 : valP bf e ps = ps := val_bad ho
    have h2 : okP (cmpM bf e ps) = false := by
      rw [cmpM, okP_nx, h1, opP, if_neg (nt (not_isB ho)), if_neg (nt (not_isB ho)), if_neg (nt (not_isB ho)), okP_wr]
    rw [cmpP, val_bad h2, h2] at h
    exact absurd h (by decide)
theorem mch_c (hn : isW bf e 10631 ps = false) (hp : isB bf e 40 ps = false) (h : okP (cmpP bf e ps) = true) : mch bf e true C W ps = mch bf e false (C ++ cmpC bf e ps) W (cmpP bf e ps) := by
  rw [mch, if_pos (val_okP h), if_pos rfl, dif_neg (nt hn), dif_neg (nt hp), dif_pos h]
theorem mch_c0 (ho : okP ps = true) (hn : isW bf e 10631 ps = false) (hp : isB bf e 40 ps = false) (h : okP (cmpP bf e ps) = false) : mch bf e true C W ps = (C, cmpP bf e ps) := by
  rw [mch, if_pos ho, if_pos rfl, dif_neg (nt hn), dif_neg (nt hp), dif_neg (nt h)]
theorem mch_t (ho : okP ps = true) : mch bf e false C (23 :: W) ps = mch bf e false (C ++ [23]) W ps := by
  rw [mch, if_pos ho, if_neg (by decide), dif_pos (by rfl)]
  rfl
theorem mch_r (ht : topN W = false) (h : isB bf e 41 ps = true) (hi : insQ W = true) : mch bf e false C W ps = mch bf e false (setT 1 C W).1 (setT 1 C W).2.tail (nxP bf e ps) := by
  rw [mch, if_pos (isB_ok h), if_neg (by decide), dif_neg (nt ht), dif_pos ⟨h, hi⟩]
theorem mch_a (ht : topN W = false) (hr : ¬ (isB bf e 41 ps = true ∧ insQ W = true)) (h : isW bf e 1111 ps = true) : mch bf e false C W ps = mch bf e true (setT 2 C W).1 (24 :: (setT 2 C W).2) (nxP bf e ps) := by
  rw [mch, if_pos (isW_ok h), if_neg (by decide), dif_neg (nt ht), dif_neg hr, dif_pos h]
theorem mch_o (ht : topN W = false) (hr : ¬ (isB bf e 41 ps = true ∧ insQ W = true)) (ha : isW bf e 1111 ps = false) (h : isW bf e 423 ps = true) : mch bf e false C W ps = mch bf e true (setT 1 C W).1 (25 :: (setT 1 C W).2) (nxP bf e ps) := by
  rw [mch, if_pos (isW_ok h), if_neg (by decide), dif_neg (nt ht), dif_neg hr, dif_neg (nt ha), dif_pos h]
theorem mch_e (ho : okP ps = true) (ht : topN W = false) (hr : ¬ (isB bf e 41 ps = true ∧ insQ W = true)) (ha : isW bf e 1111 ps = false) (h : isW bf e 423 ps = false) : mch bf e false C W ps = if insQ W = true ∨ ¬ isK bf e 0 ps = true then (C, wrP 1 ps) else ((setT 1 C W).1, ps) := by
  rw [mch, if_pos ho, if_neg (by decide), dif_neg (nt ht), dif_neg hr, dif_neg (nt ha), dif_neg (nt h)]
theorem mch_s3 (ho : okP ps = true) : ∀ (W C : List Int32), mch bf e false C W ps = mch bf e false (setT 3 C W).1 (setT 3 C W).2 ps := by
  intro W
  induction W with
  | nil => intro C; rfl
  | cons x W ih =>
    intro C
    rw [setT]
    split
    · rename_i hs
      have hx : x = 23 := by
        unfold strQ at hs
        split at hs
        · omega
        · split at hs
          · omega
          · split at hs
            · assumption
            · omega
      subst hx
      rw [mch_t ho, ih]
    · rfl
end MCH
theorem topN_3 : ∀ (W C : List Int32), topN (setT 3 C W).2 = false := by
  intro W
  induction W with
  | nil => intro C; rfl
  | cons x W ih =>
    intro C
    rw [setT]
    split
    · exact ih _
    · rename_i hs
      refine decide_eq_false fun hx => hs ?_
      subst hx
      decide
/-- lists laid in arrays -/
def lsR (C : List Int32) (f : Nat → Int32) : Prop := ∀ (k : Nat) (q : Int32), C[k]? = some q → f k = q
def stR : List Int32 → (Nat → Int32) → Prop
  | [], _ => True
  | x :: W, f => f W.length = x ∧ stR W f
theorem lsR_nil {f : Nat → Int32} : lsR [] f := fun k q h => by simp at h
theorem lsR_app {C : List Int32} {f : Nat → Int32} {c : Int32} (h : lsR C f) : lsR (C ++ [c]) (va_up f C.length c) := by
  intro k q hq
  by_cases hk : k = C.length
  · subst hk
    have : q = c := by simpa using hq.symm
    rw [up_same, this]
  · rw [up_ne hk]
    by_cases hk2 : k < C.length
    · rw [List.getElem?_append_left hk2] at hq
      exact h k q hq
    · rw [List.getElem?_append_right (by omega)] at hq
      have := (List.getElem?_eq_some_iff.mp hq).1
      simp at this; omega
theorem stR_up {f : Nat → Int32} {c : Int32} : ∀ {W : List Int32} {k : Nat}, stR W f → W.length ≤ k → stR W (va_up f k c) := by
  intro W
  induction W with
  | nil => intro k _ _; trivial
  | cons x W ih =>
    intro k h hk
    have hk : W.length + 1 ≤ k := hk
    exact ⟨by rw [up_ne (by omega)]; exact h.1, ih h.2 (by omega)⟩
theorem stR_push {W : List Int32} {f : Nat → Int32} {c : Int32} (h : stR W f) : stR (c :: W) (va_up f W.length c) := ⟨up_same _ _ _, stR_up h (Nat.le_refl _)⟩
theorem stR_ins {f : Nat → Int32} : ∀ {W : List Int32}, stR W f → ((∃ k, k < W.length ∧ f k = 1) ↔ insQ W = true) := by
  intro W
  induction W with
  | nil => intro _; exact ⟨fun ⟨k, hk, _⟩ => absurd hk (by simp), fun h => absurd h (by decide)⟩
  | cons x W ih =>
    intro h
    simp only [insQ, Bool.or_eq_true, decide_eq_true_eq]
    rw [← ih h.2]
    constructor
    · rintro ⟨k, hk, hf⟩
      have hk : k < W.length + 1 := hk
      by_cases hk2 : k = W.length
      · subst hk2; exact Or.inl (h.1.symm.trans hf)
      · exact Or.inr ⟨k, by omega, hf⟩
    · rintro (hx | ⟨k, hk, hf⟩)
      · exact ⟨W.length, Nat.lt_succ_self _, h.1.trans hx⟩
      · exact ⟨k, Nat.lt_succ_of_lt hk, hf⟩
/-- the fields and arrays of a query's codes -/
def qS (i : Nat → Int32) (co wt : Nat → Int32) (C W : List Int32) : Prop := i 36 = nI C.length ∧ i 37 = nI W.length ∧ i 38 = nI (opnQ W) ∧ lsR C co ∧ stR W wt
def qI (i i' : Nat → Int32) : Prop := ∀ k, k ≠ 16 → k ≠ 17 → k ≠ 18 → k ≠ 21 → k ≠ 22 → k ≠ 36 → k ≠ 37 → k ≠ 38 → i' k = i k
theorem qI_refl (i : Nat → Int32) : qI i i := fun _ _ _ _ _ _ _ _ _ => rfl
theorem qI.trans {i i1 i2 : Nat → Int32} (h : qI i i1) (h2 : gI i1 i2) : qI i i2 := fun k a b c d f x y z => (h2 k a b c d f).trans (h k a b c d f x y z)
theorem qI.tr {i i1 i2 : Nat → Int32} (h : qI i i1) (h2 : qI i1 i2) : qI i i2 := fun k a b c d f x y z => (h2 k a b c d f x y z).trans (h k a b c d f x y z)
theorem qI.u36 {i i1 : Nat → Int32} {v : Int32} (h : qI i i1) : qI i (va_up i1 36 v) := fun k a b c d f x y z => by rw [up_ne x]; exact h k a b c d f x y z
theorem qI.u37 {i i1 : Nat → Int32} {v : Int32} (h : qI i i1) : qI i (va_up i1 37 v) := fun k a b c d f x y z => by rw [up_ne y]; exact h k a b c d f x y z
theorem qI.u38 {i i1 : Nat → Int32} {v : Int32} (h : qI i i1) : qI i (va_up i1 38 v) := fun k a b c d f x y z => by rw [up_ne z]; exact h k a b c d f x y z
theorem gI.q {i i1 : Nat → Int32} (h : gI i i1) : qI i i1 := (qI_refl i).trans h
theorem qS.g {i i1 co wt : Nat → Int32} {C W : List Int32} (h : qS i co wt C W) (g : gI i i1) : qS i1 co wt C W :=
  ⟨(g 36 (by decide) (by decide) (by decide) (by decide) (by decide)).trans h.1, (g 37 (by decide) (by decide) (by decide) (by decide) (by decide)).trans h.2.1, (g 38 (by decide) (by decide) (by decide) (by decide) (by decide)).trans h.2.2.1, h.2.2.2⟩
theorem rd_of {bf : Nat → Int32} {e : Nat} {i i1 : Nat → Int32} {j : Nat → Int64} {ps : PS} (h : rdP bf e i j ps) (h15 : i1 15 = i 15) (h16 : i1 16 = i 16) (h17 : i1 17 = i 17) (h18 : i1 18 = i 18) (h21 : i1 21 = i 21) (h22 : i1 22 = i 22) : rdP bf e i1 j ps := by
  cases ps with
  | ok g =>
    obtain ⟨⟨a1, a2, a3, a4, a5, a6⟩, b1, b2⟩ := h
    exact ⟨⟨a1, h15.trans a2, h16.trans a3, h17.trans a4, h18.trans a5, a6⟩, h21.trans b1, h22.trans b2⟩
  | error x =>
    obtain ⟨a1, a2, a3, a4⟩ := h
    exact ⟨h15.trans a1, a2, h21.trans a3, h22.trans a4⟩
theorem rd36 {bf : Nat → Int32} {e : Nat} {i : Nat → Int32} {j : Nat → Int64} {ps : PS} {v : Int32} (h : rdP bf e i j ps) : rdP bf e (va_up i 36 v) j ps := rd_of h rfl rfl rfl rfl rfl rfl
theorem rd37 {bf : Nat → Int32} {e : Nat} {i : Nat → Int32} {j : Nat → Int64} {ps : PS} {v : Int32} (h : rdP bf e i j ps) : rdP bf e (va_up i 37 v) j ps := rd_of h rfl rfl rfl rfl rfl rfl
theorem rd38 {bf : Nat → Int32} {e : Nat} {i : Nat → Int32} {j : Nat → Int64} {ps : PS} {v : Int32} (h : rdP bf e i j ps) : rdP bf e (va_up i 38 v) j ps := rd_of h rfl rfl rfl rfl rfl rfl
/-- at least n places ahead of where one reads -/
def leP (n : Nat) : PS → Prop
  | .ok g => n ≤ g
  | .error _ => True
theorem leP_0 {ps : PS} : leP 0 ps := by cases ps <;> first | exact Nat.zero_le _ | trivial
theorem leP_nxK {bf : Nat → Int32} {e g n : Nat} (hk : ¬ tKind bf e g = 0) (h : leP n (.ok g)) : leP (n + 1) (nxP bf e (.ok g)) := by
  have h0 : g < e := tK_in hk
  have h1 := @tEnd_gt bf e g h0
  have h2 := @tBeg_ge bf e (tEnd bf e g)
  have h : n ≤ g := h
  show n + 1 ≤ tBeg bf e (tEnd bf e g)
  omega
theorem leP_nxW {bf : Nat → Int32} {e n : Nat} {w : Int64} {ps : PS} (hw : isW bf e w ps = true) (h : leP n ps) : leP (n + 1) (nxP bf e ps) := by
  cases ps with
  | ok g => exact leP_nxK (by rw [isW_g hw]; decide) h
  | error x => exact absurd hw (by simp [isW])
theorem leP_nxB {bf : Nat → Int32} {e n : Nat} {w : Int32} {ps : PS} (hw : isB bf e w ps = true) (h : leP n ps) : leP (n + 1) (nxP bf e ps) := by
  cases ps with
  | ok g => exact leP_nxK (by rw [isB_g hw]; decide) h
  | error x => exact absurd hw (by simp [isB])
theorem leP_ltW {bf : Nat → Int32} {e n : Nat} {w : Int64} {ps : PS} (hw : isW bf e w ps = true) (h : leP n ps) : n < e := by
  cases ps with
  | ok g => exact Nat.lt_of_le_of_lt h (tK_in (by rw [isW_g hw]; decide))
  | error x => exact absurd hw (by simp [isW])
theorem leP_ltB {bf : Nat → Int32} {e n : Nat} {w : Int32} {ps : PS} (hw : isB bf e w ps = true) (h : leP n ps) : n < e := by
  cases ps with
  | ok g => exact Nat.lt_of_le_of_lt h (tK_in (by rw [isB_g hw]; decide))
  | error x => exact absurd hw (by simp [isB])
theorem leP.mono {n m : Nat} {ps : PS} (h : leP n ps) (hm : m ≤ n) : leP m ps := by
  cases ps with
  | ok g => exact Nat.le_trans hm h
  | error x => trivial
theorem leP_e {n : Nat} {ps : PS} (h : okP ps = false) : leP n ps := by
  cases ps with
  | ok g => exact absurd h (by simp [okP])
  | error x => trivial
theorem leP_lt {bf : Nat → Int32} {e n : Nat} {i : Nat → Int32} {j : Nat → Int64} {ps : PS} (h : leP n ps) (hr : rdP bf e i j ps) (ho : okP ps = true) : n ≤ e := by
  cases ps with
  | ok g => exact Nat.le_trans h hr.1.1
  | error x => exact absurd ho (by simp [okP])
theorem leP_num {bf : Nat → Int32} {e n : Nat} {lo hi : Int64} {ps : PS} (h : leP n ps) : leP (n + 1) (numP bf e lo hi ps) := by
  cases ps with
  | ok g =>
    show leP (n + 1) (if tKind bf e g = 2 then (if m_in (tVal bf e g) lo hi = true then nxP bf e (.ok g) else .error (2, g)) else .error (1, g))
    split
    · rename_i hk
      split
      · exact leP_nxK (by rw [hk]; decide) h
      · trivial
    · trivial
  | error x => trivial
theorem valC_le {bf : Nat → Int32} {e : Nat} {ps : PS} : (valC bf e ps).length ≤ 1 := by
  unfold valC
  split
  · exact Nat.le_refl _
  · split
    · exact Nat.zero_le _
    · exact Nat.le_refl _
theorem leP_val {bf : Nat → Int32} {e n : Nat} {ps : PS} (h : leP n ps) : leP (n + 1) (valP bf e ps) := by
  unfold valP
  split
  · exact leP_num h
  · split
    · exact leP_e okP_wr
    · rename_i hp
      obtain ⟨w, hw⟩ := prp_w hp
      exact leP_nxW hw h
theorem isK_2 {bf : Nat → Int32} {e g : Nat} (h : tKind bf e g = 2) : isK bf e 2 (.ok g) = true := decide_eq_true h
theorem isK_n2 {bf : Nat → Int32} {e g : Nat} (h : ¬ tKind bf e g = 2) : ¬ isK bf e 2 (.ok g) = true := fun hk => h (of_decide_eq_true hk)
theorem opP_s {bf : Nat → Int32} {e : Nat} {ps : PS} (h : okP (opP bf e ps) = true) : opP bf e ps = ps ∧ ∃ w, isB bf e w ps = true := by
  unfold opP at h ⊢
  split at h
  · rename_i h1; rw [if_pos h1]; exact ⟨rfl, _, h1⟩
  · rename_i h1; rw [if_neg h1]
    split at h
    · rename_i h2; rw [if_pos h2]; exact ⟨rfl, _, h2⟩
    · rename_i h2; rw [if_neg h2]
      split at h
      · rename_i h3; rw [if_pos h3]; exact ⟨rfl, _, h3⟩
      · rw [okP_wr] at h; exact absurd h (by decide)
theorem leP_op {bf : Nat → Int32} {e n : Nat} {ps : PS} (h : leP n ps) : leP (n + 1) (nxP bf e (opP bf e ps)) := by
  cases ho : okP (opP bf e ps) with
  | false => exact leP_e (by rw [okP_nx]; exact ho)
  | true =>
    obtain ⟨h1, w, h2⟩ := opP_s ho
    rw [h1]
    exact leP_nxB h2 h
