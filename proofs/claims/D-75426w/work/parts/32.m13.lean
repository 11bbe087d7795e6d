/-! ===== the reference: rounds ===== -/
set_option maxRecDepth 100000
def rndE (t r : Nat → Int64) (x : Int64) (kd N k : Nat) (pa : Nat → Int64) : Int64 := if isInQ (chQ r k x) = true then errF t (chQ r k x) pa kd N else 4611686018427387904
def rndP (t r : Nat → Int64) (x : Int64) (N k : Nat) (pa : Nat → Int64) : Nat → Int64 := if isInQ (chQ r k x) = true then (pathQ t (chQ r k x) pa N).2.2 else pa
/-- one try of a round: the best so far, its error, the path laid -/
def rnd1 (t r : Nat → Int64) (x : Int64) (kd N k : Nat) (s : Option Nat × Int64 × (Nat → Int64)) : Option Nat × Int64 × (Nat → Int64) :=
  if rndE t r x kd N k s.2.2 < s.2.1 then (some k, rndE t r x kd N k s.2.2, rndP t r x N k s.2.2) else (s.1, s.2.1, rndP t r x N k s.2.2)
def rndL (t r : Nat → Int64) (x : Int64) (kd N : Nat) : Nat → Nat → Option Nat × Int64 × (Nat → Int64) → Option Nat × Int64 × (Nat → Int64)
  | 0, _, s => s
  | f + 1, k, s => rndL t r x kd N f (k + 1) (rnd1 t r x kd N k s)
def bO : Option Nat → Int32
  | none => -1
  | some q => nI q
theorem bO_none : bO none = -1 := rfl
theorem bO_some {q : Nat} : bO (some q) = nI q := rfl
theorem bO_ne {q : Nat} (h : q < 8) : ¬ nI q = -1 := by
  rcases (show q = 0 ∨ q = 1 ∨ q = 2 ∨ q = 3 ∨ q = 4 ∨ q = 5 ∨ q = 6 ∨ q = 7 by omega) with rfl | rfl | rfl | rfl | rfl | rfl | rfl | rfl <;> decide
def oLt (o : Option Nat) : Prop := ∀ q, o = some q → q < 8
theorem rndL_lt {t r : Nat → Int64} {x : Int64} {kd N : Nat} : ∀ {f k : Nat} {s : Option Nat × Int64 × (Nat → Int64)}, k + f ≤ 8 → oLt s.1 → oLt (rndL t r x kd N f k s).1 := by
  intro f
  induction f with
  | zero => intro k s _ h; exact h
  | succ f ih =>
    intro k s hk h
    rw [rndL]
    refine ih (by omega) ?_
    unfold rnd1
    split
    · intro q e
      injection e with e
      omega
    · exact h
theorem mOK_ch {r : Nat → Int64} {q : Nat} {x : Int64} (h : mOK r) (hq : q < 8) : mOK (chQ r q x) := by
  refine mOK_eq ?_ ?_ ?_ h <;> (unfold chQ; rw [up_ne (by omega), up_ne (by omega)])
theorem rn_i0 {C : xC} {I : xV → Prop} {k n pc v : Nat} {x y : Int32} {l : List (Nat × Value)} {st : List Value} (e : x = y) (h : rn C I k n pc ((v, .int y) :: l) st) : rn C I k n pc ((v, .int x) :: l) st := by
  subst e
  exact h
theorem rn_i1 {C : xC} {I : xV → Prop} {k n pc v : Nat} {w : Nat × Value} {x y : Int32} {l : List (Nat × Value)} {st : List Value} (e : x = y) (h : rn C I k n pc (w :: (v, .int y) :: l) st) : rn C I k n pc (w :: (v, .int x) :: l) st := by
  subst e
  exact h
def rndR (t r : Nat → Int64) (x : Int64) (kd N : Nat) (pr : Int64) (pa : Nat → Int64) : Option Nat × Int64 × (Nat → Int64) := rndL t r x kd N 8 0 (none, pr, pa)
def rndV (s : Option Nat × Int64 × (Nat → Int64)) (pr : Int64) : Int64 := if s.1 = none then pr else s.2.1
def rndX (s : Option Nat × Int64 × (Nat → Int64)) (x : Int64) : Int64 := if s.1 = none then x / 2 else x
def rndN (s : Option Nat × Int64 × (Nat → Int64)) (r : Nat → Int64) (x : Int64) : Nat → Int64 := match s.1 with
  | none => r
  | some q => chQ r q x
theorem rndV_n {s : Option Nat × Int64 × (Nat → Int64)} {pr : Int64} (h : s.1 = none) : rndV s pr = pr := if_pos h
theorem rndV_s {s : Option Nat × Int64 × (Nat → Int64)} {pr : Int64} {q : Nat} (h : s.1 = some q) : rndV s pr = s.2.1 := if_neg (by rw [h]; exact fun e => nomatch e)
theorem rndX_n {s : Option Nat × Int64 × (Nat → Int64)} {x : Int64} (h : s.1 = none) : rndX s x = x / 2 := if_pos h
theorem rndX_s {s : Option Nat × Int64 × (Nat → Int64)} {x : Int64} {q : Nat} (h : s.1 = some q) : rndX s x = x := if_neg (by rw [h]; exact fun e => nomatch e)
theorem rndN_n {s : Option Nat × Int64 × (Nat → Int64)} {r : Nat → Int64} {x : Int64} (h : s.1 = none) : rndN s r x = r := by unfold rndN; rw [h]
theorem rndN_s {s : Option Nat × Int64 × (Nat → Int64)} {r : Nat → Int64} {x : Int64} {q : Nat} (h : s.1 = some q) : rndN s r x = chQ r q x := by unfold rndN; rw [h]
theorem up_id {α : Type} {f : Nat → α} {k : Nat} : va_up f k (f k) = f := by
  funext n
  by_cases h : n = k
  · subst h; exact up_same _ _ _
  · exact up_ne h
theorem rndR_eq {t r : Nat → Int64} {x : Int64} {kd N : Nat} {pr : Int64} {pa : Nat → Int64} : rndR t r x kd N pr pa = rndL t r x kd N 8 0 (none, pr, pa) := by unfold rndR; rfl
theorem rndR_lt {t r : Nat → Int64} {x : Int64} {kd N : Nat} {pr : Int64} {pa : Nat → Int64} {q : Nat} (h : (rndR t r x kd N pr pa).1 = some q) : q < 8 := rndL_lt (f := 8) (k := 0) (by omega) (fun _ e => by cases e) q h
set_option maxHeartbeats 4000000 in
set_option maxRecDepth 100000 in
theorem lpX6_round {C : xC} {F : Nat → Prop} {V0 : xV} {k n : Nat} (hG : xGood (xGG C)) (hC : xCtx C RX6 cX6_round 11 (some .long) { frames := 9, locals := 224, cells := 0, slots := 0 }) (hk0 : k = 0) (hn0 : n = 0) (b : Nat → Nat) (i : Nat → Int32) (j : Nat → Int64) (t r : Nat → Int64) (kd N : Nat) (pr : Int64) (ht : tOK t) (hm : mOK r) (hkd : kd < 4) (hN : N ≤ 300) (hN0 : 0 < N) (R : Option Nat × Int64 × (Nat → Int64)) : ∀ (f c : Nat) (e : Option Nat × Int64 × (Nat → Int64)) (th tr g h0 : Nat → Int64), c + f = 8 → R = rndL t r (j 26) kd N f c e → (∀ th' tr' g' h' : Nat → Int64, rn C (xSt F V0 [(b 0, .inr (5, mF b i j)), (b 7, .inl (1, 5, .inr (.inl t))), (b 1, .inl (1, 111, .inr (.inl r))), (b 2, .inl (1, 111, .inr (.inl th'))), (b 4, .inl (1, 111, .inr (.inl tr'))), (b 23, .inl (1, 6, .inr (.inl g'))), (b 24, .inl (1, 21, .inr (.inl h'))), (b 25, .inl (1, 1806, .inr (.inl R.2.2)))]) k n 72 [(5, .int (bO (R).1)), (6, .long ((R).2.1)), (0, .ref (b 0)), (3, .long pr)] []) → rn C (xSt F V0 [(b 0, .inr (5, mF b i j)), (b 7, .inl (1, 5, .inr (.inl t))), (b 1, .inl (1, 111, .inr (.inl r))), (b 2, .inl (1, 111, .inr (.inl th))), (b 4, .inl (1, 111, .inr (.inl tr))), (b 23, .inl (1, 6, .inr (.inl g))), (b 24, .inl (1, 21, .inr (.inl h0))), (b 25, .inl (1, 1806, .inr (.inl e.2.2)))]) k n 9 [(8, .int (nI c)), (5, .int (bO e.1)), (6, .long e.2.1), (0, .ref (b 0)), (1, .int (nI kd)), (2, .int (nI N)), (3, .long pr)] [] := by
  subst hk0 hn0
  intro f
  induction f with
  | zero =>
    intro c e th tr g h0 hc hR kx
    obtain rfl : c = 8 := by omega
    rw [rndL] at hR
    subst hR
    refine r_iload hC 0 dX6_round_9 rfl 11 rfl ?_
    refine r_bipush hC 8 dX6_round_11 bp_8 13 rfl ?_
    refine r_icge hC 72 dX6_round_13 (by decide) 16 rfl (fun _ => ?_) (fun h => absurd (by decide) h)
    refine rn.sub (lv' := [(5, .int (bO R.1)), (6, .long R.2.1), (0, .ref (b 0)), (3, .long pr)]) [1, 2, 3, 6] rfl ?_
    exact kx _ _ _ _
  | succ f ih =>
    intro c e th tr g h0 hc hR kx
    refine r_iload hC 0 dX6_round_9 rfl 11 rfl ?_
    refine r_bipush hC 8 dX6_round_11 bp_8 13 rfl ?_
    refine r_icge hC 72 dX6_round_13 (by decide) 16 rfl (fun h => absurd h (nI_ge (a := c) (b := 8) (by omega) (by decide))) (fun _ => ?_)
    refine r_aload_n hC 3 dX6_round_16 rfl 17 rfl ?_
    refine r_iload hC 0 dX6_round_17 rfl 19 rfl ?_
    refine r_aload_n hC 3 dX6_round_19 rfl 20 rfl ?_
    refine r_get (v := .long (j 26)) hC kX6 26 rfl q2779 (fun _ h => h.get 0 rfl) rfl dX6_round_20 23 rfl ?_
    refine r_invVw hC kX6 (b 0) [.int (nI c), .long (j 26)] [(b 7, .inl (1, 5, .inr (.inl t))), (b 2, .inl (1, 111, .inr (.inl th))), (b 23, .inl (1, 6, .inr (.inl g))), (b 24, .inl (1, 21, .inr (.inl h0))), (b 25, .inl (1, 1806, .inr (.inl e.2.2)))] mVX6_changes q3241 0 rfl (metX6_changes _ _ hG b _ _ _ _ c (by omega) (j 26)) [0, 2, 4] [1, 3, 5, 6, 7] rfl rfl rfl rfl (by decide) ⟨rfl, rfl⟩ 0 0 rfl rfl (Nat.le_of_ble_eq_true rfl) (Nat.le_of_ble_eq_true rfl) rfl (Nat.le_of_ble_eq_true rfl) dX6_round_23 26 rfl (fun v1 w2 h3 => ?_) (fun _ _ h => h.elim)
    obtain ⟨rfl, rfl⟩ := h3
    show rn C (xSt F V0 [(b 7, .inl (1, 5, .inr (.inl t))), (b 2, .inl (1, 111, .inr (.inl th))), (b 23, .inl (1, 6, .inr (.inl g))), (b 24, .inl (1, 21, .inr (.inl h0))), (b 25, .inl (1, 1806, .inr (.inl e.2.2))), (b 0, .inr (5, mF b i j)), (b 1, .inl (1, 111, .inr (.inl r))), (b 4, .inl (1, 111, .inr (.inl (chQ r c (j 26)))))]) 0 0 26 [(8, .int (nI c)), (5, .int (bO e.1)), (6, .long e.2.1), (0, .ref (b 0)), (1, .int (nI kd)), (2, .int (nI N)), (3, .long pr)] [.int (bI (isInQ (chQ r c (j 26))))]
    refine r_ifeq hC 42 dX6_round_26 (by decide) 29 rfl (fun c4 => ?_) (fun c4 => ?_)
    · skip
      refine r_ldc2 hC q3227 dX6_round_42 45 rfl ?_
      refine r_lstore hC 9 [(9, .long 4611686018427387904), (8, .int (nI c)), (5, .int (bO e.1)), (6, .long e.2.1), (0, .ref (b 0)), (1, .int (nI kd)), (2, .int (nI N)), (3, .long pr)] dX6_round_45 (Nat.le_of_ble_eq_true rfl) rfl 47 rfl ?_
      refine r_lload hC 0 dX6_round_47 rfl 49 rfl ?_
      refine r_lload hC 3 dX6_round_49 rfl 51 rfl ?_
      refine r_lclt hC 58 dX6_round_51 dX6_round_52 (by decide) 55 rfl (fun c5 => ?_) (fun c5 => ?_)
      · skip
        refine r_iload hC 1 dX6_round_58 rfl 60 rfl ?_
        refine r_istore hC 5 [(5, .int (nI c)), (9, .long 4611686018427387904), (8, .int (nI c)), (6, .long e.2.1), (0, .ref (b 0)), (1, .int (nI kd)), (2, .int (nI N)), (3, .long pr)] dX6_round_60 (Nat.le_of_ble_eq_true rfl) rfl 62 rfl ?_
        refine r_lload hC 1 dX6_round_62 rfl 64 rfl ?_
        refine r_lstore hC 6 [(6, .long 4611686018427387904), (5, .int (nI c)), (9, .long 4611686018427387904), (8, .int (nI c)), (0, .ref (b 0)), (1, .int (nI kd)), (2, .int (nI N)), (3, .long pr)] dX6_round_64 (Nat.le_of_ble_eq_true rfl) rfl 66 rfl ?_
        refine r_iinc hC (nI (c + 1)) 8 3 [(8, .int (nI (c + 1))), (6, .long 4611686018427387904), (5, .int (nI c)), (9, .long 4611686018427387904), (0, .ref (b 0)), (1, .int (nI kd)), (2, .int (nI N)), (3, .long pr)] dX6_round_66 rfl (nI_add c 1) (Nat.le_of_ble_eq_true rfl) rfl 69 rfl ?_
        refine r_goto hC 9 dX6_round_69 (by decide) ?_
        have hE : rndE t r (j 26) kd N c e.2.2 = 4611686018427387904 := (if_neg (by rw [bI_0.mp c4]; decide))
        have hP : rndP t r (j 26) N c e.2.2 = e.2.2 := (if_neg (by rw [bI_0.mp c4]; decide))
        have hb : rnd1 t r (j 26) kd N c e = (some c, 4611686018427387904, e.2.2) := by
          unfold rnd1
          rw [hE, hP, if_pos c5]
        rw [rndL, hb] at hR
        refine rn.mono (J := xSt F V0 [(b 0, .inr (5, mF b i j)), (b 7, .inl (1, 5, .inr (.inl t))), (b 1, .inl (1, 111, .inr (.inl r))), (b 2, .inl (1, 111, .inr (.inl th))), (b 4, .inl (1, 111, .inr (.inl (chQ r c (j 26))))), (b 23, .inl (1, 6, .inr (.inl g))), (b 24, .inl (1, 21, .inr (.inl h0))), (b 25, .inl (1, 1806, .inr (.inl e.2.2)))]) (fun _ h => h.sub [5, 0, 6, 1, 7, 2, 3, 4] rfl rfl) ?_
        refine rn.sub (lv' := [(8, .int (nI (c + 1))), (5, .int (nI c)), (6, .long 4611686018427387904), (0, .ref (b 0)), (1, .int (nI kd)), (2, .int (nI N)), (3, .long pr)]) [0, 2, 1, 4, 5, 6, 7] rfl ?_
        exact ih (c + 1) (some c, 4611686018427387904, e.2.2) th (chQ r c (j 26)) g h0 (by omega) hR kx
      · skip
        refine r_goto hC 66 dX6_round_55 (by decide) ?_
        refine r_iinc hC (nI (c + 1)) 8 1 [(8, .int (nI (c + 1))), (9, .long 4611686018427387904), (5, .int (bO e.1)), (6, .long e.2.1), (0, .ref (b 0)), (1, .int (nI kd)), (2, .int (nI N)), (3, .long pr)] dX6_round_66 rfl (nI_add c 1) (Nat.le_of_ble_eq_true rfl) rfl 69 rfl ?_
        refine r_goto hC 9 dX6_round_69 (by decide) ?_
        have hE : rndE t r (j 26) kd N c e.2.2 = 4611686018427387904 := (if_neg (by rw [bI_0.mp c4]; decide))
        have hP : rndP t r (j 26) N c e.2.2 = e.2.2 := (if_neg (by rw [bI_0.mp c4]; decide))
        have hb : rnd1 t r (j 26) kd N c e = (e.1, e.2.1, e.2.2) := by
          unfold rnd1
          rw [hE, hP, if_neg c5]
        rw [rndL, hb] at hR
        refine rn.mono (J := xSt F V0 [(b 0, .inr (5, mF b i j)), (b 7, .inl (1, 5, .inr (.inl t))), (b 1, .inl (1, 111, .inr (.inl r))), (b 2, .inl (1, 111, .inr (.inl th))), (b 4, .inl (1, 111, .inr (.inl (chQ r c (j 26))))), (b 23, .inl (1, 6, .inr (.inl g))), (b 24, .inl (1, 21, .inr (.inl h0))), (b 25, .inl (1, 1806, .inr (.inl e.2.2)))]) (fun _ h => h.sub [5, 0, 6, 1, 7, 2, 3, 4] rfl rfl) ?_
        refine rn.sub (lv' := [(8, .int (nI (c + 1))), (5, .int (bO e.1)), (6, .long e.2.1), (0, .ref (b 0)), (1, .int (nI kd)), (2, .int (nI N)), (3, .long pr)]) [0, 2, 3, 4, 5, 6, 7] rfl ?_
        exact ih (c + 1) (e.1, e.2.1, e.2.2) th (chQ r c (j 26)) g h0 (by omega) hR kx
    · skip
      refine r_aload_n hC 3 dX6_round_29 rfl 30 rfl ?_
      refine r_aload_n hC 3 dX6_round_30 rfl 31 rfl ?_
      refine r_get (v := .ref (b 4)) hC kX6 4 rfl q2757 (fun _ h => h.get 5 rfl) rfl dX6_round_31 34 rfl ?_
      refine r_iload_n hC 4 dX6_round_34 rfl 35 rfl ?_
      refine r_iload_n hC 5 dX6_round_35 rfl 36 rfl ?_
      refine r_invVw hC kX6 (b 0) [.ref (b 4), .int (nI kd), .int (nI N)] [(b 1, .inl (1, 111, .inr (.inl r)))] mVX6_errorFrom q3178 5 rfl (metX6_errorFrom _ _ hG b _ _ (b 4) _ _ _ _ _ _ N kd ht (mOK_ch hm (by omega)) (by omega) (by omega) (by omega)) [5, 0, 1, 2, 3, 4, 7] [6] rfl rfl rfl rfl (by decide) ⟨rfl, rfl⟩ 0 0 rfl rfl (Nat.le_of_ble_eq_true rfl) (Nat.le_of_ble_eq_true rfl) rfl (Nat.le_of_ble_eq_true rfl) dX6_round_36 39 rfl (fun v9 w10 h11 => ?_) (fun _ _ h => h.elim)
      obtain ⟨th6, g7, h8, rfl, rfl⟩ := h11
      show rn C (xSt F V0 [(b 1, .inl (1, 111, .inr (.inl r))), (b 0, .inr (5, mF b i j)), (b 7, .inl (1, 5, .inr (.inl t))), (b 2, .inl (1, 111, .inr (.inl th6))), (b 23, .inl (1, 6, .inr (.inl g7))), (b 24, .inl (1, 21, .inr (.inl h8))), (b 25, .inl (1, 1806, .inr (.inl ((pathQ t (chQ r c (j 26)) e.2.2 N).2.2)))), (b 4, .inl (1, 111, .inr (.inl (chQ r c (j 26)))))]) 0 0 39 [(8, .int (nI c)), (5, .int (bO e.1)), (6, .long e.2.1), (0, .ref (b 0)), (1, .int (nI kd)), (2, .int (nI N)), (3, .long pr)] [.long (errF t (chQ r c (j 26)) e.2.2 kd N)]
      refine r_goto hC 45 dX6_round_39 (by decide) ?_
      refine r_lstore hC 9 [(9, .long (errF t (chQ r c (j 26)) e.2.2 kd N)), (8, .int (nI c)), (5, .int (bO e.1)), (6, .long e.2.1), (0, .ref (b 0)), (1, .int (nI kd)), (2, .int (nI N)), (3, .long pr)] dX6_round_45 (Nat.le_of_ble_eq_true rfl) rfl 47 rfl ?_
      refine r_lload hC 0 dX6_round_47 rfl 49 rfl ?_
      refine r_lload hC 3 dX6_round_49 rfl 51 rfl ?_
      refine r_lclt hC 58 dX6_round_51 dX6_round_52 (by decide) 55 rfl (fun c12 => ?_) (fun c12 => ?_)
      · skip
        refine r_iload hC 1 dX6_round_58 rfl 60 rfl ?_
        refine r_istore hC 5 [(5, .int (nI c)), (9, .long (errF t (chQ r c (j 26)) e.2.2 kd N)), (8, .int (nI c)), (6, .long e.2.1), (0, .ref (b 0)), (1, .int (nI kd)), (2, .int (nI N)), (3, .long pr)] dX6_round_60 (Nat.le_of_ble_eq_true rfl) rfl 62 rfl ?_
        refine r_lload hC 1 dX6_round_62 rfl 64 rfl ?_
        refine r_lstore hC 6 [(6, .long (errF t (chQ r c (j 26)) e.2.2 kd N)), (5, .int (nI c)), (9, .long (errF t (chQ r c (j 26)) e.2.2 kd N)), (8, .int (nI c)), (0, .ref (b 0)), (1, .int (nI kd)), (2, .int (nI N)), (3, .long pr)] dX6_round_64 (Nat.le_of_ble_eq_true rfl) rfl 66 rfl ?_
        refine r_iinc hC (nI (c + 1)) 8 3 [(8, .int (nI (c + 1))), (6, .long (errF t (chQ r c (j 26)) e.2.2 kd N)), (5, .int (nI c)), (9, .long (errF t (chQ r c (j 26)) e.2.2 kd N)), (0, .ref (b 0)), (1, .int (nI kd)), (2, .int (nI N)), (3, .long pr)] dX6_round_66 rfl (nI_add c 1) (Nat.le_of_ble_eq_true rfl) rfl 69 rfl ?_
        refine r_goto hC 9 dX6_round_69 (by decide) ?_
        have hE : rndE t r (j 26) kd N c e.2.2 = errF t (chQ r c (j 26)) e.2.2 kd N := (if_pos (bI_n0.mp c4))
        have hP : rndP t r (j 26) N c e.2.2 = (pathQ t (chQ r c (j 26)) e.2.2 N).2.2 := (if_pos (bI_n0.mp c4))
        have hb : rnd1 t r (j 26) kd N c e = (some c, errF t (chQ r c (j 26)) e.2.2 kd N, (pathQ t (chQ r c (j 26)) e.2.2 N).2.2) := by
          unfold rnd1
          rw [hE, hP, if_pos c12]
        rw [rndL, hb] at hR
        refine rn.mono (J := xSt F V0 [(b 0, .inr (5, mF b i j)), (b 7, .inl (1, 5, .inr (.inl t))), (b 1, .inl (1, 111, .inr (.inl r))), (b 2, .inl (1, 111, .inr (.inl th6))), (b 4, .inl (1, 111, .inr (.inl (chQ r c (j 26))))), (b 23, .inl (1, 6, .inr (.inl g7))), (b 24, .inl (1, 21, .inr (.inl h8))), (b 25, .inl (1, 1806, .inr (.inl ((pathQ t (chQ r c (j 26)) e.2.2 N).2.2))))]) (fun _ h => h.sub [1, 2, 0, 3, 7, 4, 5, 6] rfl rfl) ?_
        refine rn.sub (lv' := [(8, .int (nI (c + 1))), (5, .int (nI c)), (6, .long (errF t (chQ r c (j 26)) e.2.2 kd N)), (0, .ref (b 0)), (1, .int (nI kd)), (2, .int (nI N)), (3, .long pr)]) [0, 2, 1, 4, 5, 6, 7] rfl ?_
        exact ih (c + 1) (some c, errF t (chQ r c (j 26)) e.2.2 kd N, (pathQ t (chQ r c (j 26)) e.2.2 N).2.2) th6 (chQ r c (j 26)) g7 h8 (by omega) hR kx
      · skip
        refine r_goto hC 66 dX6_round_55 (by decide) ?_
        refine r_iinc hC (nI (c + 1)) 8 1 [(8, .int (nI (c + 1))), (9, .long (errF t (chQ r c (j 26)) e.2.2 kd N)), (5, .int (bO e.1)), (6, .long e.2.1), (0, .ref (b 0)), (1, .int (nI kd)), (2, .int (nI N)), (3, .long pr)] dX6_round_66 rfl (nI_add c 1) (Nat.le_of_ble_eq_true rfl) rfl 69 rfl ?_
        refine r_goto hC 9 dX6_round_69 (by decide) ?_
        have hE : rndE t r (j 26) kd N c e.2.2 = errF t (chQ r c (j 26)) e.2.2 kd N := (if_pos (bI_n0.mp c4))
        have hP : rndP t r (j 26) N c e.2.2 = (pathQ t (chQ r c (j 26)) e.2.2 N).2.2 := (if_pos (bI_n0.mp c4))
        have hb : rnd1 t r (j 26) kd N c e = (e.1, e.2.1, (pathQ t (chQ r c (j 26)) e.2.2 N).2.2) := by
          unfold rnd1
          rw [hE, hP, if_neg c12]
        rw [rndL, hb] at hR
        refine rn.mono (J := xSt F V0 [(b 0, .inr (5, mF b i j)), (b 7, .inl (1, 5, .inr (.inl t))), (b 1, .inl (1, 111, .inr (.inl r))), (b 2, .inl (1, 111, .inr (.inl th6))), (b 4, .inl (1, 111, .inr (.inl (chQ r c (j 26))))), (b 23, .inl (1, 6, .inr (.inl g7))), (b 24, .inl (1, 21, .inr (.inl h8))), (b 25, .inl (1, 1806, .inr (.inl ((pathQ t (chQ r c (j 26)) e.2.2 N).2.2))))]) (fun _ h => h.sub [1, 2, 0, 3, 7, 4, 5, 6] rfl rfl) ?_
        refine rn.sub (lv' := [(8, .int (nI (c + 1))), (5, .int (bO e.1)), (6, .long e.2.1), (0, .ref (b 0)), (1, .int (nI kd)), (2, .int (nI N)), (3, .long pr)]) [0, 2, 3, 4, 5, 6, 7] rfl ?_
        exact ih (c + 1) (e.1, e.2.1, (pathQ t (chQ r c (j 26)) e.2.2 N).2.2) th6 (chQ r c (j 26)) g7 h8 (by omega) hR kx
set_option maxHeartbeats 4000000 in
set_option maxRecDepth 100000 in
theorem metX6_round0 (l : Launch) (G : xG) (hG : xGood G) (b : Nat → Nat) (i : Nat → Int32) (j : Nat → Int64) (t r th tr g h0 pa : Nat → Int64) (kd N : Nat) (pr : Int64) (ht : tOK t) (hm : mOK r) (hkd : kd < 4) (hN : N ≤ 300) (hN0 : 0 < N) (R : Option Nat × Int64 × (Nat → Int64)) (hR : R = rndL t r (j 26) kd N 8 0 (none, pr, pa)) (hs : (R).1 = none) : xWm l G yX6_round (Cond.code yX6_round cX6_round 11 (some .long)) { frames := 9, locals := 224, cells := 0, slots := 0 } [.ref (b 0), .int (nI kd), .int (nI N), .long pr] [(b 0, .inr (5, mF b i j)), (b 7, .inl (1, 5, .inr (.inl t))), (b 1, .inl (1, 111, .inr (.inl r))), (b 2, .inl (1, 111, .inr (.inl th))), (b 4, .inl (1, 111, .inr (.inl tr))), (b 23, .inl (1, 6, .inr (.inl g))), (b 24, .inl (1, 21, .inr (.inl h0))), (b 25, .inl (1, 1806, .inr (.inl pa)))] (fun v w' => ∃ th' tr' g' h' : Nat → Int64, v = some (.long (rndV (R) pr)) ∧ w' = [(b 0, .inr (5, mF b i (va_up j 26 (rndX (R) (j 26))))), (b 7, .inl (1, 5, .inr (.inl t))), (b 1, .inl (1, 111, .inr (.inl (rndN (R) r (j 26))))), (b 2, .inl (1, 111, .inr (.inl th'))), (b 4, .inl (1, 111, .inr (.inl tr'))), (b 23, .inl (1, 6, .inr (.inl g'))), (b 24, .inl (1, 21, .inr (.inl h'))), (b 25, .inl (1, 1806, .inr (.inl ((R).2.2))))]) (fun _ _ => False) := by
  intro V hV
  refine xMet_of RX6 hG rfl (by decide) (Nat.le_of_ble_eq_true rfl) fun C hC hQ hX hl hg _ => ?_
  subst hl hg
  obtain ⟨V0, hV0⟩ : ∃ V0, V0 = V := ⟨_, rfl⟩
  obtain ⟨F, hF⟩ : ∃ F, F = xF [(b 0, .inr (5, mF b i j)), (b 7, .inl (1, 5, .inr (.inl t))), (b 1, .inl (1, 111, .inr (.inl r))), (b 2, .inl (1, 111, .inr (.inl th))), (b 4, .inl (1, 111, .inr (.inl tr))), (b 23, .inl (1, 6, .inr (.inl g))), (b 24, .inl (1, 21, .inr (.inl h0))), (b 25, .inl (1, 1806, .inr (.inl pa)))] := ⟨_, rfl⟩
  refine rn.mono (J := xSt F V0 [(b 0, .inr (5, mF b i j)), (b 7, .inl (1, 5, .inr (.inl t))), (b 1, .inl (1, 111, .inr (.inl r))), (b 2, .inl (1, 111, .inr (.inl th))), (b 4, .inl (1, 111, .inr (.inl tr))), (b 23, .inl (1, 6, .inr (.inl g))), (b 24, .inl (1, 21, .inr (.inl h0))), (b 25, .inl (1, 1806, .inr (.inl pa)))]) (fun V9 h => by rw [h, hV0, hF]; exact hV.st) ?_
  show rn C (xSt F V0 [(b 0, .inr (5, mF b i j)), (b 7, .inl (1, 5, .inr (.inl t))), (b 1, .inl (1, 111, .inr (.inl r))), (b 2, .inl (1, 111, .inr (.inl th))), (b 4, .inl (1, 111, .inr (.inl tr))), (b 23, .inl (1, 6, .inr (.inl g))), (b 24, .inl (1, 21, .inr (.inl h0))), (b 25, .inl (1, 1806, .inr (.inl pa)))]) 0 0 0 [(0, .ref (b 0)), (1, .int (nI kd)), (2, .int (nI N)), (3, .long pr)] []
  refine r_iconst hC (-1) dX6_round_0 ic_m1 1 rfl ?_
  refine r_istore hC 5 [(5, .int (-1)), (0, .ref (b 0)), (1, .int (nI kd)), (2, .int (nI N)), (3, .long pr)] dX6_round_1 (Nat.le_of_ble_eq_true rfl) rfl 3 rfl ?_
  refine r_lload_n hC 4 dX6_round_3 rfl 4 rfl ?_
  refine r_lstore hC 6 [(6, .long pr), (5, .int (-1)), (0, .ref (b 0)), (1, .int (nI kd)), (2, .int (nI N)), (3, .long pr)] dX6_round_4 (Nat.le_of_ble_eq_true rfl) rfl 6 rfl ?_
  refine r_iconst hC 0 dX6_round_6 ic_0 7 rfl ?_
  refine r_istore hC 8 [(8, .int 0), (6, .long pr), (5, .int (-1)), (0, .ref (b 0)), (1, .int (nI kd)), (2, .int (nI N)), (3, .long pr)] dX6_round_7 (Nat.le_of_ble_eq_true rfl) rfl 9 rfl ?_
  refine rn.sub (lv' := [(8, .int 0), (5, .int (-1)), (6, .long pr), (0, .ref (b 0)), (1, .int (nI kd)), (2, .int (nI N)), (3, .long pr)]) [0, 2, 1, 3, 4, 5, 6] rfl ?_
  refine rn_i1 (y := bO none) bO_none.symm ?_
  refine lpX6_round hG hC rfl rfl b i j t r kd N pr ht hm hkd hN hN0 R 8 0 (none, pr, pa) th tr g h0 rfl hR (fun th1 tr1 g1 h1 => ?_)
  show rn C (xSt F V0 [(b 0, .inr (5, mF b i j)), (b 7, .inl (1, 5, .inr (.inl t))), (b 1, .inl (1, 111, .inr (.inl r))), (b 2, .inl (1, 111, .inr (.inl th1))), (b 4, .inl (1, 111, .inr (.inl tr1))), (b 23, .inl (1, 6, .inr (.inl g1))), (b 24, .inl (1, 21, .inr (.inl h1))), (b 25, .inl (1, 1806, .inr (.inl ((R).2.2))))]) 0 0 72 [(5, .int (bO (R).1)), (6, .long ((R).2.1)), (0, .ref (b 0)), (3, .long pr)] []
  refine rn_i0 (y := (-1)) ((congrArg bO hs).trans bO_none) ?_
  refine r_iload hC 0 dX6_round_72 rfl 74 rfl ?_
  refine r_iconst hC (-1) dX6_round_74 ic_m1 75 rfl ?_
  refine r_icne hC 92 dX6_round_75 (by decide) 78 rfl (fun h => absurd h (by decide)) (fun _ => ?_)
  refine r_aload_n hC 2 dX6_round_78 rfl 79 rfl ?_
  refine r_dup hC dX6_round_79 rfl 80 rfl ?_
  refine r_get (v := .long (j 26)) hC kX6 26 rfl q2779 (fun _ h => h.get 0 rfl) rfl dX6_round_80 83 rfl ?_
  refine r_ldc2 hC q2728 dX6_round_83 86 rfl ?_
  refine r_ldiv hC ((j 26) / 2) dX6_round_86 (by decide) (rfl) 87 rfl ?_
  refine r_put (J := xSt F V0 [(b 0, .inr (5, mF b i (va_up j 26 ((j 26) / 2)))), (b 7, .inl (1, 5, .inr (.inl t))), (b 1, .inl (1, 111, .inr (.inl r))), (b 2, .inl (1, 111, .inr (.inl th1))), (b 4, .inl (1, 111, .inr (.inl tr1))), (b 23, .inl (1, 6, .inr (.inl g1))), (b 24, .inl (1, 21, .inr (.inl h1))), (b 25, .inl (1, 1806, .inr (.inl ((R).2.2))))]) hC kX6 26 rfl q2779 rfl (fun _ h => h.get 0 rfl) (Nat.le_of_ble_eq_true rfl) rfl rfl dX6_round_87 (fun _ h => h.set 0 _ rfl) 90 rfl ?_
  refine r_lload_n hC 3 dX6_round_90 rfl 91 rfl ?_
  exact r_lret hC (Nat.le_of_ble_eq_true rfl) (Nat.le_of_ble_eq_true rfl) (fun V9 h => hQ _ _ ⟨[(b 0, .inr (5, mF b i (va_up j 26 ((j 26) / 2)))), (b 7, .inl (1, 5, .inr (.inl t))), (b 1, .inl (1, 111, .inr (.inl r))), (b 2, .inl (1, 111, .inr (.inl th1))), (b 4, .inl (1, 111, .inr (.inl tr1))), (b 23, .inl (1, 6, .inr (.inl g1))), (b 24, .inl (1, 21, .inr (.inl h1))), (b 25, .inl (1, 1806, .inr (.inl ((R).2.2))))], ⟨th1, tr1, g1, h1, by rw [rndV_n hs], by rw [rndX_n hs, rndN_n hs]⟩, by rw [← hV0, ← hF]; exact h⟩) dX6_round_91
set_option maxHeartbeats 4000000 in
set_option maxRecDepth 100000 in
theorem metX6_round1 (l : Launch) (G : xG) (hG : xGood G) (b : Nat → Nat) (i : Nat → Int32) (j : Nat → Int64) (t r th tr g h0 pa : Nat → Int64) (kd N : Nat) (pr : Int64) (ht : tOK t) (hm : mOK r) (hkd : kd < 4) (hN : N ≤ 300) (hN0 : 0 < N) (R : Option Nat × Int64 × (Nat → Int64)) (hR : R = rndL t r (j 26) kd N 8 0 (none, pr, pa)) (q : Nat) (hq : q < 8) (hs : (R).1 = some q) : xWm l G yX6_round (Cond.code yX6_round cX6_round 11 (some .long)) { frames := 9, locals := 224, cells := 0, slots := 0 } [.ref (b 0), .int (nI kd), .int (nI N), .long pr] [(b 0, .inr (5, mF b i j)), (b 7, .inl (1, 5, .inr (.inl t))), (b 1, .inl (1, 111, .inr (.inl r))), (b 2, .inl (1, 111, .inr (.inl th))), (b 4, .inl (1, 111, .inr (.inl tr))), (b 23, .inl (1, 6, .inr (.inl g))), (b 24, .inl (1, 21, .inr (.inl h0))), (b 25, .inl (1, 1806, .inr (.inl pa)))] (fun v w' => ∃ th' tr' g' h' : Nat → Int64, v = some (.long (rndV (R) pr)) ∧ w' = [(b 0, .inr (5, mF b i (va_up j 26 (rndX (R) (j 26))))), (b 7, .inl (1, 5, .inr (.inl t))), (b 1, .inl (1, 111, .inr (.inl (rndN (R) r (j 26))))), (b 2, .inl (1, 111, .inr (.inl th'))), (b 4, .inl (1, 111, .inr (.inl tr'))), (b 23, .inl (1, 6, .inr (.inl g'))), (b 24, .inl (1, 21, .inr (.inl h'))), (b 25, .inl (1, 1806, .inr (.inl ((R).2.2))))]) (fun _ _ => False) := by
  intro V hV
  refine xMet_of RX6 hG rfl (by decide) (Nat.le_of_ble_eq_true rfl) fun C hC hQ hX hl hg _ => ?_
  subst hl hg
  obtain ⟨V0, hV0⟩ : ∃ V0, V0 = V := ⟨_, rfl⟩
  obtain ⟨F, hF⟩ : ∃ F, F = xF [(b 0, .inr (5, mF b i j)), (b 7, .inl (1, 5, .inr (.inl t))), (b 1, .inl (1, 111, .inr (.inl r))), (b 2, .inl (1, 111, .inr (.inl th))), (b 4, .inl (1, 111, .inr (.inl tr))), (b 23, .inl (1, 6, .inr (.inl g))), (b 24, .inl (1, 21, .inr (.inl h0))), (b 25, .inl (1, 1806, .inr (.inl pa)))] := ⟨_, rfl⟩
  refine rn.mono (J := xSt F V0 [(b 0, .inr (5, mF b i j)), (b 7, .inl (1, 5, .inr (.inl t))), (b 1, .inl (1, 111, .inr (.inl r))), (b 2, .inl (1, 111, .inr (.inl th))), (b 4, .inl (1, 111, .inr (.inl tr))), (b 23, .inl (1, 6, .inr (.inl g))), (b 24, .inl (1, 21, .inr (.inl h0))), (b 25, .inl (1, 1806, .inr (.inl pa)))]) (fun V9 h => by rw [h, hV0, hF]; exact hV.st) ?_
  show rn C (xSt F V0 [(b 0, .inr (5, mF b i j)), (b 7, .inl (1, 5, .inr (.inl t))), (b 1, .inl (1, 111, .inr (.inl r))), (b 2, .inl (1, 111, .inr (.inl th))), (b 4, .inl (1, 111, .inr (.inl tr))), (b 23, .inl (1, 6, .inr (.inl g))), (b 24, .inl (1, 21, .inr (.inl h0))), (b 25, .inl (1, 1806, .inr (.inl pa)))]) 0 0 0 [(0, .ref (b 0)), (1, .int (nI kd)), (2, .int (nI N)), (3, .long pr)] []
  refine r_iconst hC (-1) dX6_round_0 ic_m1 1 rfl ?_
  refine r_istore hC 5 [(5, .int (-1)), (0, .ref (b 0)), (1, .int (nI kd)), (2, .int (nI N)), (3, .long pr)] dX6_round_1 (Nat.le_of_ble_eq_true rfl) rfl 3 rfl ?_
  refine r_lload_n hC 4 dX6_round_3 rfl 4 rfl ?_
  refine r_lstore hC 6 [(6, .long pr), (5, .int (-1)), (0, .ref (b 0)), (1, .int (nI kd)), (2, .int (nI N)), (3, .long pr)] dX6_round_4 (Nat.le_of_ble_eq_true rfl) rfl 6 rfl ?_
  refine r_iconst hC 0 dX6_round_6 ic_0 7 rfl ?_
  refine r_istore hC 8 [(8, .int 0), (6, .long pr), (5, .int (-1)), (0, .ref (b 0)), (1, .int (nI kd)), (2, .int (nI N)), (3, .long pr)] dX6_round_7 (Nat.le_of_ble_eq_true rfl) rfl 9 rfl ?_
  refine rn.sub (lv' := [(8, .int 0), (5, .int (-1)), (6, .long pr), (0, .ref (b 0)), (1, .int (nI kd)), (2, .int (nI N)), (3, .long pr)]) [0, 2, 1, 3, 4, 5, 6] rfl ?_
  refine rn_i1 (y := bO none) bO_none.symm ?_
  refine lpX6_round hG hC rfl rfl b i j t r kd N pr ht hm hkd hN hN0 R 8 0 (none, pr, pa) th tr g h0 rfl hR (fun th1 tr1 g1 h1 => ?_)
  show rn C (xSt F V0 [(b 0, .inr (5, mF b i j)), (b 7, .inl (1, 5, .inr (.inl t))), (b 1, .inl (1, 111, .inr (.inl r))), (b 2, .inl (1, 111, .inr (.inl th1))), (b 4, .inl (1, 111, .inr (.inl tr1))), (b 23, .inl (1, 6, .inr (.inl g1))), (b 24, .inl (1, 21, .inr (.inl h1))), (b 25, .inl (1, 1806, .inr (.inl ((R).2.2))))]) 0 0 72 [(5, .int (bO (R).1)), (6, .long ((R).2.1)), (0, .ref (b 0)), (3, .long pr)] []
  refine rn_i0 (y := nI q) ((congrArg bO hs).trans bO_some) ?_
  refine r_iload hC 0 dX6_round_72 rfl 74 rfl ?_
  refine r_iconst hC (-1) dX6_round_74 ic_m1 75 rfl ?_
  refine r_icne hC 92 dX6_round_75 (by decide) 78 rfl (fun _ => ?_) (fun h => absurd h (bO_ne hq))
  refine r_aload_n hC 2 dX6_round_92 rfl 93 rfl ?_
  refine r_iload hC 0 dX6_round_93 rfl 95 rfl ?_
  refine r_aload_n hC 2 dX6_round_95 rfl 96 rfl ?_
  refine r_get (v := .long (j 26)) hC kX6 26 rfl q2779 (fun _ h => h.get 0 rfl) rfl dX6_round_96 99 rfl ?_
  refine r_invVw hC kX6 (b 0) [.int (nI q), .long (j 26)] [(b 7, .inl (1, 5, .inr (.inl t))), (b 2, .inl (1, 111, .inr (.inl th1))), (b 23, .inl (1, 6, .inr (.inl g1))), (b 24, .inl (1, 21, .inr (.inl h1))), (b 25, .inl (1, 1806, .inr (.inl ((R).2.2))))] mVX6_changes q3241 0 rfl (metX6_changes _ _ hG b _ _ _ _ q (by omega) (j 26)) [0, 2, 4] [1, 3, 5, 6, 7] rfl rfl rfl rfl (by decide) ⟨rfl, rfl⟩ 0 0 rfl rfl (Nat.le_of_ble_eq_true rfl) (Nat.le_of_ble_eq_true rfl) rfl (Nat.le_of_ble_eq_true rfl) dX6_round_99 102 rfl (fun v1 w2 h3 => ?_) (fun _ _ h => h.elim)
  obtain ⟨rfl, rfl⟩ := h3
  show rn C (xSt F V0 [(b 7, .inl (1, 5, .inr (.inl t))), (b 2, .inl (1, 111, .inr (.inl th1))), (b 23, .inl (1, 6, .inr (.inl g1))), (b 24, .inl (1, 21, .inr (.inl h1))), (b 25, .inl (1, 1806, .inr (.inl ((R).2.2)))), (b 0, .inr (5, mF b i j)), (b 1, .inl (1, 111, .inr (.inl r))), (b 4, .inl (1, 111, .inr (.inl (chQ r q (j 26)))))]) 0 0 102 [(5, .int (nI q)), (6, .long ((R).2.1)), (0, .ref (b 0)), (3, .long pr)] [.int (bI (isInQ (chQ r q (j 26))))]
  refine r_istore hC 8 [(8, .int (bI (isInQ (chQ r q (j 26))))), (5, .int (nI q)), (6, .long ((R).2.1)), (0, .ref (b 0)), (3, .long pr)] dX6_round_102 (Nat.le_of_ble_eq_true rfl) rfl 104 rfl ?_
  refine r_aload_n hC 3 dX6_round_104 rfl 105 rfl ?_
  refine r_get (v := .ref (b 4)) hC kX6 4 rfl q2757 (fun _ h => h.get 5 rfl) rfl dX6_round_105 108 rfl ?_
  refine r_aload_n hC 3 dX6_round_108 rfl 109 rfl ?_
  refine r_get (v := .ref (b 1)) hC kX6 1 rfl q2754 (fun _ h => h.get 5 rfl) rfl dX6_round_109 112 rfl ?_
  refine r_invSw hC [.ref (b 4), .ref (b 1)] [(b 7, .inl (1, 5, .inr (.inl t))), (b 2, .inl (1, 111, .inr (.inl th1))), (b 23, .inl (1, 6, .inr (.inl g1))), (b 24, .inl (1, 21, .inr (.inl h1))), (b 25, .inl (1, 1806, .inr (.inl ((R).2.2)))), (b 0, .inr (5, mF b i j))] mSX6_copy q2718 (metX6_copy _ _ hG (b 4) (b 1) _ _) [7, 6] [0, 1, 2, 3, 4, 5] rfl rfl rfl rfl (by decide) ⟨rfl, rfl⟩ 0 0 rfl rfl (Nat.le_of_ble_eq_true rfl) (Nat.le_of_ble_eq_true rfl) rfl (Nat.le_of_ble_eq_true rfl) dX6_round_112 115 rfl (fun v4 w5 h6 => ?_) (fun _ _ h => h.elim)
  obtain ⟨rfl, rfl⟩ := h6
  show rn C (xSt F V0 [(b 7, .inl (1, 5, .inr (.inl t))), (b 2, .inl (1, 111, .inr (.inl th1))), (b 23, .inl (1, 6, .inr (.inl g1))), (b 24, .inl (1, 21, .inr (.inl h1))), (b 25, .inl (1, 1806, .inr (.inl ((R).2.2)))), (b 0, .inr (5, mF b i j)), (b 4, .inl (1, 111, .inr (.inl (chQ r q (j 26))))), (b 1, .inl (1, 111, .inr (.inl (chQ r q (j 26)))))]) 0 0 115 [(8, .int (bI (isInQ (chQ r q (j 26))))), (5, .int (nI q)), (6, .long ((R).2.1)), (0, .ref (b 0)), (3, .long pr)] []
  refine r_lload hC 2 dX6_round_115 rfl 117 rfl ?_
  exact r_lret hC (Nat.le_of_ble_eq_true rfl) (Nat.le_of_ble_eq_true rfl) (fun V9 h => hQ _ _ ⟨[(b 0, .inr (5, mF b i j)), (b 7, .inl (1, 5, .inr (.inl t))), (b 1, .inl (1, 111, .inr (.inl (chQ r q (j 26))))), (b 2, .inl (1, 111, .inr (.inl th1))), (b 4, .inl (1, 111, .inr (.inl (chQ r q (j 26))))), (b 23, .inl (1, 6, .inr (.inl g1))), (b 24, .inl (1, 21, .inr (.inl h1))), (b 25, .inl (1, 1806, .inr (.inl ((R).2.2))))], ⟨th1, (chQ r q (j 26)), g1, h1, by rw [rndV_s hs], by rw [rndX_s hs, rndN_s hs, up_id]⟩, by rw [← hV0, ← hF]; exact (h.sub [5, 0, 7, 1, 6, 2, 3, 4] rfl rfl)⟩) dX6_round_117
set_option maxHeartbeats 4000000 in
set_option maxRecDepth 100000 in
theorem metX6_round (l : Launch) (G : xG) (hG : xGood G) (b : Nat → Nat) (i : Nat → Int32) (j : Nat → Int64) (t r th tr g h0 pa : Nat → Int64) (kd N : Nat) (pr : Int64) (ht : tOK t) (hm : mOK r) (hkd : kd < 4) (hN : N ≤ 300) (hN0 : 0 < N) : xWm l G yX6_round (Cond.code yX6_round cX6_round 11 (some .long)) { frames := 9, locals := 224, cells := 0, slots := 0 } [.ref (b 0), .int (nI kd), .int (nI N), .long pr] [(b 0, .inr (5, mF b i j)), (b 7, .inl (1, 5, .inr (.inl t))), (b 1, .inl (1, 111, .inr (.inl r))), (b 2, .inl (1, 111, .inr (.inl th))), (b 4, .inl (1, 111, .inr (.inl tr))), (b 23, .inl (1, 6, .inr (.inl g))), (b 24, .inl (1, 21, .inr (.inl h0))), (b 25, .inl (1, 1806, .inr (.inl pa)))] (fun v w' => ∃ th' tr' g' h' : Nat → Int64, v = some (.long (rndV (rndR t r (j 26) kd N pr pa) pr)) ∧ w' = [(b 0, .inr (5, mF b i (va_up j 26 (rndX (rndR t r (j 26) kd N pr pa) (j 26))))), (b 7, .inl (1, 5, .inr (.inl t))), (b 1, .inl (1, 111, .inr (.inl (rndN (rndR t r (j 26) kd N pr pa) r (j 26))))), (b 2, .inl (1, 111, .inr (.inl th'))), (b 4, .inl (1, 111, .inr (.inl tr'))), (b 23, .inl (1, 6, .inr (.inl g'))), (b 24, .inl (1, 21, .inr (.inl h'))), (b 25, .inl (1, 1806, .inr (.inl ((rndR t r (j 26) kd N pr pa).2.2))))]) (fun _ _ => False) := by
  cases hs : (rndR t r (j 26) kd N pr pa).1 with
  | none => exact metX6_round0 l G hG b i j t r th tr g h0 pa kd N pr ht hm hkd hN hN0 _ rndR_eq hs
  | some q => exact metX6_round1 l G hG b i j t r th tr g h0 pa kd N pr ht hm hkd hN hN0 _ rndR_eq q (rndR_lt hs) hs
