/-! ===== the reference: bodies, load ===== -/
set_option maxRecDepth 100000
def bd0 (bf : Nat → Int32) (e : Nat) (ps : PS) : PS := expP bf e 50434 ps
def bd1 (bf : Nat → Int32) (e : Nat) (ps : PS) : PS := numP bf e 1 99 (bd0 bf e ps)
def bd2 (bf : Nat → Int32) (e : Nat) (ps : PS) : PS := sgnP bf e 100000 (bd1 bf e ps)
def bd3 (bf : Nat → Int32) (e : Nat) (ps : PS) : PS := sgnP bf e 100000 (bd2 bf e ps)
def bd4 (bf : Nat → Int32) (e : Nat) (ps : PS) : PS := sgnP bf e 1000000000 (bd3 bf e ps)
def bd5 (bf : Nat → Int32) (e : Nat) (ps : PS) : PS := sgnP bf e 1000000000 (bd4 bf e ps)
def bdR (bf : Nat → Int32) (e k : Nat) (ps : PS) (dr : Nat → Int64) : Nat → Int64 :=
  va_up (va_up (va_up (va_up (va_up dr (6 + 5 * k + 0) (numV bf e 1 99 (bd0 bf e ps))) (6 + 5 * k + 1) (sgnV bf e 100000 (bd1 bf e ps))) (6 + 5 * k + 2) (sgnV bf e 100000 (bd2 bf e ps))) (6 + 5 * k + 3) (sgnV bf e 1000000000 (bd3 bf e ps))) (6 + 5 * k + 4) (sgnV bf e 1000000000 (bd4 bf e ps))
def sameQ (dr : Nat → Int64) (a c : Nat) : Bool := decide (dr (6 + 5 * a + 1) = dr (6 + 5 * c + 1)) && decide (dr (6 + 5 * a + 2) = dr (6 + 5 * c + 2))
def clQ (dr : Nat → Int64) : Nat → Bool
  | 0 => false
  | 1 => sameQ dr 0 1
  | _ => sameQ dr 0 2 || sameQ dr 1 2
theorem clQ_2 {dr : Nat → Int64} : clQ dr 2 = (sameQ dr 0 2 || sameQ dr 1 2) := rfl
def bd6 (bf : Nat → Int32) (e k : Nat) (ps : PS) (dr : Nat → Int64) : PS := if isB bf e 59 (bd5 bf e ps) = true ∧ clQ (bdR bf e k ps dr) k = true then wrP 3 (bd5 bf e ps) else bd5 bf e ps
def bd7 (bf : Nat → Int32) (e k : Nat) (ps : PS) (dr : Nat → Int64) : PS := mustP bf e 59 (bd6 bf e k ps dr)
def endP (bf : Nat → Int32) (e : Nat) (ps : PS) : PS := if isK bf e 0 ps = true then ps else wrP 1 ps
theorem exp_bad {bf : Nat → Int32} {e : Nat} {w : Int64} {ps : PS} (h : okP ps = false) : expP bf e w ps = ps := by
  rw [expP, if_neg (nt (not_isW h)), wr_same h]
theorem exp_pos {bf : Nat → Int32} {e : Nat} {w : Int64} {ps : PS} (h : isW bf e w ps = true) : expP bf e w ps = nxP bf e ps := if_pos h
theorem exp_neg {bf : Nat → Int32} {e : Nat} {w : Int64} {ps : PS} (h : isW bf e w ps = false) : expP bf e w ps = wrP 1 ps := if_neg (nt h)
theorem sm1 {dr : Nat → Int64} {a c : Nat} (h1 : dr (6 + 5 * a + 1) = dr (6 + 5 * c + 1)) (h2 : dr (6 + 5 * a + 2) = dr (6 + 5 * c + 2)) : sameQ dr a c = true := by
  rw [sameQ, decide_eq_true h1, decide_eq_true h2]; rfl
theorem sm0x {dr : Nat → Int64} {a c : Nat} (h1 : ¬ dr (6 + 5 * a + 1) = dr (6 + 5 * c + 1)) : sameQ dr a c = false := by
  rw [sameQ, decide_eq_false h1]; rfl
theorem sm0y {dr : Nat → Int64} {a c : Nat} (h2 : ¬ dr (6 + 5 * a + 2) = dr (6 + 5 * c + 2)) : sameQ dr a c = false := by
  rw [sameQ, decide_eq_false h2, Bool.and_false]
set_option maxHeartbeats 4000000 in
set_option maxRecDepth 100000 in
theorem metX6_bodyRead0 (l : Launch) (G : xG) (hG : xGood G) (b : Nat → Nat) (i : Nat → Int32) (j : Nat → Int64) (bf : Nat → Int32) (e : Nat) (he : e ≤ 600) (ps : PS) (hr : rdP bf e i j ps) (dr : Nat → Int64) : xWm l G yX6_bodyRead (Cond.code yX6_bodyRead cX6_bodyRead 4 none) { frames := 5, locals := 112, cells := 0, slots := 0 } [.ref (b 0), .int 0] [(b 0, .inr (5, mF b i j)), (b 13, .inl (0, 600, .inl bf)), (b 3, .inl (1, 111, .inr (.inl dr)))] (fun v w' => v = none ∧ ∃ (i' : Nat → Int32) (j' : Nat → Int64), w' = [(b 0, .inr (5, mF b i' j')), (b 13, .inl (0, 600, .inl bf)), (b 3, .inl (1, 111, .inr (.inl (bdR bf e 0 ps dr))))] ∧ rdP bf e i' j' (bd7 bf e 0 ps dr) ∧ gI i i' ∧ fJ j j') (fun _ _ => False) := by
  intro V hV
  refine xMet_of RX6 hG rfl (by decide) (Nat.le_of_ble_eq_true rfl) fun C hC hQ hX hl hg _ => ?_
  subst hl hg
  obtain ⟨V0, hV0⟩ : ∃ V0, V0 = V := ⟨_, rfl⟩
  obtain ⟨F, hF⟩ : ∃ F, F = xF [(b 0, .inr (5, mF b i j)), (b 13, .inl (0, 600, .inl bf)), (b 3, .inl (1, 111, .inr (.inl dr)))] := ⟨_, rfl⟩
  refine rn.mono (J := xSt F V0 [(b 0, .inr (5, mF b i j)), (b 13, .inl (0, 600, .inl bf)), (b 3, .inl (1, 111, .inr (.inl dr)))]) (fun V9 h => by rw [h, hV0, hF]; exact hV.st) ?_
  show rn C (xSt F V0 [(b 0, .inr (5, mF b i j)), (b 13, .inl (0, 600, .inl bf)), (b 3, .inl (1, 111, .inr (.inl dr)))]) 0 0 0 [(0, .ref (b 0)), (1, .int 0)] []
  have KJ : ∀ (i1 : Nat → Int32) (j1 : Nat → Int64), rdP bf e i1 j1 (bd0 bf e ps) → gI i i1 → fJ j j1 → rn C (xSt F V0 [(b 0, .inr (5, mF b i1 j1)), (b 13, .inl (0, 600, .inl bf)), (b 3, .inl (1, 111, .inr (.inl dr)))]) 0 0 23 [(0, .ref (b 0)), (1, .int 0)] [] := by
    intro i1 j1 h1 g1 f1
    refine r_aload_n hC 0 dX6_bodyRead_23 rfl 24 rfl ?_
    refine r_get (v := .ref (b 3)) hC kX6 3 rfl q2756 (fun _ h => h.get 0 rfl) rfl dX6_bodyRead_24 27 rfl ?_
    refine r_iload_n hC 1 dX6_bodyRead_27 rfl 28 rfl ?_
    refine r_iconst hC 0 dX6_bodyRead_28 ic_0 29 rfl ?_
    refine r_invSr hC [.int 0, .int 0] (.int 6) mSX6_at q2711 (metX6_at _ _ hG 0 0) (fun _ _ => xIn.nil) ⟨rfl, rfl⟩ 0 0 rfl rfl (Nat.le_of_ble_eq_true rfl) (Nat.le_of_ble_eq_true rfl) rfl (Nat.le_of_ble_eq_true rfl) dX6_bodyRead_29 32 rfl ?_
    refine r_aload_n hC 0 dX6_bodyRead_32 rfl 33 rfl ?_
    refine r_lconst hC 1 dX6_bodyRead_33 lc_1 34 rfl ?_
    refine r_ldc2 hC q2982 dX6_bodyRead_34 37 rfl ?_
    refine r_invVw hC kX6 (b 0) [.long 1, .long 99] [(b 3, .inl (1, 111, .inr (.inl dr)))] mVX6_number q2949 0 rfl (metX6_number _ _ hG b i1 j1 bf e he (bd0 bf e ps) h1 1 99) [0, 1] [2] rfl rfl rfl rfl (by decide) ⟨rfl, rfl⟩ 0 0 rfl rfl (Nat.le_of_ble_eq_true rfl) (Nat.le_of_ble_eq_true rfl) rfl (Nat.le_of_ble_eq_true rfl) dX6_bodyRead_37 40 rfl (fun v2 w3 h4 => ?_) (fun _ _ h => h.elim)
    obtain ⟨rfl, i1, j1, rfl, hr1, gi1, fj1⟩ := h4
    show rn C (xSt F V0 [(b 3, .inl (1, 111, .inr (.inl dr))), (b 0, .inr (5, mF b i1 j1)), (b 13, .inl (0, 600, .inl bf))]) 0 0 40 [(0, .ref (b 0)), (1, .int 0)] [.long (numV bf e 1 99 (bd0 bf e ps)), .int 6, .ref (b 3)]
    refine r_last (J := xSt F V0 [(b 3, .inl (1, 111, .inr (.inl (va_up dr 6 (numV bf e 1 99 (bd0 bf e ps)))))), (b 0, .inr (5, mF b i1 j1)), (b 13, .inl (0, 600, .inl bf))]) hC 6 (xix_n 6 (Nat.le_of_ble_eq_true rfl) (Nat.le_of_ble_eq_true rfl)) (fun _ h => h.get 0 rfl) dX6_bodyRead_40 (fun _ h => h.set 0 _ rfl) 41 rfl ?_
    generalize hu5 : va_up dr 6 (numV bf e 1 99 (bd0 bf e ps)) = u5
    refine r_aload_n hC 0 dX6_bodyRead_41 rfl 42 rfl ?_
    refine r_get (v := .ref (b 3)) hC kX6 3 rfl q2756 (fun _ h => h.get 1 rfl) rfl dX6_bodyRead_42 45 rfl ?_
    refine r_iload_n hC 1 dX6_bodyRead_45 rfl 46 rfl ?_
    refine r_iconst hC 1 dX6_bodyRead_46 ic_1 47 rfl ?_
    refine r_invSr hC [.int 0, .int 1] (.int 7) mSX6_at q2711 (metX6_at _ _ hG 0 1) (fun _ _ => xIn.nil) ⟨rfl, rfl⟩ 0 0 rfl rfl (Nat.le_of_ble_eq_true rfl) (Nat.le_of_ble_eq_true rfl) rfl (Nat.le_of_ble_eq_true rfl) dX6_bodyRead_47 50 rfl ?_
    refine r_aload_n hC 0 dX6_bodyRead_50 rfl 51 rfl ?_
    refine r_ldc2 hC q2983 dX6_bodyRead_51 54 rfl ?_
    refine r_invVw hC kX6 (b 0) [.long 100000] [(b 3, .inl (1, 111, .inr (.inl u5)))] mVX6_signed q2984 1 rfl (metX6_signed _ _ hG b i1 j1 bf e he (numP bf e 1 99 (bd0 bf e ps)) hr1 100000) [1, 2] [0] rfl rfl rfl rfl (by decide) ⟨rfl, rfl⟩ 0 0 rfl rfl (Nat.le_of_ble_eq_true rfl) (Nat.le_of_ble_eq_true rfl) rfl (Nat.le_of_ble_eq_true rfl) dX6_bodyRead_54 57 rfl (fun v7 w8 h9 => ?_) (fun _ _ h => h.elim)
    obtain ⟨rfl, i6, j6, rfl, hr6, gi6, fj6⟩ := h9
    show rn C (xSt F V0 [(b 3, .inl (1, 111, .inr (.inl u5))), (b 0, .inr (5, mF b i6 j6)), (b 13, .inl (0, 600, .inl bf))]) 0 0 57 [(0, .ref (b 0)), (1, .int 0)] [.long (sgnV bf e 100000 (numP bf e 1 99 (bd0 bf e ps))), .int 7, .ref (b 3)]
    refine r_last (J := xSt F V0 [(b 3, .inl (1, 111, .inr (.inl (va_up u5 7 (sgnV bf e 100000 (numP bf e 1 99 (bd0 bf e ps))))))), (b 0, .inr (5, mF b i6 j6)), (b 13, .inl (0, 600, .inl bf))]) hC 7 (xix_n 7 (Nat.le_of_ble_eq_true rfl) (Nat.le_of_ble_eq_true rfl)) (fun _ h => h.get 0 rfl) dX6_bodyRead_57 (fun _ h => h.set 0 _ rfl) 58 rfl ?_
    generalize hu10 : va_up u5 7 (sgnV bf e 100000 (numP bf e 1 99 (bd0 bf e ps))) = u10
    refine r_aload_n hC 0 dX6_bodyRead_58 rfl 59 rfl ?_
    refine r_get (v := .ref (b 3)) hC kX6 3 rfl q2756 (fun _ h => h.get 1 rfl) rfl dX6_bodyRead_59 62 rfl ?_
    refine r_iload_n hC 1 dX6_bodyRead_62 rfl 63 rfl ?_
    refine r_iconst hC 2 dX6_bodyRead_63 ic_2 64 rfl ?_
    refine r_invSr hC [.int 0, .int 2] (.int 8) mSX6_at q2711 (metX6_at _ _ hG 0 2) (fun _ _ => xIn.nil) ⟨rfl, rfl⟩ 0 0 rfl rfl (Nat.le_of_ble_eq_true rfl) (Nat.le_of_ble_eq_true rfl) rfl (Nat.le_of_ble_eq_true rfl) dX6_bodyRead_64 67 rfl ?_
    refine r_aload_n hC 0 dX6_bodyRead_67 rfl 68 rfl ?_
    refine r_ldc2 hC q2983 dX6_bodyRead_68 71 rfl ?_
    refine r_invVw hC kX6 (b 0) [.long 100000] [(b 3, .inl (1, 111, .inr (.inl u10)))] mVX6_signed q2984 1 rfl (metX6_signed _ _ hG b i6 j6 bf e he (sgnP bf e 100000 (numP bf e 1 99 (bd0 bf e ps))) hr6 100000) [1, 2] [0] rfl rfl rfl rfl (by decide) ⟨rfl, rfl⟩ 0 0 rfl rfl (Nat.le_of_ble_eq_true rfl) (Nat.le_of_ble_eq_true rfl) rfl (Nat.le_of_ble_eq_true rfl) dX6_bodyRead_71 74 rfl (fun v12 w13 h14 => ?_) (fun _ _ h => h.elim)
    obtain ⟨rfl, i11, j11, rfl, hr11, gi11, fj11⟩ := h14
    show rn C (xSt F V0 [(b 3, .inl (1, 111, .inr (.inl u10))), (b 0, .inr (5, mF b i11 j11)), (b 13, .inl (0, 600, .inl bf))]) 0 0 74 [(0, .ref (b 0)), (1, .int 0)] [.long (sgnV bf e 100000 (sgnP bf e 100000 (numP bf e 1 99 (bd0 bf e ps)))), .int 8, .ref (b 3)]
    refine r_last (J := xSt F V0 [(b 3, .inl (1, 111, .inr (.inl (va_up u10 8 (sgnV bf e 100000 (sgnP bf e 100000 (numP bf e 1 99 (bd0 bf e ps)))))))), (b 0, .inr (5, mF b i11 j11)), (b 13, .inl (0, 600, .inl bf))]) hC 8 (xix_n 8 (Nat.le_of_ble_eq_true rfl) (Nat.le_of_ble_eq_true rfl)) (fun _ h => h.get 0 rfl) dX6_bodyRead_74 (fun _ h => h.set 0 _ rfl) 75 rfl ?_
    generalize hu15 : va_up u10 8 (sgnV bf e 100000 (sgnP bf e 100000 (numP bf e 1 99 (bd0 bf e ps)))) = u15
    refine r_aload_n hC 0 dX6_bodyRead_75 rfl 76 rfl ?_
    refine r_get (v := .ref (b 3)) hC kX6 3 rfl q2756 (fun _ h => h.get 1 rfl) rfl dX6_bodyRead_76 79 rfl ?_
    refine r_iload_n hC 1 dX6_bodyRead_79 rfl 80 rfl ?_
    refine r_iconst hC 3 dX6_bodyRead_80 ic_3 81 rfl ?_
    refine r_invSr hC [.int 0, .int 3] (.int 9) mSX6_at q2711 (metX6_at _ _ hG 0 3) (fun _ _ => xIn.nil) ⟨rfl, rfl⟩ 0 0 rfl rfl (Nat.le_of_ble_eq_true rfl) (Nat.le_of_ble_eq_true rfl) rfl (Nat.le_of_ble_eq_true rfl) dX6_bodyRead_81 84 rfl ?_
    refine r_aload_n hC 0 dX6_bodyRead_84 rfl 85 rfl ?_
    refine r_ldc2 hC q2926 dX6_bodyRead_85 88 rfl ?_
    refine r_invVw hC kX6 (b 0) [.long 1000000000] [(b 3, .inl (1, 111, .inr (.inl u15)))] mVX6_signed q2984 1 rfl (metX6_signed _ _ hG b i11 j11 bf e he (sgnP bf e 100000 (sgnP bf e 100000 (numP bf e 1 99 (bd0 bf e ps)))) hr11 1000000000) [1, 2] [0] rfl rfl rfl rfl (by decide) ⟨rfl, rfl⟩ 0 0 rfl rfl (Nat.le_of_ble_eq_true rfl) (Nat.le_of_ble_eq_true rfl) rfl (Nat.le_of_ble_eq_true rfl) dX6_bodyRead_88 91 rfl (fun v17 w18 h19 => ?_) (fun _ _ h => h.elim)
    obtain ⟨rfl, i16, j16, rfl, hr16, gi16, fj16⟩ := h19
    show rn C (xSt F V0 [(b 3, .inl (1, 111, .inr (.inl u15))), (b 0, .inr (5, mF b i16 j16)), (b 13, .inl (0, 600, .inl bf))]) 0 0 91 [(0, .ref (b 0)), (1, .int 0)] [.long (sgnV bf e 1000000000 (sgnP bf e 100000 (sgnP bf e 100000 (numP bf e 1 99 (bd0 bf e ps))))), .int 9, .ref (b 3)]
    refine r_last (J := xSt F V0 [(b 3, .inl (1, 111, .inr (.inl (va_up u15 9 (sgnV bf e 1000000000 (sgnP bf e 100000 (sgnP bf e 100000 (numP bf e 1 99 (bd0 bf e ps))))))))), (b 0, .inr (5, mF b i16 j16)), (b 13, .inl (0, 600, .inl bf))]) hC 9 (xix_n 9 (Nat.le_of_ble_eq_true rfl) (Nat.le_of_ble_eq_true rfl)) (fun _ h => h.get 0 rfl) dX6_bodyRead_91 (fun _ h => h.set 0 _ rfl) 92 rfl ?_
    generalize hu20 : va_up u15 9 (sgnV bf e 1000000000 (sgnP bf e 100000 (sgnP bf e 100000 (numP bf e 1 99 (bd0 bf e ps))))) = u20
    refine r_aload_n hC 0 dX6_bodyRead_92 rfl 93 rfl ?_
    refine r_get (v := .ref (b 3)) hC kX6 3 rfl q2756 (fun _ h => h.get 1 rfl) rfl dX6_bodyRead_93 96 rfl ?_
    refine r_iload_n hC 1 dX6_bodyRead_96 rfl 97 rfl ?_
    refine r_iconst hC 4 dX6_bodyRead_97 ic_4 98 rfl ?_
    refine r_invSr hC [.int 0, .int 4] (.int 10) mSX6_at q2711 (metX6_at _ _ hG 0 4) (fun _ _ => xIn.nil) ⟨rfl, rfl⟩ 0 0 rfl rfl (Nat.le_of_ble_eq_true rfl) (Nat.le_of_ble_eq_true rfl) rfl (Nat.le_of_ble_eq_true rfl) dX6_bodyRead_98 101 rfl ?_
    refine r_aload_n hC 0 dX6_bodyRead_101 rfl 102 rfl ?_
    refine r_ldc2 hC q2926 dX6_bodyRead_102 105 rfl ?_
    refine r_invVw hC kX6 (b 0) [.long 1000000000] [(b 3, .inl (1, 111, .inr (.inl u20)))] mVX6_signed q2984 1 rfl (metX6_signed _ _ hG b i16 j16 bf e he (sgnP bf e 1000000000 (sgnP bf e 100000 (sgnP bf e 100000 (numP bf e 1 99 (bd0 bf e ps))))) hr16 1000000000) [1, 2] [0] rfl rfl rfl rfl (by decide) ⟨rfl, rfl⟩ 0 0 rfl rfl (Nat.le_of_ble_eq_true rfl) (Nat.le_of_ble_eq_true rfl) rfl (Nat.le_of_ble_eq_true rfl) dX6_bodyRead_105 108 rfl (fun v22 w23 h24 => ?_) (fun _ _ h => h.elim)
    obtain ⟨rfl, i21, j21, rfl, hr21, gi21, fj21⟩ := h24
    show rn C (xSt F V0 [(b 3, .inl (1, 111, .inr (.inl u20))), (b 0, .inr (5, mF b i21 j21)), (b 13, .inl (0, 600, .inl bf))]) 0 0 108 [(0, .ref (b 0)), (1, .int 0)] [.long (sgnV bf e 1000000000 (sgnP bf e 1000000000 (sgnP bf e 100000 (sgnP bf e 100000 (numP bf e 1 99 (bd0 bf e ps)))))), .int 10, .ref (b 3)]
    refine r_last (J := xSt F V0 [(b 3, .inl (1, 111, .inr (.inl (va_up u20 10 (sgnV bf e 1000000000 (sgnP bf e 1000000000 (sgnP bf e 100000 (sgnP bf e 100000 (numP bf e 1 99 (bd0 bf e ps)))))))))), (b 0, .inr (5, mF b i21 j21)), (b 13, .inl (0, 600, .inl bf))]) hC 10 (xix_n 10 (Nat.le_of_ble_eq_true rfl) (Nat.le_of_ble_eq_true rfl)) (fun _ h => h.get 0 rfl) dX6_bodyRead_108 (fun _ h => h.set 0 _ rfl) 109 rfl ?_
    generalize hu25 : va_up u20 10 (sgnV bf e 1000000000 (sgnP bf e 1000000000 (sgnP bf e 100000 (sgnP bf e 100000 (numP bf e 1 99 (bd0 bf e ps)))))) = u25
    refine r_iconst hC 0 dX6_bodyRead_109 ic_0 110 rfl ?_
    refine r_istore_n hC 2 [(2, .int 0), (0, .ref (b 0)), (1, .int 0)] dX6_bodyRead_110 rfl (Nat.le_of_ble_eq_true rfl) rfl 111 rfl ?_
    refine r_iconst hC 0 dX6_bodyRead_111 ic_0 112 rfl ?_
    refine r_istore_n hC 3 [(3, .int 0), (2, .int 0), (0, .ref (b 0)), (1, .int 0)] dX6_bodyRead_112 rfl (Nat.le_of_ble_eq_true rfl) rfl 113 rfl ?_
    refine r_iload_n hC 0 dX6_bodyRead_113 rfl 114 rfl ?_
    refine r_iload_n hC 3 dX6_bodyRead_114 rfl 115 rfl ?_
    refine r_icge hC 182 dX6_bodyRead_115 (by decide) 118 rfl (fun _ => ?_) (fun h => absurd h (by decide))
    subst hu25
    subst hu20
    subst hu15
    subst hu10
    subst hu5
    refine rn.mono (J := xSt F V0 [(b 0, .inr (5, mF b i21 j21)), (b 13, .inl (0, 600, .inl bf)), (b 3, .inl (1, 111, .inr (.inl (va_up (va_up (va_up (va_up (va_up dr 6 (numV bf e 1 99 (bd0 bf e ps))) 7 (sgnV bf e 100000 (numP bf e 1 99 (bd0 bf e ps)))) 8 (sgnV bf e 100000 (sgnP bf e 100000 (numP bf e 1 99 (bd0 bf e ps))))) 9 (sgnV bf e 1000000000 (sgnP bf e 100000 (sgnP bf e 100000 (numP bf e 1 99 (bd0 bf e ps)))))) 10 (sgnV bf e 1000000000 (sgnP bf e 1000000000 (sgnP bf e 100000 (sgnP bf e 100000 (numP bf e 1 99 (bd0 bf e ps))))))))))]) (fun _ h => h.sub [1, 2, 0] rfl rfl) ?_
    have hcl : clQ (bdR bf e 0 ps dr) 0 = false := rfl
    refine r_aload_n hC 2 dX6_bodyRead_182 rfl 183 rfl ?_
    refine r_bipush hC 59 dX6_bodyRead_183 bp_59 185 rfl ?_
    rcases Bool.eq_false_or_eq_true (isB bf e 59 (sgnP bf e 1000000000 (sgnP bf e 1000000000 (sgnP bf e 100000 (sgnP bf e 100000 (numP bf e 1 99 (bd0 bf e ps))))))) with hk26 | hk26
    · skip
      refine r_invVr hC kX6 (b 0) [.int 59] (.int 1) mVX6_isByte q2961 (fun _ h => h.get 0 rfl) (xRm_v (metX6_isByte _ _ hG b i21 j21 bf e he (sgnP bf e 1000000000 (sgnP bf e 1000000000 (sgnP bf e 100000 (sgnP bf e 100000 (numP bf e 1 99 (bd0 bf e ps)))))) hr21 59) (show _ = some (Value.int 1) by rw [hk26]; rfl)) (fun _ h => h.in.sub [0, 1] rfl rfl) ⟨rfl, rfl⟩ 0 0 rfl rfl (Nat.le_of_ble_eq_true rfl) (Nat.le_of_ble_eq_true rfl) rfl (Nat.le_of_ble_eq_true rfl) dX6_bodyRead_185 188 rfl ?_
      refine r_ifeq hC 201 dX6_bodyRead_188 (by decide) 191 rfl (fun h => absurd h (by decide)) (fun _ => ?_)
      refine r_iload_n hC 1 dX6_bodyRead_191 rfl 192 rfl ?_
      refine r_ifeq hC 201 dX6_bodyRead_192 (by decide) 195 rfl (fun _ => ?_) (fun h => absurd h (by decide))
      refine r_aload_n hC 2 dX6_bodyRead_201 rfl 202 rfl ?_
      refine r_bipush hC 59 dX6_bodyRead_202 bp_59 204 rfl ?_
      refine r_invVw hC kX6 (b 0) [.int 59] [(b 3, .inl (1, 111, .inr (.inl (va_up (va_up (va_up (va_up (va_up dr 6 (numV bf e 1 99 (bd0 bf e ps))) 7 (sgnV bf e 100000 (numP bf e 1 99 (bd0 bf e ps)))) 8 (sgnV bf e 100000 (sgnP bf e 100000 (numP bf e 1 99 (bd0 bf e ps))))) 9 (sgnV bf e 1000000000 (sgnP bf e 100000 (sgnP bf e 100000 (numP bf e 1 99 (bd0 bf e ps)))))) 10 (sgnV bf e 1000000000 (sgnP bf e 1000000000 (sgnP bf e 100000 (sgnP bf e 100000 (numP bf e 1 99 (bd0 bf e ps))))))))))] mVX6_must q2957 0 rfl (metX6_must _ _ hG b i21 j21 bf e he (sgnP bf e 1000000000 (sgnP bf e 1000000000 (sgnP bf e 100000 (sgnP bf e 100000 (numP bf e 1 99 (bd0 bf e ps)))))) hr21 59) [0, 1] [2] rfl rfl rfl rfl (by decide) ⟨rfl, rfl⟩ 0 0 rfl rfl (Nat.le_of_ble_eq_true rfl) (Nat.le_of_ble_eq_true rfl) rfl (Nat.le_of_ble_eq_true rfl) dX6_bodyRead_204 207 rfl (fun v28 w29 h30 => ?_) (fun _ _ h => h.elim)
      obtain ⟨rfl, i27, j27, rfl, hr27, gi27, fj27⟩ := h30
      show rn C (xSt F V0 [(b 3, .inl (1, 111, .inr (.inl (va_up (va_up (va_up (va_up (va_up dr 6 (numV bf e 1 99 (bd0 bf e ps))) 7 (sgnV bf e 100000 (numP bf e 1 99 (bd0 bf e ps)))) 8 (sgnV bf e 100000 (sgnP bf e 100000 (numP bf e 1 99 (bd0 bf e ps))))) 9 (sgnV bf e 1000000000 (sgnP bf e 100000 (sgnP bf e 100000 (numP bf e 1 99 (bd0 bf e ps)))))) 10 (sgnV bf e 1000000000 (sgnP bf e 1000000000 (sgnP bf e 100000 (sgnP bf e 100000 (numP bf e 1 99 (bd0 bf e ps)))))))))), (b 0, .inr (5, mF b i27 j27)), (b 13, .inl (0, 600, .inl bf))]) 0 0 207 [(3, .int 0), (2, .int 0), (0, .ref (b 0)), (1, .int 0)] []
      exact r_vret hC (Nat.le_of_ble_eq_true rfl) (Nat.le_of_ble_eq_true rfl) (fun V9 h => hQ _ _ ⟨[(b 0, .inr (5, mF b i27 j27)), (b 13, .inl (0, 600, .inl bf)), (b 3, .inl (1, 111, .inr (.inl (va_up (va_up (va_up (va_up (va_up dr 6 (numV bf e 1 99 (bd0 bf e ps))) 7 (sgnV bf e 100000 (numP bf e 1 99 (bd0 bf e ps)))) 8 (sgnV bf e 100000 (sgnP bf e 100000 (numP bf e 1 99 (bd0 bf e ps))))) 9 (sgnV bf e 1000000000 (sgnP bf e 100000 (sgnP bf e 100000 (numP bf e 1 99 (bd0 bf e ps)))))) 10 (sgnV bf e 1000000000 (sgnP bf e 1000000000 (sgnP bf e 100000 (sgnP bf e 100000 (numP bf e 1 99 (bd0 bf e ps))))))))))], ⟨rfl, _, _, rfl, (by rw [bd7, bd6, if_neg (fun h => absurd h.2 (nt hcl))]; exact hr27), ((((((g1.trans gi1).trans gi6).trans gi11).trans gi16).trans gi21).trans gi27), ((((((f1.trans fj1).trans fj6).trans fj11).trans fj16).trans fj21).trans fj27)⟩, by rw [← hV0, ← hF]; exact (h.sub [1, 2, 0] rfl rfl)⟩) dX6_bodyRead_207
    · skip
      refine r_invVr hC kX6 (b 0) [.int 59] (.int 0) mVX6_isByte q2961 (fun _ h => h.get 0 rfl) (xRm_v (metX6_isByte _ _ hG b i21 j21 bf e he (sgnP bf e 1000000000 (sgnP bf e 1000000000 (sgnP bf e 100000 (sgnP bf e 100000 (numP bf e 1 99 (bd0 bf e ps)))))) hr21 59) (show _ = some (Value.int 0) by rw [hk26]; rfl)) (fun _ h => h.in.sub [0, 1] rfl rfl) ⟨rfl, rfl⟩ 0 0 rfl rfl (Nat.le_of_ble_eq_true rfl) (Nat.le_of_ble_eq_true rfl) rfl (Nat.le_of_ble_eq_true rfl) dX6_bodyRead_185 188 rfl ?_
      refine r_ifeq hC 201 dX6_bodyRead_188 (by decide) 191 rfl (fun _ => ?_) (fun h => absurd h (by decide))
      refine r_aload_n hC 2 dX6_bodyRead_201 rfl 202 rfl ?_
      refine r_bipush hC 59 dX6_bodyRead_202 bp_59 204 rfl ?_
      refine r_invVw hC kX6 (b 0) [.int 59] [(b 3, .inl (1, 111, .inr (.inl (va_up (va_up (va_up (va_up (va_up dr 6 (numV bf e 1 99 (bd0 bf e ps))) 7 (sgnV bf e 100000 (numP bf e 1 99 (bd0 bf e ps)))) 8 (sgnV bf e 100000 (sgnP bf e 100000 (numP bf e 1 99 (bd0 bf e ps))))) 9 (sgnV bf e 1000000000 (sgnP bf e 100000 (sgnP bf e 100000 (numP bf e 1 99 (bd0 bf e ps)))))) 10 (sgnV bf e 1000000000 (sgnP bf e 1000000000 (sgnP bf e 100000 (sgnP bf e 100000 (numP bf e 1 99 (bd0 bf e ps))))))))))] mVX6_must q2957 0 rfl (metX6_must _ _ hG b i21 j21 bf e he (sgnP bf e 1000000000 (sgnP bf e 1000000000 (sgnP bf e 100000 (sgnP bf e 100000 (numP bf e 1 99 (bd0 bf e ps)))))) hr21 59) [0, 1] [2] rfl rfl rfl rfl (by decide) ⟨rfl, rfl⟩ 0 0 rfl rfl (Nat.le_of_ble_eq_true rfl) (Nat.le_of_ble_eq_true rfl) rfl (Nat.le_of_ble_eq_true rfl) dX6_bodyRead_204 207 rfl (fun v32 w33 h34 => ?_) (fun _ _ h => h.elim)
      obtain ⟨rfl, i31, j31, rfl, hr31, gi31, fj31⟩ := h34
      show rn C (xSt F V0 [(b 3, .inl (1, 111, .inr (.inl (va_up (va_up (va_up (va_up (va_up dr 6 (numV bf e 1 99 (bd0 bf e ps))) 7 (sgnV bf e 100000 (numP bf e 1 99 (bd0 bf e ps)))) 8 (sgnV bf e 100000 (sgnP bf e 100000 (numP bf e 1 99 (bd0 bf e ps))))) 9 (sgnV bf e 1000000000 (sgnP bf e 100000 (sgnP bf e 100000 (numP bf e 1 99 (bd0 bf e ps)))))) 10 (sgnV bf e 1000000000 (sgnP bf e 1000000000 (sgnP bf e 100000 (sgnP bf e 100000 (numP bf e 1 99 (bd0 bf e ps)))))))))), (b 0, .inr (5, mF b i31 j31)), (b 13, .inl (0, 600, .inl bf))]) 0 0 207 [(3, .int 0), (2, .int 0), (0, .ref (b 0)), (1, .int 0)] []
      exact r_vret hC (Nat.le_of_ble_eq_true rfl) (Nat.le_of_ble_eq_true rfl) (fun V9 h => hQ _ _ ⟨[(b 0, .inr (5, mF b i31 j31)), (b 13, .inl (0, 600, .inl bf)), (b 3, .inl (1, 111, .inr (.inl (va_up (va_up (va_up (va_up (va_up dr 6 (numV bf e 1 99 (bd0 bf e ps))) 7 (sgnV bf e 100000 (numP bf e 1 99 (bd0 bf e ps)))) 8 (sgnV bf e 100000 (sgnP bf e 100000 (numP bf e 1 99 (bd0 bf e ps))))) 9 (sgnV bf e 1000000000 (sgnP bf e 100000 (sgnP bf e 100000 (numP bf e 1 99 (bd0 bf e ps)))))) 10 (sgnV bf e 1000000000 (sgnP bf e 1000000000 (sgnP bf e 100000 (sgnP bf e 100000 (numP bf e 1 99 (bd0 bf e ps))))))))))], ⟨rfl, _, _, rfl, (by rw [bd7, bd6, if_neg (fun h => absurd h.1 (nt hk26))]; exact hr31), ((((((g1.trans gi1).trans gi6).trans gi11).trans gi16).trans gi21).trans gi31), ((((((f1.trans fj1).trans fj6).trans fj11).trans fj16).trans fj21).trans fj31)⟩, by rw [← hV0, ← hF]; exact (h.sub [1, 2, 0] rfl rfl)⟩) dX6_bodyRead_207
  refine r_aload_n hC 0 dX6_bodyRead_0 rfl 1 rfl ?_
  rcases Bool.eq_false_or_eq_true (okP ps) with hk35 | hk35
  · skip
    refine r_invVr hC kX6 (b 0) [] (.int 1) mVX6_isGood q2945 (fun _ h => h.get 0 rfl) (metX6_isGood _ _ hG b i _ 1 (by rw [rd_good hr, hk35]; rfl)) (fun _ h => h.in.sub [0] rfl rfl) ⟨rfl, rfl⟩ 0 0 rfl rfl (Nat.le_of_ble_eq_true rfl) (Nat.le_of_ble_eq_true rfl) rfl (Nat.le_of_ble_eq_true rfl) dX6_bodyRead_1 4 rfl ?_
    refine r_ifeq hC 23 dX6_bodyRead_4 (by decide) 7 rfl (fun h => absurd h (by decide)) (fun _ => ?_)
    refine r_aload_n hC 0 dX6_bodyRead_7 rfl 8 rfl ?_
    refine r_ldc2 hC q2981 dX6_bodyRead_8 11 rfl ?_
    rcases Bool.eq_false_or_eq_true (isW bf e 50434 ps) with hk36 | hk36
    · skip
      refine r_invVw hC kX6 (b 0) [.long 50434] [(b 3, .inl (1, 111, .inr (.inl dr)))] mVX6_passes q2937 0 rfl (metX6_passes1 _ _ hG b i j bf e he ps hr 50434 hk36) [0, 1] [2] rfl rfl rfl rfl (by decide) ⟨rfl, rfl⟩ 0 0 rfl rfl (Nat.le_of_ble_eq_true rfl) (Nat.le_of_ble_eq_true rfl) rfl (Nat.le_of_ble_eq_true rfl) dX6_bodyRead_11 14 rfl (fun v38 w39 h40 => ?_) (fun _ _ h => h.elim)
      obtain ⟨rfl, i37, j37, rfl, hr37, gi37, fj37⟩ := h40
      show rn C (xSt F V0 [(b 3, .inl (1, 111, .inr (.inl dr))), (b 0, .inr (5, mF b i37 j37)), (b 13, .inl (0, 600, .inl bf))]) 0 0 14 [(0, .ref (b 0)), (1, .int 0)] [.int 1]
      refine r_ifne hC 23 dX6_bodyRead_14 (by decide) 17 rfl (fun _ => ?_) (fun h => absurd h (by decide))
      refine rn.mono (J := xSt F V0 [(b 0, .inr (5, mF b i37 j37)), (b 13, .inl (0, 600, .inl bf)), (b 3, .inl (1, 111, .inr (.inl dr)))]) (fun _ h => h.sub [1, 2, 0] rfl rfl) ?_
      refine rn.sub (lv' := [(0, .ref (b 0)), (1, .int 0)]) [0, 1] rfl ?_
      exact KJ _ _ (by rw [bd0, exp_pos hk36]; exact hr37) gi37 fj37
    · skip
      refine r_invVr hC kX6 (b 0) [.long 50434] (.int 0) mVX6_passes q2937 (fun _ h => h.get 0 rfl) (metX6_passes0 _ _ hG b i j bf e he ps hr 50434 hk36) (fun _ h => h.in.sub [0, 1] rfl rfl) ⟨rfl, rfl⟩ 0 0 rfl rfl (Nat.le_of_ble_eq_true rfl) (Nat.le_of_ble_eq_true rfl) rfl (Nat.le_of_ble_eq_true rfl) dX6_bodyRead_11 14 rfl ?_
      refine r_ifne hC 23 dX6_bodyRead_14 (by decide) 17 rfl (fun h => absurd h (by decide)) (fun _ => ?_)
      refine r_aload_n hC 0 dX6_bodyRead_17 rfl 18 rfl ?_
      refine r_iconst hC 1 dX6_bodyRead_18 ic_1 19 rfl ?_
      refine r_invVw hC kX6 (b 0) [.int 1] [(b 13, .inl (0, 600, .inl bf)), (b 3, .inl (1, 111, .inr (.inl dr)))] mVX6_wrongs q2953 0 rfl (metX6_wrongsP _ _ hG b i j bf e he ps hr 1 (by decide)) [0] [1, 2] rfl rfl rfl rfl (by decide) ⟨rfl, rfl⟩ 0 0 rfl rfl (Nat.le_of_ble_eq_true rfl) (Nat.le_of_ble_eq_true rfl) rfl (Nat.le_of_ble_eq_true rfl) dX6_bodyRead_19 22 rfl (fun v42 w43 h44 => ?_) (fun _ _ h => h.elim)
      obtain ⟨rfl, i41, j41, rfl, hr41, gi41, fj41⟩ := h44
      show rn C (xSt F V0 [(b 13, .inl (0, 600, .inl bf)), (b 3, .inl (1, 111, .inr (.inl dr))), (b 0, .inr (5, mF b i41 j41))]) 0 0 22 [(0, .ref (b 0)), (1, .int 0)] [.int 0]
      refine r_pop hC dX6_bodyRead_22 rfl 23 rfl ?_
      refine rn.mono (J := xSt F V0 [(b 0, .inr (5, mF b i41 j41)), (b 13, .inl (0, 600, .inl bf)), (b 3, .inl (1, 111, .inr (.inl dr)))]) (fun _ h => h.sub [2, 0, 1] rfl rfl) ?_
      refine rn.sub (lv' := [(0, .ref (b 0)), (1, .int 0)]) [0, 1] rfl ?_
      exact KJ _ _ (by rw [bd0, exp_neg hk36]; exact hr41) gi41 fj41
  · skip
    refine r_invVr hC kX6 (b 0) [] (.int 0) mVX6_isGood q2945 (fun _ h => h.get 0 rfl) (metX6_isGood _ _ hG b i _ 0 (by rw [rd_good hr, hk35]; rfl)) (fun _ h => h.in.sub [0] rfl rfl) ⟨rfl, rfl⟩ 0 0 rfl rfl (Nat.le_of_ble_eq_true rfl) (Nat.le_of_ble_eq_true rfl) rfl (Nat.le_of_ble_eq_true rfl) dX6_bodyRead_1 4 rfl ?_
    refine r_ifeq hC 23 dX6_bodyRead_4 (by decide) 7 rfl (fun _ => ?_) (fun h => absurd h (by decide))
    refine rn.sub (lv' := [(0, .ref (b 0)), (1, .int 0)]) [0, 1] rfl ?_
    exact KJ _ _ (by rw [bd0, exp_bad hk35]; exact hr) (gI_refl i) (fJ_refl j)
set_option maxHeartbeats 4000000 in
set_option maxRecDepth 100000 in
theorem metX6_bodyRead1 (l : Launch) (G : xG) (hG : xGood G) (b : Nat → Nat) (i : Nat → Int32) (j : Nat → Int64) (bf : Nat → Int32) (e : Nat) (he : e ≤ 600) (ps : PS) (hr : rdP bf e i j ps) (dr : Nat → Int64) : xWm l G yX6_bodyRead (Cond.code yX6_bodyRead cX6_bodyRead 4 none) { frames := 5, locals := 112, cells := 0, slots := 0 } [.ref (b 0), .int 1] [(b 0, .inr (5, mF b i j)), (b 13, .inl (0, 600, .inl bf)), (b 3, .inl (1, 111, .inr (.inl dr)))] (fun v w' => v = none ∧ ∃ (i' : Nat → Int32) (j' : Nat → Int64), w' = [(b 0, .inr (5, mF b i' j')), (b 13, .inl (0, 600, .inl bf)), (b 3, .inl (1, 111, .inr (.inl (bdR bf e 1 ps dr))))] ∧ rdP bf e i' j' (bd7 bf e 1 ps dr) ∧ gI i i' ∧ fJ j j') (fun _ _ => False) := by
  intro V hV
  refine xMet_of RX6 hG rfl (by decide) (Nat.le_of_ble_eq_true rfl) fun C hC hQ hX hl hg _ => ?_
  subst hl hg
  obtain ⟨V0, hV0⟩ : ∃ V0, V0 = V := ⟨_, rfl⟩
  obtain ⟨F, hF⟩ : ∃ F, F = xF [(b 0, .inr (5, mF b i j)), (b 13, .inl (0, 600, .inl bf)), (b 3, .inl (1, 111, .inr (.inl dr)))] := ⟨_, rfl⟩
  refine rn.mono (J := xSt F V0 [(b 0, .inr (5, mF b i j)), (b 13, .inl (0, 600, .inl bf)), (b 3, .inl (1, 111, .inr (.inl dr)))]) (fun V9 h => by rw [h, hV0, hF]; exact hV.st) ?_
  show rn C (xSt F V0 [(b 0, .inr (5, mF b i j)), (b 13, .inl (0, 600, .inl bf)), (b 3, .inl (1, 111, .inr (.inl dr)))]) 0 0 0 [(0, .ref (b 0)), (1, .int 1)] []
  have KJ : ∀ (i1 : Nat → Int32) (j1 : Nat → Int64), rdP bf e i1 j1 (bd0 bf e ps) → gI i i1 → fJ j j1 → rn C (xSt F V0 [(b 0, .inr (5, mF b i1 j1)), (b 13, .inl (0, 600, .inl bf)), (b 3, .inl (1, 111, .inr (.inl dr)))]) 0 0 23 [(0, .ref (b 0)), (1, .int 1)] [] := by
    intro i1 j1 h1 g1 f1
    refine r_aload_n hC 0 dX6_bodyRead_23 rfl 24 rfl ?_
    refine r_get (v := .ref (b 3)) hC kX6 3 rfl q2756 (fun _ h => h.get 0 rfl) rfl dX6_bodyRead_24 27 rfl ?_
    refine r_iload_n hC 1 dX6_bodyRead_27 rfl 28 rfl ?_
    refine r_iconst hC 0 dX6_bodyRead_28 ic_0 29 rfl ?_
    refine r_invSr hC [.int 1, .int 0] (.int 11) mSX6_at q2711 (metX6_at _ _ hG 1 0) (fun _ _ => xIn.nil) ⟨rfl, rfl⟩ 0 0 rfl rfl (Nat.le_of_ble_eq_true rfl) (Nat.le_of_ble_eq_true rfl) rfl (Nat.le_of_ble_eq_true rfl) dX6_bodyRead_29 32 rfl ?_
    refine r_aload_n hC 0 dX6_bodyRead_32 rfl 33 rfl ?_
    refine r_lconst hC 1 dX6_bodyRead_33 lc_1 34 rfl ?_
    refine r_ldc2 hC q2982 dX6_bodyRead_34 37 rfl ?_
    refine r_invVw hC kX6 (b 0) [.long 1, .long 99] [(b 3, .inl (1, 111, .inr (.inl dr)))] mVX6_number q2949 0 rfl (metX6_number _ _ hG b i1 j1 bf e he (bd0 bf e ps) h1 1 99) [0, 1] [2] rfl rfl rfl rfl (by decide) ⟨rfl, rfl⟩ 0 0 rfl rfl (Nat.le_of_ble_eq_true rfl) (Nat.le_of_ble_eq_true rfl) rfl (Nat.le_of_ble_eq_true rfl) dX6_bodyRead_37 40 rfl (fun v2 w3 h4 => ?_) (fun _ _ h => h.elim)
    obtain ⟨rfl, i1, j1, rfl, hr1, gi1, fj1⟩ := h4
    show rn C (xSt F V0 [(b 3, .inl (1, 111, .inr (.inl dr))), (b 0, .inr (5, mF b i1 j1)), (b 13, .inl (0, 600, .inl bf))]) 0 0 40 [(0, .ref (b 0)), (1, .int 1)] [.long (numV bf e 1 99 (bd0 bf e ps)), .int 11, .ref (b 3)]
    refine r_last (J := xSt F V0 [(b 3, .inl (1, 111, .inr (.inl (va_up dr 11 (numV bf e 1 99 (bd0 bf e ps)))))), (b 0, .inr (5, mF b i1 j1)), (b 13, .inl (0, 600, .inl bf))]) hC 11 (xix_n 11 (Nat.le_of_ble_eq_true rfl) (Nat.le_of_ble_eq_true rfl)) (fun _ h => h.get 0 rfl) dX6_bodyRead_40 (fun _ h => h.set 0 _ rfl) 41 rfl ?_
    generalize hu5 : va_up dr 11 (numV bf e 1 99 (bd0 bf e ps)) = u5
    refine r_aload_n hC 0 dX6_bodyRead_41 rfl 42 rfl ?_
    refine r_get (v := .ref (b 3)) hC kX6 3 rfl q2756 (fun _ h => h.get 1 rfl) rfl dX6_bodyRead_42 45 rfl ?_
    refine r_iload_n hC 1 dX6_bodyRead_45 rfl 46 rfl ?_
    refine r_iconst hC 1 dX6_bodyRead_46 ic_1 47 rfl ?_
    refine r_invSr hC [.int 1, .int 1] (.int 12) mSX6_at q2711 (metX6_at _ _ hG 1 1) (fun _ _ => xIn.nil) ⟨rfl, rfl⟩ 0 0 rfl rfl (Nat.le_of_ble_eq_true rfl) (Nat.le_of_ble_eq_true rfl) rfl (Nat.le_of_ble_eq_true rfl) dX6_bodyRead_47 50 rfl ?_
    refine r_aload_n hC 0 dX6_bodyRead_50 rfl 51 rfl ?_
    refine r_ldc2 hC q2983 dX6_bodyRead_51 54 rfl ?_
    refine r_invVw hC kX6 (b 0) [.long 100000] [(b 3, .inl (1, 111, .inr (.inl u5)))] mVX6_signed q2984 1 rfl (metX6_signed _ _ hG b i1 j1 bf e he (numP bf e 1 99 (bd0 bf e ps)) hr1 100000) [1, 2] [0] rfl rfl rfl rfl (by decide) ⟨rfl, rfl⟩ 0 0 rfl rfl (Nat.le_of_ble_eq_true rfl) (Nat.le_of_ble_eq_true rfl) rfl (Nat.le_of_ble_eq_true rfl) dX6_bodyRead_54 57 rfl (fun v7 w8 h9 => ?_) (fun _ _ h => h.elim)
    obtain ⟨rfl, i6, j6, rfl, hr6, gi6, fj6⟩ := h9
    show rn C (xSt F V0 [(b 3, .inl (1, 111, .inr (.inl u5))), (b 0, .inr (5, mF b i6 j6)), (b 13, .inl (0, 600, .inl bf))]) 0 0 57 [(0, .ref (b 0)), (1, .int 1)] [.long (sgnV bf e 100000 (numP bf e 1 99 (bd0 bf e ps))), .int 12, .ref (b 3)]
    refine r_last (J := xSt F V0 [(b 3, .inl (1, 111, .inr (.inl (va_up u5 12 (sgnV bf e 100000 (numP bf e 1 99 (bd0 bf e ps))))))), (b 0, .inr (5, mF b i6 j6)), (b 13, .inl (0, 600, .inl bf))]) hC 12 (xix_n 12 (Nat.le_of_ble_eq_true rfl) (Nat.le_of_ble_eq_true rfl)) (fun _ h => h.get 0 rfl) dX6_bodyRead_57 (fun _ h => h.set 0 _ rfl) 58 rfl ?_
    generalize hu10 : va_up u5 12 (sgnV bf e 100000 (numP bf e 1 99 (bd0 bf e ps))) = u10
    refine r_aload_n hC 0 dX6_bodyRead_58 rfl 59 rfl ?_
    refine r_get (v := .ref (b 3)) hC kX6 3 rfl q2756 (fun _ h => h.get 1 rfl) rfl dX6_bodyRead_59 62 rfl ?_
    refine r_iload_n hC 1 dX6_bodyRead_62 rfl 63 rfl ?_
    refine r_iconst hC 2 dX6_bodyRead_63 ic_2 64 rfl ?_
    refine r_invSr hC [.int 1, .int 2] (.int 13) mSX6_at q2711 (metX6_at _ _ hG 1 2) (fun _ _ => xIn.nil) ⟨rfl, rfl⟩ 0 0 rfl rfl (Nat.le_of_ble_eq_true rfl) (Nat.le_of_ble_eq_true rfl) rfl (Nat.le_of_ble_eq_true rfl) dX6_bodyRead_64 67 rfl ?_
    refine r_aload_n hC 0 dX6_bodyRead_67 rfl 68 rfl ?_
    refine r_ldc2 hC q2983 dX6_bodyRead_68 71 rfl ?_
    refine r_invVw hC kX6 (b 0) [.long 100000] [(b 3, .inl (1, 111, .inr (.inl u10)))] mVX6_signed q2984 1 rfl (metX6_signed _ _ hG b i6 j6 bf e he (sgnP bf e 100000 (numP bf e 1 99 (bd0 bf e ps))) hr6 100000) [1, 2] [0] rfl rfl rfl rfl (by decide) ⟨rfl, rfl⟩ 0 0 rfl rfl (Nat.le_of_ble_eq_true rfl) (Nat.le_of_ble_eq_true rfl) rfl (Nat.le_of_ble_eq_true rfl) dX6_bodyRead_71 74 rfl (fun v12 w13 h14 => ?_) (fun _ _ h => h.elim)
    obtain ⟨rfl, i11, j11, rfl, hr11, gi11, fj11⟩ := h14
    show rn C (xSt F V0 [(b 3, .inl (1, 111, .inr (.inl u10))), (b 0, .inr (5, mF b i11 j11)), (b 13, .inl (0, 600, .inl bf))]) 0 0 74 [(0, .ref (b 0)), (1, .int 1)] [.long (sgnV bf e 100000 (sgnP bf e 100000 (numP bf e 1 99 (bd0 bf e ps)))), .int 13, .ref (b 3)]
    refine r_last (J := xSt F V0 [(b 3, .inl (1, 111, .inr (.inl (va_up u10 13 (sgnV bf e 100000 (sgnP bf e 100000 (numP bf e 1 99 (bd0 bf e ps)))))))), (b 0, .inr (5, mF b i11 j11)), (b 13, .inl (0, 600, .inl bf))]) hC 13 (xix_n 13 (Nat.le_of_ble_eq_true rfl) (Nat.le_of_ble_eq_true rfl)) (fun _ h => h.get 0 rfl) dX6_bodyRead_74 (fun _ h => h.set 0 _ rfl) 75 rfl ?_
    generalize hu15 : va_up u10 13 (sgnV bf e 100000 (sgnP bf e 100000 (numP bf e 1 99 (bd0 bf e ps)))) = u15
    refine r_aload_n hC 0 dX6_bodyRead_75 rfl 76 rfl ?_
    refine r_get (v := .ref (b 3)) hC kX6 3 rfl q2756 (fun _ h => h.get 1 rfl) rfl dX6_bodyRead_76 79 rfl ?_
    refine r_iload_n hC 1 dX6_bodyRead_79 rfl 80 rfl ?_
    refine r_iconst hC 3 dX6_bodyRead_80 ic_3 81 rfl ?_
    refine r_invSr hC [.int 1, .int 3] (.int 14) mSX6_at q2711 (metX6_at _ _ hG 1 3) (fun _ _ => xIn.nil) ⟨rfl, rfl⟩ 0 0 rfl rfl (Nat.le_of_ble_eq_true rfl) (Nat.le_of_ble_eq_true rfl) rfl (Nat.le_of_ble_eq_true rfl) dX6_bodyRead_81 84 rfl ?_
    refine r_aload_n hC 0 dX6_bodyRead_84 rfl 85 rfl ?_
    refine r_ldc2 hC q2926 dX6_bodyRead_85 88 rfl ?_
    refine r_invVw hC kX6 (b 0) [.long 1000000000] [(b 3, .inl (1, 111, .inr (.inl u15)))] mVX6_signed q2984 1 rfl (metX6_signed _ _ hG b i11 j11 bf e he (sgnP bf e 100000 (sgnP bf e 100000 (numP bf e 1 99 (bd0 bf e ps)))) hr11 1000000000) [1, 2] [0] rfl rfl rfl rfl (by decide) ⟨rfl, rfl⟩ 0 0 rfl rfl (Nat.le_of_ble_eq_true rfl) (Nat.le_of_ble_eq_true rfl) rfl (Nat.le_of_ble_eq_true rfl) dX6_bodyRead_88 91 rfl (fun v17 w18 h19 => ?_) (fun _ _ h => h.elim)
    obtain ⟨rfl, i16, j16, rfl, hr16, gi16, fj16⟩ := h19
    show rn C (xSt F V0 [(b 3, .inl (1, 111, .inr (.inl u15))), (b 0, .inr (5, mF b i16 j16)), (b 13, .inl (0, 600, .inl bf))]) 0 0 91 [(0, .ref (b 0)), (1, .int 1)] [.long (sgnV bf e 1000000000 (sgnP bf e 100000 (sgnP bf e 100000 (numP bf e 1 99 (bd0 bf e ps))))), .int 14, .ref (b 3)]
    refine r_last (J := xSt F V0 [(b 3, .inl (1, 111, .inr (.inl (va_up u15 14 (sgnV bf e 1000000000 (sgnP bf e 100000 (sgnP bf e 100000 (numP bf e 1 99 (bd0 bf e ps))))))))), (b 0, .inr (5, mF b i16 j16)), (b 13, .inl (0, 600, .inl bf))]) hC 14 (xix_n 14 (Nat.le_of_ble_eq_true rfl) (Nat.le_of_ble_eq_true rfl)) (fun _ h => h.get 0 rfl) dX6_bodyRead_91 (fun _ h => h.set 0 _ rfl) 92 rfl ?_
    generalize hu20 : va_up u15 14 (sgnV bf e 1000000000 (sgnP bf e 100000 (sgnP bf e 100000 (numP bf e 1 99 (bd0 bf e ps))))) = u20
    refine r_aload_n hC 0 dX6_bodyRead_92 rfl 93 rfl ?_
    refine r_get (v := .ref (b 3)) hC kX6 3 rfl q2756 (fun _ h => h.get 1 rfl) rfl dX6_bodyRead_93 96 rfl ?_
    refine r_iload_n hC 1 dX6_bodyRead_96 rfl 97 rfl ?_
    refine r_iconst hC 4 dX6_bodyRead_97 ic_4 98 rfl ?_
    refine r_invSr hC [.int 1, .int 4] (.int 15) mSX6_at q2711 (metX6_at _ _ hG 1 4) (fun _ _ => xIn.nil) ⟨rfl, rfl⟩ 0 0 rfl rfl (Nat.le_of_ble_eq_true rfl) (Nat.le_of_ble_eq_true rfl) rfl (Nat.le_of_ble_eq_true rfl) dX6_bodyRead_98 101 rfl ?_
    refine r_aload_n hC 0 dX6_bodyRead_101 rfl 102 rfl ?_
    refine r_ldc2 hC q2926 dX6_bodyRead_102 105 rfl ?_
    refine r_invVw hC kX6 (b 0) [.long 1000000000] [(b 3, .inl (1, 111, .inr (.inl u20)))] mVX6_signed q2984 1 rfl (metX6_signed _ _ hG b i16 j16 bf e he (sgnP bf e 1000000000 (sgnP bf e 100000 (sgnP bf e 100000 (numP bf e 1 99 (bd0 bf e ps))))) hr16 1000000000) [1, 2] [0] rfl rfl rfl rfl (by decide) ⟨rfl, rfl⟩ 0 0 rfl rfl (Nat.le_of_ble_eq_true rfl) (Nat.le_of_ble_eq_true rfl) rfl (Nat.le_of_ble_eq_true rfl) dX6_bodyRead_105 108 rfl (fun v22 w23 h24 => ?_) (fun _ _ h => h.elim)
    obtain ⟨rfl, i21, j21, rfl, hr21, gi21, fj21⟩ := h24
    show rn C (xSt F V0 [(b 3, .inl (1, 111, .inr (.inl u20))), (b 0, .inr (5, mF b i21 j21)), (b 13, .inl (0, 600, .inl bf))]) 0 0 108 [(0, .ref (b 0)), (1, .int 1)] [.long (sgnV bf e 1000000000 (sgnP bf e 1000000000 (sgnP bf e 100000 (sgnP bf e 100000 (numP bf e 1 99 (bd0 bf e ps)))))), .int 15, .ref (b 3)]
    refine r_last (J := xSt F V0 [(b 3, .inl (1, 111, .inr (.inl (va_up u20 15 (sgnV bf e 1000000000 (sgnP bf e 1000000000 (sgnP bf e 100000 (sgnP bf e 100000 (numP bf e 1 99 (bd0 bf e ps)))))))))), (b 0, .inr (5, mF b i21 j21)), (b 13, .inl (0, 600, .inl bf))]) hC 15 (xix_n 15 (Nat.le_of_ble_eq_true rfl) (Nat.le_of_ble_eq_true rfl)) (fun _ h => h.get 0 rfl) dX6_bodyRead_108 (fun _ h => h.set 0 _ rfl) 109 rfl ?_
    generalize hu25 : va_up u20 15 (sgnV bf e 1000000000 (sgnP bf e 1000000000 (sgnP bf e 100000 (sgnP bf e 100000 (numP bf e 1 99 (bd0 bf e ps)))))) = u25
    refine r_iconst hC 0 dX6_bodyRead_109 ic_0 110 rfl ?_
    refine r_istore_n hC 2 [(2, .int 0), (0, .ref (b 0)), (1, .int 1)] dX6_bodyRead_110 rfl (Nat.le_of_ble_eq_true rfl) rfl 111 rfl ?_
    refine r_iconst hC 0 dX6_bodyRead_111 ic_0 112 rfl ?_
    refine r_istore_n hC 3 [(3, .int 0), (2, .int 0), (0, .ref (b 0)), (1, .int 1)] dX6_bodyRead_112 rfl (Nat.le_of_ble_eq_true rfl) rfl 113 rfl ?_
    refine r_iload_n hC 0 dX6_bodyRead_113 rfl 114 rfl ?_
    refine r_iload_n hC 3 dX6_bodyRead_114 rfl 115 rfl ?_
    refine r_icge hC 182 dX6_bodyRead_115 (by decide) 118 rfl (fun h => absurd h (by decide)) (fun _ => ?_)
    refine r_iload_n hC 1 dX6_bodyRead_118 rfl 119 rfl ?_
    refine r_ifne hC 170 dX6_bodyRead_119 (by decide) 122 rfl (fun h => absurd h (by decide)) (fun _ => ?_)
    refine r_aload_n hC 2 dX6_bodyRead_122 rfl 123 rfl ?_
    refine r_get (v := .ref (b 3)) hC kX6 3 rfl q2756 (fun _ h => h.get 1 rfl) rfl dX6_bodyRead_123 126 rfl ?_
    refine r_iload_n hC 0 dX6_bodyRead_126 rfl 127 rfl ?_
    refine r_iconst hC 1 dX6_bodyRead_127 ic_1 128 rfl ?_
    refine r_invSr hC [.int 0, .int 1] (.int 7) mSX6_at q2711 (metX6_at _ _ hG 0 1) (fun _ _ => xIn.nil) ⟨rfl, rfl⟩ 0 0 rfl rfl (Nat.le_of_ble_eq_true rfl) (Nat.le_of_ble_eq_true rfl) rfl (Nat.le_of_ble_eq_true rfl) dX6_bodyRead_128 131 rfl ?_
    refine r_lald hC 7 (xix_n 7 (Nat.le_of_ble_eq_true rfl) (Nat.le_of_ble_eq_true rfl)) (fun _ h => h.get 0 rfl) (dr 7) (by rw [← hu25, ← hu20, ← hu15, ← hu10, ← hu5]; rfl) dX6_bodyRead_131 132 rfl ?_
    refine r_aload_n hC 2 dX6_bodyRead_132 rfl 133 rfl ?_
    refine r_get (v := .ref (b 3)) hC kX6 3 rfl q2756 (fun _ h => h.get 1 rfl) rfl dX6_bodyRead_133 136 rfl ?_
    refine r_iload_n hC 3 dX6_bodyRead_136 rfl 137 rfl ?_
    refine r_iconst hC 1 dX6_bodyRead_137 ic_1 138 rfl ?_
    refine r_invSr hC [.int 1, .int 1] (.int 12) mSX6_at q2711 (metX6_at _ _ hG 1 1) (fun _ _ => xIn.nil) ⟨rfl, rfl⟩ 0 0 rfl rfl (Nat.le_of_ble_eq_true rfl) (Nat.le_of_ble_eq_true rfl) rfl (Nat.le_of_ble_eq_true rfl) dX6_bodyRead_138 141 rfl ?_
    refine r_lald hC 12 (xix_n 12 (Nat.le_of_ble_eq_true rfl) (Nat.le_of_ble_eq_true rfl)) (fun _ h => h.get 0 rfl) (sgnV bf e 100000 (numP bf e 1 99 (bd0 bf e ps))) (by rw [← hu25, ← hu20, ← hu15, ← hu10]; rfl) dX6_bodyRead_141 142 rfl ?_
    refine r_lcne hC 174 dX6_bodyRead_142 dX6_bodyRead_143 (by decide) 146 rfl (fun c26 => ?_) (fun c26 => ?_)
    · skip
      refine r_iconst hC 0 dX6_bodyRead_174 ic_0 175 rfl ?_
      refine r_istore_n hC 2 [(2, .int 0), (3, .int 0), (0, .ref (b 0)), (1, .int 1)] dX6_bodyRead_175 rfl (Nat.le_of_ble_eq_true rfl) rfl 176 rfl ?_
      refine r_iinc hC 1 3 1 [(3, .int 1), (2, .int 0), (0, .ref (b 0)), (1, .int 1)] dX6_bodyRead_176 rfl (by decide) (Nat.le_of_ble_eq_true rfl) rfl 179 rfl ?_
      refine r_goto hC 113 dX6_bodyRead_179 (by decide) ?_
      refine r_iload_n hC 0 dX6_bodyRead_113 rfl 114 rfl ?_
      refine r_iload_n hC 3 dX6_bodyRead_114 rfl 115 rfl ?_
      refine r_icge hC 182 dX6_bodyRead_115 (by decide) 118 rfl (fun _ => ?_) (fun h => absurd h (by decide))
      subst hu25
      subst hu20
      subst hu15
      subst hu10
      subst hu5
      refine rn.mono (J := xSt F V0 [(b 0, .inr (5, mF b i21 j21)), (b 13, .inl (0, 600, .inl bf)), (b 3, .inl (1, 111, .inr (.inl (va_up (va_up (va_up (va_up (va_up dr 11 (numV bf e 1 99 (bd0 bf e ps))) 12 (sgnV bf e 100000 (numP bf e 1 99 (bd0 bf e ps)))) 13 (sgnV bf e 100000 (sgnP bf e 100000 (numP bf e 1 99 (bd0 bf e ps))))) 14 (sgnV bf e 1000000000 (sgnP bf e 100000 (sgnP bf e 100000 (numP bf e 1 99 (bd0 bf e ps)))))) 15 (sgnV bf e 1000000000 (sgnP bf e 1000000000 (sgnP bf e 100000 (sgnP bf e 100000 (numP bf e 1 99 (bd0 bf e ps))))))))))]) (fun _ h => h.sub [1, 2, 0] rfl rfl) ?_
      have hcl : clQ (bdR bf e 1 ps dr) 1 = false := sm0x (dr := (bdR bf e 1 ps dr)) (a := 0) (c := 1) c26
      refine r_aload_n hC 2 dX6_bodyRead_182 rfl 183 rfl ?_
      refine r_bipush hC 59 dX6_bodyRead_183 bp_59 185 rfl ?_
      rcases Bool.eq_false_or_eq_true (isB bf e 59 (sgnP bf e 1000000000 (sgnP bf e 1000000000 (sgnP bf e 100000 (sgnP bf e 100000 (numP bf e 1 99 (bd0 bf e ps))))))) with hk27 | hk27
      · skip
        refine r_invVr hC kX6 (b 0) [.int 59] (.int 1) mVX6_isByte q2961 (fun _ h => h.get 0 rfl) (xRm_v (metX6_isByte _ _ hG b i21 j21 bf e he (sgnP bf e 1000000000 (sgnP bf e 1000000000 (sgnP bf e 100000 (sgnP bf e 100000 (numP bf e 1 99 (bd0 bf e ps)))))) hr21 59) (show _ = some (Value.int 1) by rw [hk27]; rfl)) (fun _ h => h.in.sub [0, 1] rfl rfl) ⟨rfl, rfl⟩ 0 0 rfl rfl (Nat.le_of_ble_eq_true rfl) (Nat.le_of_ble_eq_true rfl) rfl (Nat.le_of_ble_eq_true rfl) dX6_bodyRead_185 188 rfl ?_
        refine r_ifeq hC 201 dX6_bodyRead_188 (by decide) 191 rfl (fun h => absurd h (by decide)) (fun _ => ?_)
        refine r_iload_n hC 1 dX6_bodyRead_191 rfl 192 rfl ?_
        refine r_ifeq hC 201 dX6_bodyRead_192 (by decide) 195 rfl (fun _ => ?_) (fun h => absurd h (by decide))
        refine r_aload_n hC 2 dX6_bodyRead_201 rfl 202 rfl ?_
        refine r_bipush hC 59 dX6_bodyRead_202 bp_59 204 rfl ?_
        refine r_invVw hC kX6 (b 0) [.int 59] [(b 3, .inl (1, 111, .inr (.inl (va_up (va_up (va_up (va_up (va_up dr 11 (numV bf e 1 99 (bd0 bf e ps))) 12 (sgnV bf e 100000 (numP bf e 1 99 (bd0 bf e ps)))) 13 (sgnV bf e 100000 (sgnP bf e 100000 (numP bf e 1 99 (bd0 bf e ps))))) 14 (sgnV bf e 1000000000 (sgnP bf e 100000 (sgnP bf e 100000 (numP bf e 1 99 (bd0 bf e ps)))))) 15 (sgnV bf e 1000000000 (sgnP bf e 1000000000 (sgnP bf e 100000 (sgnP bf e 100000 (numP bf e 1 99 (bd0 bf e ps))))))))))] mVX6_must q2957 0 rfl (metX6_must _ _ hG b i21 j21 bf e he (sgnP bf e 1000000000 (sgnP bf e 1000000000 (sgnP bf e 100000 (sgnP bf e 100000 (numP bf e 1 99 (bd0 bf e ps)))))) hr21 59) [0, 1] [2] rfl rfl rfl rfl (by decide) ⟨rfl, rfl⟩ 0 0 rfl rfl (Nat.le_of_ble_eq_true rfl) (Nat.le_of_ble_eq_true rfl) rfl (Nat.le_of_ble_eq_true rfl) dX6_bodyRead_204 207 rfl (fun v29 w30 h31 => ?_) (fun _ _ h => h.elim)
        obtain ⟨rfl, i28, j28, rfl, hr28, gi28, fj28⟩ := h31
        show rn C (xSt F V0 [(b 3, .inl (1, 111, .inr (.inl (va_up (va_up (va_up (va_up (va_up dr 11 (numV bf e 1 99 (bd0 bf e ps))) 12 (sgnV bf e 100000 (numP bf e 1 99 (bd0 bf e ps)))) 13 (sgnV bf e 100000 (sgnP bf e 100000 (numP bf e 1 99 (bd0 bf e ps))))) 14 (sgnV bf e 1000000000 (sgnP bf e 100000 (sgnP bf e 100000 (numP bf e 1 99 (bd0 bf e ps)))))) 15 (sgnV bf e 1000000000 (sgnP bf e 1000000000 (sgnP bf e 100000 (sgnP bf e 100000 (numP bf e 1 99 (bd0 bf e ps)))))))))), (b 0, .inr (5, mF b i28 j28)), (b 13, .inl (0, 600, .inl bf))]) 0 0 207 [(3, .int 1), (2, .int 0), (0, .ref (b 0)), (1, .int 1)] []
        exact r_vret hC (Nat.le_of_ble_eq_true rfl) (Nat.le_of_ble_eq_true rfl) (fun V9 h => hQ _ _ ⟨[(b 0, .inr (5, mF b i28 j28)), (b 13, .inl (0, 600, .inl bf)), (b 3, .inl (1, 111, .inr (.inl (va_up (va_up (va_up (va_up (va_up dr 11 (numV bf e 1 99 (bd0 bf e ps))) 12 (sgnV bf e 100000 (numP bf e 1 99 (bd0 bf e ps)))) 13 (sgnV bf e 100000 (sgnP bf e 100000 (numP bf e 1 99 (bd0 bf e ps))))) 14 (sgnV bf e 1000000000 (sgnP bf e 100000 (sgnP bf e 100000 (numP bf e 1 99 (bd0 bf e ps)))))) 15 (sgnV bf e 1000000000 (sgnP bf e 1000000000 (sgnP bf e 100000 (sgnP bf e 100000 (numP bf e 1 99 (bd0 bf e ps))))))))))], ⟨rfl, _, _, rfl, (by rw [bd7, bd6, if_neg (fun h => absurd h.2 (nt hcl))]; exact hr28), ((((((g1.trans gi1).trans gi6).trans gi11).trans gi16).trans gi21).trans gi28), ((((((f1.trans fj1).trans fj6).trans fj11).trans fj16).trans fj21).trans fj28)⟩, by rw [← hV0, ← hF]; exact (h.sub [1, 2, 0] rfl rfl)⟩) dX6_bodyRead_207
      · skip
        refine r_invVr hC kX6 (b 0) [.int 59] (.int 0) mVX6_isByte q2961 (fun _ h => h.get 0 rfl) (xRm_v (metX6_isByte _ _ hG b i21 j21 bf e he (sgnP bf e 1000000000 (sgnP bf e 1000000000 (sgnP bf e 100000 (sgnP bf e 100000 (numP bf e 1 99 (bd0 bf e ps)))))) hr21 59) (show _ = some (Value.int 0) by rw [hk27]; rfl)) (fun _ h => h.in.sub [0, 1] rfl rfl) ⟨rfl, rfl⟩ 0 0 rfl rfl (Nat.le_of_ble_eq_true rfl) (Nat.le_of_ble_eq_true rfl) rfl (Nat.le_of_ble_eq_true rfl) dX6_bodyRead_185 188 rfl ?_
        refine r_ifeq hC 201 dX6_bodyRead_188 (by decide) 191 rfl (fun _ => ?_) (fun h => absurd h (by decide))
        refine r_aload_n hC 2 dX6_bodyRead_201 rfl 202 rfl ?_
        refine r_bipush hC 59 dX6_bodyRead_202 bp_59 204 rfl ?_
        refine r_invVw hC kX6 (b 0) [.int 59] [(b 3, .inl (1, 111, .inr (.inl (va_up (va_up (va_up (va_up (va_up dr 11 (numV bf e 1 99 (bd0 bf e ps))) 12 (sgnV bf e 100000 (numP bf e 1 99 (bd0 bf e ps)))) 13 (sgnV bf e 100000 (sgnP bf e 100000 (numP bf e 1 99 (bd0 bf e ps))))) 14 (sgnV bf e 1000000000 (sgnP bf e 100000 (sgnP bf e 100000 (numP bf e 1 99 (bd0 bf e ps)))))) 15 (sgnV bf e 1000000000 (sgnP bf e 1000000000 (sgnP bf e 100000 (sgnP bf e 100000 (numP bf e 1 99 (bd0 bf e ps))))))))))] mVX6_must q2957 0 rfl (metX6_must _ _ hG b i21 j21 bf e he (sgnP bf e 1000000000 (sgnP bf e 1000000000 (sgnP bf e 100000 (sgnP bf e 100000 (numP bf e 1 99 (bd0 bf e ps)))))) hr21 59) [0, 1] [2] rfl rfl rfl rfl (by decide) ⟨rfl, rfl⟩ 0 0 rfl rfl (Nat.le_of_ble_eq_true rfl) (Nat.le_of_ble_eq_true rfl) rfl (Nat.le_of_ble_eq_true rfl) dX6_bodyRead_204 207 rfl (fun v33 w34 h35 => ?_) (fun _ _ h => h.elim)
        obtain ⟨rfl, i32, j32, rfl, hr32, gi32, fj32⟩ := h35
        show rn C (xSt F V0 [(b 3, .inl (1, 111, .inr (.inl (va_up (va_up (va_up (va_up (va_up dr 11 (numV bf e 1 99 (bd0 bf e ps))) 12 (sgnV bf e 100000 (numP bf e 1 99 (bd0 bf e ps)))) 13 (sgnV bf e 100000 (sgnP bf e 100000 (numP bf e 1 99 (bd0 bf e ps))))) 14 (sgnV bf e 1000000000 (sgnP bf e 100000 (sgnP bf e 100000 (numP bf e 1 99 (bd0 bf e ps)))))) 15 (sgnV bf e 1000000000 (sgnP bf e 1000000000 (sgnP bf e 100000 (sgnP bf e 100000 (numP bf e 1 99 (bd0 bf e ps)))))))))), (b 0, .inr (5, mF b i32 j32)), (b 13, .inl (0, 600, .inl bf))]) 0 0 207 [(3, .int 1), (2, .int 0), (0, .ref (b 0)), (1, .int 1)] []
        exact r_vret hC (Nat.le_of_ble_eq_true rfl) (Nat.le_of_ble_eq_true rfl) (fun V9 h => hQ _ _ ⟨[(b 0, .inr (5, mF b i32 j32)), (b 13, .inl (0, 600, .inl bf)), (b 3, .inl (1, 111, .inr (.inl (va_up (va_up (va_up (va_up (va_up dr 11 (numV bf e 1 99 (bd0 bf e ps))) 12 (sgnV bf e 100000 (numP bf e 1 99 (bd0 bf e ps)))) 13 (sgnV bf e 100000 (sgnP bf e 100000 (numP bf e 1 99 (bd0 bf e ps))))) 14 (sgnV bf e 1000000000 (sgnP bf e 100000 (sgnP bf e 100000 (numP bf e 1 99 (bd0 bf e ps)))))) 15 (sgnV bf e 1000000000 (sgnP bf e 1000000000 (sgnP bf e 100000 (sgnP bf e 100000 (numP bf e 1 99 (bd0 bf e ps))))))))))], ⟨rfl, _, _, rfl, (by rw [bd7, bd6, if_neg (fun h => absurd h.1 (nt hk27))]; exact hr32), ((((((g1.trans gi1).trans gi6).trans gi11).trans gi16).trans gi21).trans gi32), ((((((f1.trans fj1).trans fj6).trans fj11).trans fj16).trans fj21).trans fj32)⟩, by rw [← hV0, ← hF]; exact (h.sub [1, 2, 0] rfl rfl)⟩) dX6_bodyRead_207
    · skip
      refine r_aload_n hC 2 dX6_bodyRead_146 rfl 147 rfl ?_
      refine r_get (v := .ref (b 3)) hC kX6 3 rfl q2756 (fun _ h => h.get 1 rfl) rfl dX6_bodyRead_147 150 rfl ?_
      refine r_iload_n hC 0 dX6_bodyRead_150 rfl 151 rfl ?_
      refine r_iconst hC 2 dX6_bodyRead_151 ic_2 152 rfl ?_
      refine r_invSr hC [.int 0, .int 2] (.int 8) mSX6_at q2711 (metX6_at _ _ hG 0 2) (fun _ _ => xIn.nil) ⟨rfl, rfl⟩ 0 0 rfl rfl (Nat.le_of_ble_eq_true rfl) (Nat.le_of_ble_eq_true rfl) rfl (Nat.le_of_ble_eq_true rfl) dX6_bodyRead_152 155 rfl ?_
      refine r_lald hC 8 (xix_n 8 (Nat.le_of_ble_eq_true rfl) (Nat.le_of_ble_eq_true rfl)) (fun _ h => h.get 0 rfl) (dr 8) (by rw [← hu25, ← hu20, ← hu15, ← hu10, ← hu5]; rfl) dX6_bodyRead_155 156 rfl ?_
      refine r_aload_n hC 2 dX6_bodyRead_156 rfl 157 rfl ?_
      refine r_get (v := .ref (b 3)) hC kX6 3 rfl q2756 (fun _ h => h.get 1 rfl) rfl dX6_bodyRead_157 160 rfl ?_
      refine r_iload_n hC 3 dX6_bodyRead_160 rfl 161 rfl ?_
      refine r_iconst hC 2 dX6_bodyRead_161 ic_2 162 rfl ?_
      refine r_invSr hC [.int 1, .int 2] (.int 13) mSX6_at q2711 (metX6_at _ _ hG 1 2) (fun _ _ => xIn.nil) ⟨rfl, rfl⟩ 0 0 rfl rfl (Nat.le_of_ble_eq_true rfl) (Nat.le_of_ble_eq_true rfl) rfl (Nat.le_of_ble_eq_true rfl) dX6_bodyRead_162 165 rfl ?_
      refine r_lald hC 13 (xix_n 13 (Nat.le_of_ble_eq_true rfl) (Nat.le_of_ble_eq_true rfl)) (fun _ h => h.get 0 rfl) (sgnV bf e 100000 (sgnP bf e 100000 (numP bf e 1 99 (bd0 bf e ps)))) (by rw [← hu25, ← hu20, ← hu15]; rfl) dX6_bodyRead_165 166 rfl ?_
      refine r_lcne hC 174 dX6_bodyRead_166 dX6_bodyRead_167 (by decide) 170 rfl (fun c36 => ?_) (fun c36 => ?_)
      · skip
        refine r_iconst hC 0 dX6_bodyRead_174 ic_0 175 rfl ?_
        refine r_istore_n hC 2 [(2, .int 0), (3, .int 0), (0, .ref (b 0)), (1, .int 1)] dX6_bodyRead_175 rfl (Nat.le_of_ble_eq_true rfl) rfl 176 rfl ?_
        refine r_iinc hC 1 3 1 [(3, .int 1), (2, .int 0), (0, .ref (b 0)), (1, .int 1)] dX6_bodyRead_176 rfl (by decide) (Nat.le_of_ble_eq_true rfl) rfl 179 rfl ?_
        refine r_goto hC 113 dX6_bodyRead_179 (by decide) ?_
        refine r_iload_n hC 0 dX6_bodyRead_113 rfl 114 rfl ?_
        refine r_iload_n hC 3 dX6_bodyRead_114 rfl 115 rfl ?_
        refine r_icge hC 182 dX6_bodyRead_115 (by decide) 118 rfl (fun _ => ?_) (fun h => absurd h (by decide))
        subst hu25
        subst hu20
        subst hu15
        subst hu10
        subst hu5
        refine rn.mono (J := xSt F V0 [(b 0, .inr (5, mF b i21 j21)), (b 13, .inl (0, 600, .inl bf)), (b 3, .inl (1, 111, .inr (.inl (va_up (va_up (va_up (va_up (va_up dr 11 (numV bf e 1 99 (bd0 bf e ps))) 12 (sgnV bf e 100000 (numP bf e 1 99 (bd0 bf e ps)))) 13 (sgnV bf e 100000 (sgnP bf e 100000 (numP bf e 1 99 (bd0 bf e ps))))) 14 (sgnV bf e 1000000000 (sgnP bf e 100000 (sgnP bf e 100000 (numP bf e 1 99 (bd0 bf e ps)))))) 15 (sgnV bf e 1000000000 (sgnP bf e 1000000000 (sgnP bf e 100000 (sgnP bf e 100000 (numP bf e 1 99 (bd0 bf e ps))))))))))]) (fun _ h => h.sub [1, 2, 0] rfl rfl) ?_
        have hcl : clQ (bdR bf e 1 ps dr) 1 = false := sm0y (dr := (bdR bf e 1 ps dr)) (a := 0) (c := 1) c36
        refine r_aload_n hC 2 dX6_bodyRead_182 rfl 183 rfl ?_
        refine r_bipush hC 59 dX6_bodyRead_183 bp_59 185 rfl ?_
        rcases Bool.eq_false_or_eq_true (isB bf e 59 (sgnP bf e 1000000000 (sgnP bf e 1000000000 (sgnP bf e 100000 (sgnP bf e 100000 (numP bf e 1 99 (bd0 bf e ps))))))) with hk37 | hk37
        · skip
          refine r_invVr hC kX6 (b 0) [.int 59] (.int 1) mVX6_isByte q2961 (fun _ h => h.get 0 rfl) (xRm_v (metX6_isByte _ _ hG b i21 j21 bf e he (sgnP bf e 1000000000 (sgnP bf e 1000000000 (sgnP bf e 100000 (sgnP bf e 100000 (numP bf e 1 99 (bd0 bf e ps)))))) hr21 59) (show _ = some (Value.int 1) by rw [hk37]; rfl)) (fun _ h => h.in.sub [0, 1] rfl rfl) ⟨rfl, rfl⟩ 0 0 rfl rfl (Nat.le_of_ble_eq_true rfl) (Nat.le_of_ble_eq_true rfl) rfl (Nat.le_of_ble_eq_true rfl) dX6_bodyRead_185 188 rfl ?_
          refine r_ifeq hC 201 dX6_bodyRead_188 (by decide) 191 rfl (fun h => absurd h (by decide)) (fun _ => ?_)
          refine r_iload_n hC 1 dX6_bodyRead_191 rfl 192 rfl ?_
          refine r_ifeq hC 201 dX6_bodyRead_192 (by decide) 195 rfl (fun _ => ?_) (fun h => absurd h (by decide))
          refine r_aload_n hC 2 dX6_bodyRead_201 rfl 202 rfl ?_
          refine r_bipush hC 59 dX6_bodyRead_202 bp_59 204 rfl ?_
          refine r_invVw hC kX6 (b 0) [.int 59] [(b 3, .inl (1, 111, .inr (.inl (va_up (va_up (va_up (va_up (va_up dr 11 (numV bf e 1 99 (bd0 bf e ps))) 12 (sgnV bf e 100000 (numP bf e 1 99 (bd0 bf e ps)))) 13 (sgnV bf e 100000 (sgnP bf e 100000 (numP bf e 1 99 (bd0 bf e ps))))) 14 (sgnV bf e 1000000000 (sgnP bf e 100000 (sgnP bf e 100000 (numP bf e 1 99 (bd0 bf e ps)))))) 15 (sgnV bf e 1000000000 (sgnP bf e 1000000000 (sgnP bf e 100000 (sgnP bf e 100000 (numP bf e 1 99 (bd0 bf e ps))))))))))] mVX6_must q2957 0 rfl (metX6_must _ _ hG b i21 j21 bf e he (sgnP bf e 1000000000 (sgnP bf e 1000000000 (sgnP bf e 100000 (sgnP bf e 100000 (numP bf e 1 99 (bd0 bf e ps)))))) hr21 59) [0, 1] [2] rfl rfl rfl rfl (by decide) ⟨rfl, rfl⟩ 0 0 rfl rfl (Nat.le_of_ble_eq_true rfl) (Nat.le_of_ble_eq_true rfl) rfl (Nat.le_of_ble_eq_true rfl) dX6_bodyRead_204 207 rfl (fun v39 w40 h41 => ?_) (fun _ _ h => h.elim)
          obtain ⟨rfl, i38, j38, rfl, hr38, gi38, fj38⟩ := h41
          show rn C (xSt F V0 [(b 3, .inl (1, 111, .inr (.inl (va_up (va_up (va_up (va_up (va_up dr 11 (numV bf e 1 99 (bd0 bf e ps))) 12 (sgnV bf e 100000 (numP bf e 1 99 (bd0 bf e ps)))) 13 (sgnV bf e 100000 (sgnP bf e 100000 (numP bf e 1 99 (bd0 bf e ps))))) 14 (sgnV bf e 1000000000 (sgnP bf e 100000 (sgnP bf e 100000 (numP bf e 1 99 (bd0 bf e ps)))))) 15 (sgnV bf e 1000000000 (sgnP bf e 1000000000 (sgnP bf e 100000 (sgnP bf e 100000 (numP bf e 1 99 (bd0 bf e ps)))))))))), (b 0, .inr (5, mF b i38 j38)), (b 13, .inl (0, 600, .inl bf))]) 0 0 207 [(3, .int 1), (2, .int 0), (0, .ref (b 0)), (1, .int 1)] []
          exact r_vret hC (Nat.le_of_ble_eq_true rfl) (Nat.le_of_ble_eq_true rfl) (fun V9 h => hQ _ _ ⟨[(b 0, .inr (5, mF b i38 j38)), (b 13, .inl (0, 600, .inl bf)), (b 3, .inl (1, 111, .inr (.inl (va_up (va_up (va_up (va_up (va_up dr 11 (numV bf e 1 99 (bd0 bf e ps))) 12 (sgnV bf e 100000 (numP bf e 1 99 (bd0 bf e ps)))) 13 (sgnV bf e 100000 (sgnP bf e 100000 (numP bf e 1 99 (bd0 bf e ps))))) 14 (sgnV bf e 1000000000 (sgnP bf e 100000 (sgnP bf e 100000 (numP bf e 1 99 (bd0 bf e ps)))))) 15 (sgnV bf e 1000000000 (sgnP bf e 1000000000 (sgnP bf e 100000 (sgnP bf e 100000 (numP bf e 1 99 (bd0 bf e ps))))))))))], ⟨rfl, _, _, rfl, (by rw [bd7, bd6, if_neg (fun h => absurd h.2 (nt hcl))]; exact hr38), ((((((g1.trans gi1).trans gi6).trans gi11).trans gi16).trans gi21).trans gi38), ((((((f1.trans fj1).trans fj6).trans fj11).trans fj16).trans fj21).trans fj38)⟩, by rw [← hV0, ← hF]; exact (h.sub [1, 2, 0] rfl rfl)⟩) dX6_bodyRead_207
        · skip
          refine r_invVr hC kX6 (b 0) [.int 59] (.int 0) mVX6_isByte q2961 (fun _ h => h.get 0 rfl) (xRm_v (metX6_isByte _ _ hG b i21 j21 bf e he (sgnP bf e 1000000000 (sgnP bf e 1000000000 (sgnP bf e 100000 (sgnP bf e 100000 (numP bf e 1 99 (bd0 bf e ps)))))) hr21 59) (show _ = some (Value.int 0) by rw [hk37]; rfl)) (fun _ h => h.in.sub [0, 1] rfl rfl) ⟨rfl, rfl⟩ 0 0 rfl rfl (Nat.le_of_ble_eq_true rfl) (Nat.le_of_ble_eq_true rfl) rfl (Nat.le_of_ble_eq_true rfl) dX6_bodyRead_185 188 rfl ?_
          refine r_ifeq hC 201 dX6_bodyRead_188 (by decide) 191 rfl (fun _ => ?_) (fun h => absurd h (by decide))
          refine r_aload_n hC 2 dX6_bodyRead_201 rfl 202 rfl ?_
          refine r_bipush hC 59 dX6_bodyRead_202 bp_59 204 rfl ?_
          refine r_invVw hC kX6 (b 0) [.int 59] [(b 3, .inl (1, 111, .inr (.inl (va_up (va_up (va_up (va_up (va_up dr 11 (numV bf e 1 99 (bd0 bf e ps))) 12 (sgnV bf e 100000 (numP bf e 1 99 (bd0 bf e ps)))) 13 (sgnV bf e 100000 (sgnP bf e 100000 (numP bf e 1 99 (bd0 bf e ps))))) 14 (sgnV bf e 1000000000 (sgnP bf e 100000 (sgnP bf e 100000 (numP bf e 1 99 (bd0 bf e ps)))))) 15 (sgnV bf e 1000000000 (sgnP bf e 1000000000 (sgnP bf e 100000 (sgnP bf e 100000 (numP bf e 1 99 (bd0 bf e ps))))))))))] mVX6_must q2957 0 rfl (metX6_must _ _ hG b i21 j21 bf e he (sgnP bf e 1000000000 (sgnP bf e 1000000000 (sgnP bf e 100000 (sgnP bf e 100000 (numP bf e 1 99 (bd0 bf e ps)))))) hr21 59) [0, 1] [2] rfl rfl rfl rfl (by decide) ⟨rfl, rfl⟩ 0 0 rfl rfl (Nat.le_of_ble_eq_true rfl) (Nat.le_of_ble_eq_true rfl) rfl (Nat.le_of_ble_eq_true rfl) dX6_bodyRead_204 207 rfl (fun v43 w44 h45 => ?_) (fun _ _ h => h.elim)
          obtain ⟨rfl, i42, j42, rfl, hr42, gi42, fj42⟩ := h45
          show rn C (xSt F V0 [(b 3, .inl (1, 111, .inr (.inl (va_up (va_up (va_up (va_up (va_up dr 11 (numV bf e 1 99 (bd0 bf e ps))) 12 (sgnV bf e 100000 (numP bf e 1 99 (bd0 bf e ps)))) 13 (sgnV bf e 100000 (sgnP bf e 100000 (numP bf e 1 99 (bd0 bf e ps))))) 14 (sgnV bf e 1000000000 (sgnP bf e 100000 (sgnP bf e 100000 (numP bf e 1 99 (bd0 bf e ps)))))) 15 (sgnV bf e 1000000000 (sgnP bf e 1000000000 (sgnP bf e 100000 (sgnP bf e 100000 (numP bf e 1 99 (bd0 bf e ps)))))))))), (b 0, .inr (5, mF b i42 j42)), (b 13, .inl (0, 600, .inl bf))]) 0 0 207 [(3, .int 1), (2, .int 0), (0, .ref (b 0)), (1, .int 1)] []
          exact r_vret hC (Nat.le_of_ble_eq_true rfl) (Nat.le_of_ble_eq_true rfl) (fun V9 h => hQ _ _ ⟨[(b 0, .inr (5, mF b i42 j42)), (b 13, .inl (0, 600, .inl bf)), (b 3, .inl (1, 111, .inr (.inl (va_up (va_up (va_up (va_up (va_up dr 11 (numV bf e 1 99 (bd0 bf e ps))) 12 (sgnV bf e 100000 (numP bf e 1 99 (bd0 bf e ps)))) 13 (sgnV bf e 100000 (sgnP bf e 100000 (numP bf e 1 99 (bd0 bf e ps))))) 14 (sgnV bf e 1000000000 (sgnP bf e 100000 (sgnP bf e 100000 (numP bf e 1 99 (bd0 bf e ps)))))) 15 (sgnV bf e 1000000000 (sgnP bf e 1000000000 (sgnP bf e 100000 (sgnP bf e 100000 (numP bf e 1 99 (bd0 bf e ps))))))))))], ⟨rfl, _, _, rfl, (by rw [bd7, bd6, if_neg (fun h => absurd h.1 (nt hk37))]; exact hr42), ((((((g1.trans gi1).trans gi6).trans gi11).trans gi16).trans gi21).trans gi42), ((((((f1.trans fj1).trans fj6).trans fj11).trans fj16).trans fj21).trans fj42)⟩, by rw [← hV0, ← hF]; exact (h.sub [1, 2, 0] rfl rfl)⟩) dX6_bodyRead_207
      · skip
        refine r_iconst hC 1 dX6_bodyRead_170 ic_1 171 rfl ?_
        refine r_goto hC 175 dX6_bodyRead_171 (by decide) ?_
        refine r_istore_n hC 2 [(2, .int 1), (3, .int 0), (0, .ref (b 0)), (1, .int 1)] dX6_bodyRead_175 rfl (Nat.le_of_ble_eq_true rfl) rfl 176 rfl ?_
        refine r_iinc hC 1 3 1 [(3, .int 1), (2, .int 1), (0, .ref (b 0)), (1, .int 1)] dX6_bodyRead_176 rfl (by decide) (Nat.le_of_ble_eq_true rfl) rfl 179 rfl ?_
        refine r_goto hC 113 dX6_bodyRead_179 (by decide) ?_
        refine r_iload_n hC 0 dX6_bodyRead_113 rfl 114 rfl ?_
        refine r_iload_n hC 3 dX6_bodyRead_114 rfl 115 rfl ?_
        refine r_icge hC 182 dX6_bodyRead_115 (by decide) 118 rfl (fun _ => ?_) (fun h => absurd h (by decide))
        subst hu25
        subst hu20
        subst hu15
        subst hu10
        subst hu5
        refine rn.mono (J := xSt F V0 [(b 0, .inr (5, mF b i21 j21)), (b 13, .inl (0, 600, .inl bf)), (b 3, .inl (1, 111, .inr (.inl (va_up (va_up (va_up (va_up (va_up dr 11 (numV bf e 1 99 (bd0 bf e ps))) 12 (sgnV bf e 100000 (numP bf e 1 99 (bd0 bf e ps)))) 13 (sgnV bf e 100000 (sgnP bf e 100000 (numP bf e 1 99 (bd0 bf e ps))))) 14 (sgnV bf e 1000000000 (sgnP bf e 100000 (sgnP bf e 100000 (numP bf e 1 99 (bd0 bf e ps)))))) 15 (sgnV bf e 1000000000 (sgnP bf e 1000000000 (sgnP bf e 100000 (sgnP bf e 100000 (numP bf e 1 99 (bd0 bf e ps))))))))))]) (fun _ h => h.sub [1, 2, 0] rfl rfl) ?_
        have hcl : clQ (bdR bf e 1 ps dr) 1 = true := sm1 (dr := (bdR bf e 1 ps dr)) (a := 0) (c := 1) c26 c36
        refine r_aload_n hC 2 dX6_bodyRead_182 rfl 183 rfl ?_
        refine r_bipush hC 59 dX6_bodyRead_183 bp_59 185 rfl ?_
        rcases Bool.eq_false_or_eq_true (isB bf e 59 (sgnP bf e 1000000000 (sgnP bf e 1000000000 (sgnP bf e 100000 (sgnP bf e 100000 (numP bf e 1 99 (bd0 bf e ps))))))) with hk46 | hk46
        · skip
          refine r_invVr hC kX6 (b 0) [.int 59] (.int 1) mVX6_isByte q2961 (fun _ h => h.get 0 rfl) (xRm_v (metX6_isByte _ _ hG b i21 j21 bf e he (sgnP bf e 1000000000 (sgnP bf e 1000000000 (sgnP bf e 100000 (sgnP bf e 100000 (numP bf e 1 99 (bd0 bf e ps)))))) hr21 59) (show _ = some (Value.int 1) by rw [hk46]; rfl)) (fun _ h => h.in.sub [0, 1] rfl rfl) ⟨rfl, rfl⟩ 0 0 rfl rfl (Nat.le_of_ble_eq_true rfl) (Nat.le_of_ble_eq_true rfl) rfl (Nat.le_of_ble_eq_true rfl) dX6_bodyRead_185 188 rfl ?_
          refine r_ifeq hC 201 dX6_bodyRead_188 (by decide) 191 rfl (fun h => absurd h (by decide)) (fun _ => ?_)
          refine r_iload_n hC 1 dX6_bodyRead_191 rfl 192 rfl ?_
          refine r_ifeq hC 201 dX6_bodyRead_192 (by decide) 195 rfl (fun h => absurd h (by decide)) (fun _ => ?_)
          refine r_aload_n hC 2 dX6_bodyRead_195 rfl 196 rfl ?_
          refine r_iconst hC 3 dX6_bodyRead_196 ic_3 197 rfl ?_
          refine r_invVw hC kX6 (b 0) [.int 3] [(b 13, .inl (0, 600, .inl bf)), (b 3, .inl (1, 111, .inr (.inl (va_up (va_up (va_up (va_up (va_up dr 11 (numV bf e 1 99 (bd0 bf e ps))) 12 (sgnV bf e 100000 (numP bf e 1 99 (bd0 bf e ps)))) 13 (sgnV bf e 100000 (sgnP bf e 100000 (numP bf e 1 99 (bd0 bf e ps))))) 14 (sgnV bf e 1000000000 (sgnP bf e 100000 (sgnP bf e 100000 (numP bf e 1 99 (bd0 bf e ps)))))) 15 (sgnV bf e 1000000000 (sgnP bf e 1000000000 (sgnP bf e 100000 (sgnP bf e 100000 (numP bf e 1 99 (bd0 bf e ps))))))))))] mVX6_wrongs q2953 0 rfl (metX6_wrongsP _ _ hG b i21 j21 bf e he (sgnP bf e 1000000000 (sgnP bf e 1000000000 (sgnP bf e 100000 (sgnP bf e 100000 (numP bf e 1 99 (bd0 bf e ps)))))) hr21 3 (by decide)) [0] [1, 2] rfl rfl rfl rfl (by decide) ⟨rfl, rfl⟩ 0 0 rfl rfl (Nat.le_of_ble_eq_true rfl) (Nat.le_of_ble_eq_true rfl) rfl (Nat.le_of_ble_eq_true rfl) dX6_bodyRead_197 200 rfl (fun v48 w49 h50 => ?_) (fun _ _ h => h.elim)
          obtain ⟨rfl, i47, j47, rfl, hr47, gi47, fj47⟩ := h50
          show rn C (xSt F V0 [(b 13, .inl (0, 600, .inl bf)), (b 3, .inl (1, 111, .inr (.inl (va_up (va_up (va_up (va_up (va_up dr 11 (numV bf e 1 99 (bd0 bf e ps))) 12 (sgnV bf e 100000 (numP bf e 1 99 (bd0 bf e ps)))) 13 (sgnV bf e 100000 (sgnP bf e 100000 (numP bf e 1 99 (bd0 bf e ps))))) 14 (sgnV bf e 1000000000 (sgnP bf e 100000 (sgnP bf e 100000 (numP bf e 1 99 (bd0 bf e ps)))))) 15 (sgnV bf e 1000000000 (sgnP bf e 1000000000 (sgnP bf e 100000 (sgnP bf e 100000 (numP bf e 1 99 (bd0 bf e ps)))))))))), (b 0, .inr (5, mF b i47 j47))]) 0 0 200 [(3, .int 1), (2, .int 1), (0, .ref (b 0)), (1, .int 1)] [.int 0]
          refine r_pop hC dX6_bodyRead_200 rfl 201 rfl ?_
          refine r_aload_n hC 2 dX6_bodyRead_201 rfl 202 rfl ?_
          refine r_bipush hC 59 dX6_bodyRead_202 bp_59 204 rfl ?_
          refine r_invVw hC kX6 (b 0) [.int 59] [(b 3, .inl (1, 111, .inr (.inl (va_up (va_up (va_up (va_up (va_up dr 11 (numV bf e 1 99 (bd0 bf e ps))) 12 (sgnV bf e 100000 (numP bf e 1 99 (bd0 bf e ps)))) 13 (sgnV bf e 100000 (sgnP bf e 100000 (numP bf e 1 99 (bd0 bf e ps))))) 14 (sgnV bf e 1000000000 (sgnP bf e 100000 (sgnP bf e 100000 (numP bf e 1 99 (bd0 bf e ps)))))) 15 (sgnV bf e 1000000000 (sgnP bf e 1000000000 (sgnP bf e 100000 (sgnP bf e 100000 (numP bf e 1 99 (bd0 bf e ps))))))))))] mVX6_must q2957 2 rfl (metX6_must _ _ hG b i47 j47 bf e he (wrP 3 (sgnP bf e 1000000000 (sgnP bf e 1000000000 (sgnP bf e 100000 (sgnP bf e 100000 (numP bf e 1 99 (bd0 bf e ps))))))) hr47 59) [2, 0] [1] rfl rfl rfl rfl (by decide) ⟨rfl, rfl⟩ 0 0 rfl rfl (Nat.le_of_ble_eq_true rfl) (Nat.le_of_ble_eq_true rfl) rfl (Nat.le_of_ble_eq_true rfl) dX6_bodyRead_204 207 rfl (fun v52 w53 h54 => ?_) (fun _ _ h => h.elim)
          obtain ⟨rfl, i51, j51, rfl, hr51, gi51, fj51⟩ := h54
          show rn C (xSt F V0 [(b 3, .inl (1, 111, .inr (.inl (va_up (va_up (va_up (va_up (va_up dr 11 (numV bf e 1 99 (bd0 bf e ps))) 12 (sgnV bf e 100000 (numP bf e 1 99 (bd0 bf e ps)))) 13 (sgnV bf e 100000 (sgnP bf e 100000 (numP bf e 1 99 (bd0 bf e ps))))) 14 (sgnV bf e 1000000000 (sgnP bf e 100000 (sgnP bf e 100000 (numP bf e 1 99 (bd0 bf e ps)))))) 15 (sgnV bf e 1000000000 (sgnP bf e 1000000000 (sgnP bf e 100000 (sgnP bf e 100000 (numP bf e 1 99 (bd0 bf e ps)))))))))), (b 0, .inr (5, mF b i51 j51)), (b 13, .inl (0, 600, .inl bf))]) 0 0 207 [(3, .int 1), (2, .int 1), (0, .ref (b 0)), (1, .int 1)] []
          exact r_vret hC (Nat.le_of_ble_eq_true rfl) (Nat.le_of_ble_eq_true rfl) (fun V9 h => hQ _ _ ⟨[(b 0, .inr (5, mF b i51 j51)), (b 13, .inl (0, 600, .inl bf)), (b 3, .inl (1, 111, .inr (.inl (va_up (va_up (va_up (va_up (va_up dr 11 (numV bf e 1 99 (bd0 bf e ps))) 12 (sgnV bf e 100000 (numP bf e 1 99 (bd0 bf e ps)))) 13 (sgnV bf e 100000 (sgnP bf e 100000 (numP bf e 1 99 (bd0 bf e ps))))) 14 (sgnV bf e 1000000000 (sgnP bf e 100000 (sgnP bf e 100000 (numP bf e 1 99 (bd0 bf e ps)))))) 15 (sgnV bf e 1000000000 (sgnP bf e 1000000000 (sgnP bf e 100000 (sgnP bf e 100000 (numP bf e 1 99 (bd0 bf e ps))))))))))], ⟨rfl, _, _, rfl, (by rw [bd7, bd6, if_pos ⟨hk46, hcl⟩]; exact hr51), (((((((g1.trans gi1).trans gi6).trans gi11).trans gi16).trans gi21).trans gi47).trans gi51), (((((((f1.trans fj1).trans fj6).trans fj11).trans fj16).trans fj21).trans fj47).trans fj51)⟩, by rw [← hV0, ← hF]; exact (h.sub [1, 2, 0] rfl rfl)⟩) dX6_bodyRead_207
        · skip
          refine r_invVr hC kX6 (b 0) [.int 59] (.int 0) mVX6_isByte q2961 (fun _ h => h.get 0 rfl) (xRm_v (metX6_isByte _ _ hG b i21 j21 bf e he (sgnP bf e 1000000000 (sgnP bf e 1000000000 (sgnP bf e 100000 (sgnP bf e 100000 (numP bf e 1 99 (bd0 bf e ps)))))) hr21 59) (show _ = some (Value.int 0) by rw [hk46]; rfl)) (fun _ h => h.in.sub [0, 1] rfl rfl) ⟨rfl, rfl⟩ 0 0 rfl rfl (Nat.le_of_ble_eq_true rfl) (Nat.le_of_ble_eq_true rfl) rfl (Nat.le_of_ble_eq_true rfl) dX6_bodyRead_185 188 rfl ?_
          refine r_ifeq hC 201 dX6_bodyRead_188 (by decide) 191 rfl (fun _ => ?_) (fun h => absurd h (by decide))
          refine r_aload_n hC 2 dX6_bodyRead_201 rfl 202 rfl ?_
          refine r_bipush hC 59 dX6_bodyRead_202 bp_59 204 rfl ?_
          refine r_invVw hC kX6 (b 0) [.int 59] [(b 3, .inl (1, 111, .inr (.inl (va_up (va_up (va_up (va_up (va_up dr 11 (numV bf e 1 99 (bd0 bf e ps))) 12 (sgnV bf e 100000 (numP bf e 1 99 (bd0 bf e ps)))) 13 (sgnV bf e 100000 (sgnP bf e 100000 (numP bf e 1 99 (bd0 bf e ps))))) 14 (sgnV bf e 1000000000 (sgnP bf e 100000 (sgnP bf e 100000 (numP bf e 1 99 (bd0 bf e ps)))))) 15 (sgnV bf e 1000000000 (sgnP bf e 1000000000 (sgnP bf e 100000 (sgnP bf e 100000 (numP bf e 1 99 (bd0 bf e ps))))))))))] mVX6_must q2957 0 rfl (metX6_must _ _ hG b i21 j21 bf e he (sgnP bf e 1000000000 (sgnP bf e 1000000000 (sgnP bf e 100000 (sgnP bf e 100000 (numP bf e 1 99 (bd0 bf e ps)))))) hr21 59) [0, 1] [2] rfl rfl rfl rfl (by decide) ⟨rfl, rfl⟩ 0 0 rfl rfl (Nat.le_of_ble_eq_true rfl) (Nat.le_of_ble_eq_true rfl) rfl (Nat.le_of_ble_eq_true rfl) dX6_bodyRead_204 207 rfl (fun v56 w57 h58 => ?_) (fun _ _ h => h.elim)
          obtain ⟨rfl, i55, j55, rfl, hr55, gi55, fj55⟩ := h58
          show rn C (xSt F V0 [(b 3, .inl (1, 111, .inr (.inl (va_up (va_up (va_up (va_up (va_up dr 11 (numV bf e 1 99 (bd0 bf e ps))) 12 (sgnV bf e 100000 (numP bf e 1 99 (bd0 bf e ps)))) 13 (sgnV bf e 100000 (sgnP bf e 100000 (numP bf e 1 99 (bd0 bf e ps))))) 14 (sgnV bf e 1000000000 (sgnP bf e 100000 (sgnP bf e 100000 (numP bf e 1 99 (bd0 bf e ps)))))) 15 (sgnV bf e 1000000000 (sgnP bf e 1000000000 (sgnP bf e 100000 (sgnP bf e 100000 (numP bf e 1 99 (bd0 bf e ps)))))))))), (b 0, .inr (5, mF b i55 j55)), (b 13, .inl (0, 600, .inl bf))]) 0 0 207 [(3, .int 1), (2, .int 1), (0, .ref (b 0)), (1, .int 1)] []
          exact r_vret hC (Nat.le_of_ble_eq_true rfl) (Nat.le_of_ble_eq_true rfl) (fun V9 h => hQ _ _ ⟨[(b 0, .inr (5, mF b i55 j55)), (b 13, .inl (0, 600, .inl bf)), (b 3, .inl (1, 111, .inr (.inl (va_up (va_up (va_up (va_up (va_up dr 11 (numV bf e 1 99 (bd0 bf e ps))) 12 (sgnV bf e 100000 (numP bf e 1 99 (bd0 bf e ps)))) 13 (sgnV bf e 100000 (sgnP bf e 100000 (numP bf e 1 99 (bd0 bf e ps))))) 14 (sgnV bf e 1000000000 (sgnP bf e 100000 (sgnP bf e 100000 (numP bf e 1 99 (bd0 bf e ps)))))) 15 (sgnV bf e 1000000000 (sgnP bf e 1000000000 (sgnP bf e 100000 (sgnP bf e 100000 (numP bf e 1 99 (bd0 bf e ps))))))))))], ⟨rfl, _, _, rfl, (by rw [bd7, bd6, if_neg (fun h => absurd h.1 (nt hk46))]; exact hr55), ((((((g1.trans gi1).trans gi6).trans gi11).trans gi16).trans gi21).trans gi55), ((((((f1.trans fj1).trans fj6).trans fj11).trans fj16).trans fj21).trans fj55)⟩, by rw [← hV0, ← hF]; exact (h.sub [1, 2, 0] rfl rfl)⟩) dX6_bodyRead_207
  refine r_aload_n hC 0 dX6_bodyRead_0 rfl 1 rfl ?_
  rcases Bool.eq_false_or_eq_true (okP ps) with hk59 | hk59
  · skip
    refine r_invVr hC kX6 (b 0) [] (.int 1) mVX6_isGood q2945 (fun _ h => h.get 0 rfl) (metX6_isGood _ _ hG b i _ 1 (by rw [rd_good hr, hk59]; rfl)) (fun _ h => h.in.sub [0] rfl rfl) ⟨rfl, rfl⟩ 0 0 rfl rfl (Nat.le_of_ble_eq_true rfl) (Nat.le_of_ble_eq_true rfl) rfl (Nat.le_of_ble_eq_true rfl) dX6_bodyRead_1 4 rfl ?_
    refine r_ifeq hC 23 dX6_bodyRead_4 (by decide) 7 rfl (fun h => absurd h (by decide)) (fun _ => ?_)
    refine r_aload_n hC 0 dX6_bodyRead_7 rfl 8 rfl ?_
    refine r_ldc2 hC q2981 dX6_bodyRead_8 11 rfl ?_
    rcases Bool.eq_false_or_eq_true (isW bf e 50434 ps) with hk60 | hk60
    · skip
      refine r_invVw hC kX6 (b 0) [.long 50434] [(b 3, .inl (1, 111, .inr (.inl dr)))] mVX6_passes q2937 0 rfl (metX6_passes1 _ _ hG b i j bf e he ps hr 50434 hk60) [0, 1] [2] rfl rfl rfl rfl (by decide) ⟨rfl, rfl⟩ 0 0 rfl rfl (Nat.le_of_ble_eq_true rfl) (Nat.le_of_ble_eq_true rfl) rfl (Nat.le_of_ble_eq_true rfl) dX6_bodyRead_11 14 rfl (fun v62 w63 h64 => ?_) (fun _ _ h => h.elim)
      obtain ⟨rfl, i61, j61, rfl, hr61, gi61, fj61⟩ := h64
      show rn C (xSt F V0 [(b 3, .inl (1, 111, .inr (.inl dr))), (b 0, .inr (5, mF b i61 j61)), (b 13, .inl (0, 600, .inl bf))]) 0 0 14 [(0, .ref (b 0)), (1, .int 1)] [.int 1]
      refine r_ifne hC 23 dX6_bodyRead_14 (by decide) 17 rfl (fun _ => ?_) (fun h => absurd h (by decide))
      refine rn.mono (J := xSt F V0 [(b 0, .inr (5, mF b i61 j61)), (b 13, .inl (0, 600, .inl bf)), (b 3, .inl (1, 111, .inr (.inl dr)))]) (fun _ h => h.sub [1, 2, 0] rfl rfl) ?_
      refine rn.sub (lv' := [(0, .ref (b 0)), (1, .int 1)]) [0, 1] rfl ?_
      exact KJ _ _ (by rw [bd0, exp_pos hk60]; exact hr61) gi61 fj61
    · skip
      refine r_invVr hC kX6 (b 0) [.long 50434] (.int 0) mVX6_passes q2937 (fun _ h => h.get 0 rfl) (metX6_passes0 _ _ hG b i j bf e he ps hr 50434 hk60) (fun _ h => h.in.sub [0, 1] rfl rfl) ⟨rfl, rfl⟩ 0 0 rfl rfl (Nat.le_of_ble_eq_true rfl) (Nat.le_of_ble_eq_true rfl) rfl (Nat.le_of_ble_eq_true rfl) dX6_bodyRead_11 14 rfl ?_
      refine r_ifne hC 23 dX6_bodyRead_14 (by decide) 17 rfl (fun h => absurd h (by decide)) (fun _ => ?_)
      refine r_aload_n hC 0 dX6_bodyRead_17 rfl 18 rfl ?_
      refine r_iconst hC 1 dX6_bodyRead_18 ic_1 19 rfl ?_
      refine r_invVw hC kX6 (b 0) [.int 1] [(b 13, .inl (0, 600, .inl bf)), (b 3, .inl (1, 111, .inr (.inl dr)))] mVX6_wrongs q2953 0 rfl (metX6_wrongsP _ _ hG b i j bf e he ps hr 1 (by decide)) [0] [1, 2] rfl rfl rfl rfl (by decide) ⟨rfl, rfl⟩ 0 0 rfl rfl (Nat.le_of_ble_eq_true rfl) (Nat.le_of_ble_eq_true rfl) rfl (Nat.le_of_ble_eq_true rfl) dX6_bodyRead_19 22 rfl (fun v66 w67 h68 => ?_) (fun _ _ h => h.elim)
      obtain ⟨rfl, i65, j65, rfl, hr65, gi65, fj65⟩ := h68
      show rn C (xSt F V0 [(b 13, .inl (0, 600, .inl bf)), (b 3, .inl (1, 111, .inr (.inl dr))), (b 0, .inr (5, mF b i65 j65))]) 0 0 22 [(0, .ref (b 0)), (1, .int 1)] [.int 0]
      refine r_pop hC dX6_bodyRead_22 rfl 23 rfl ?_
      refine rn.mono (J := xSt F V0 [(b 0, .inr (5, mF b i65 j65)), (b 13, .inl (0, 600, .inl bf)), (b 3, .inl (1, 111, .inr (.inl dr)))]) (fun _ h => h.sub [2, 0, 1] rfl rfl) ?_
      refine rn.sub (lv' := [(0, .ref (b 0)), (1, .int 1)]) [0, 1] rfl ?_
      exact KJ _ _ (by rw [bd0, exp_neg hk60]; exact hr65) gi65 fj65
  · skip
    refine r_invVr hC kX6 (b 0) [] (.int 0) mVX6_isGood q2945 (fun _ h => h.get 0 rfl) (metX6_isGood _ _ hG b i _ 0 (by rw [rd_good hr, hk59]; rfl)) (fun _ h => h.in.sub [0] rfl rfl) ⟨rfl, rfl⟩ 0 0 rfl rfl (Nat.le_of_ble_eq_true rfl) (Nat.le_of_ble_eq_true rfl) rfl (Nat.le_of_ble_eq_true rfl) dX6_bodyRead_1 4 rfl ?_
    refine r_ifeq hC 23 dX6_bodyRead_4 (by decide) 7 rfl (fun _ => ?_) (fun h => absurd h (by decide))
    refine rn.sub (lv' := [(0, .ref (b 0)), (1, .int 1)]) [0, 1] rfl ?_
    exact KJ _ _ (by rw [bd0, exp_bad hk59]; exact hr) (gI_refl i) (fJ_refl j)
set_option maxHeartbeats 4000000 in
set_option maxRecDepth 100000 in
theorem metX6_bodyRead2 (l : Launch) (G : xG) (hG : xGood G) (b : Nat → Nat) (i : Nat → Int32) (j : Nat → Int64) (bf : Nat → Int32) (e : Nat) (he : e ≤ 600) (ps : PS) (hr : rdP bf e i j ps) (dr : Nat → Int64) : xWm l G yX6_bodyRead (Cond.code yX6_bodyRead cX6_bodyRead 4 none) { frames := 5, locals := 112, cells := 0, slots := 0 } [.ref (b 0), .int 2] [(b 0, .inr (5, mF b i j)), (b 13, .inl (0, 600, .inl bf)), (b 3, .inl (1, 111, .inr (.inl dr)))] (fun v w' => v = none ∧ ∃ (i' : Nat → Int32) (j' : Nat → Int64), w' = [(b 0, .inr (5, mF b i' j')), (b 13, .inl (0, 600, .inl bf)), (b 3, .inl (1, 111, .inr (.inl (bdR bf e 2 ps dr))))] ∧ rdP bf e i' j' (bd7 bf e 2 ps dr) ∧ gI i i' ∧ fJ j j') (fun _ _ => False) := by
  intro V hV
  refine xMet_of RX6 hG rfl (by decide) (Nat.le_of_ble_eq_true rfl) fun C hC hQ hX hl hg _ => ?_
  subst hl hg
  obtain ⟨V0, hV0⟩ : ∃ V0, V0 = V := ⟨_, rfl⟩
  obtain ⟨F, hF⟩ : ∃ F, F = xF [(b 0, .inr (5, mF b i j)), (b 13, .inl (0, 600, .inl bf)), (b 3, .inl (1, 111, .inr (.inl dr)))] := ⟨_, rfl⟩
  refine rn.mono (J := xSt F V0 [(b 0, .inr (5, mF b i j)), (b 13, .inl (0, 600, .inl bf)), (b 3, .inl (1, 111, .inr (.inl dr)))]) (fun V9 h => by rw [h, hV0, hF]; exact hV.st) ?_
  show rn C (xSt F V0 [(b 0, .inr (5, mF b i j)), (b 13, .inl (0, 600, .inl bf)), (b 3, .inl (1, 111, .inr (.inl dr)))]) 0 0 0 [(0, .ref (b 0)), (1, .int 2)] []
  have KJ : ∀ (i1 : Nat → Int32) (j1 : Nat → Int64), rdP bf e i1 j1 (bd0 bf e ps) → gI i i1 → fJ j j1 → rn C (xSt F V0 [(b 0, .inr (5, mF b i1 j1)), (b 13, .inl (0, 600, .inl bf)), (b 3, .inl (1, 111, .inr (.inl dr)))]) 0 0 23 [(0, .ref (b 0)), (1, .int 2)] [] := by
    intro i1 j1 h1 g1 f1
    refine r_aload_n hC 0 dX6_bodyRead_23 rfl 24 rfl ?_
    refine r_get (v := .ref (b 3)) hC kX6 3 rfl q2756 (fun _ h => h.get 0 rfl) rfl dX6_bodyRead_24 27 rfl ?_
    refine r_iload_n hC 1 dX6_bodyRead_27 rfl 28 rfl ?_
    refine r_iconst hC 0 dX6_bodyRead_28 ic_0 29 rfl ?_
    refine r_invSr hC [.int 2, .int 0] (.int 16) mSX6_at q2711 (metX6_at _ _ hG 2 0) (fun _ _ => xIn.nil) ⟨rfl, rfl⟩ 0 0 rfl rfl (Nat.le_of_ble_eq_true rfl) (Nat.le_of_ble_eq_true rfl) rfl (Nat.le_of_ble_eq_true rfl) dX6_bodyRead_29 32 rfl ?_
    refine r_aload_n hC 0 dX6_bodyRead_32 rfl 33 rfl ?_
    refine r_lconst hC 1 dX6_bodyRead_33 lc_1 34 rfl ?_
    refine r_ldc2 hC q2982 dX6_bodyRead_34 37 rfl ?_
    refine r_invVw hC kX6 (b 0) [.long 1, .long 99] [(b 3, .inl (1, 111, .inr (.inl dr)))] mVX6_number q2949 0 rfl (metX6_number _ _ hG b i1 j1 bf e he (bd0 bf e ps) h1 1 99) [0, 1] [2] rfl rfl rfl rfl (by decide) ⟨rfl, rfl⟩ 0 0 rfl rfl (Nat.le_of_ble_eq_true rfl) (Nat.le_of_ble_eq_true rfl) rfl (Nat.le_of_ble_eq_true rfl) dX6_bodyRead_37 40 rfl (fun v2 w3 h4 => ?_) (fun _ _ h => h.elim)
    obtain ⟨rfl, i1, j1, rfl, hr1, gi1, fj1⟩ := h4
    show rn C (xSt F V0 [(b 3, .inl (1, 111, .inr (.inl dr))), (b 0, .inr (5, mF b i1 j1)), (b 13, .inl (0, 600, .inl bf))]) 0 0 40 [(0, .ref (b 0)), (1, .int 2)] [.long (numV bf e 1 99 (bd0 bf e ps)), .int 16, .ref (b 3)]
    refine r_last (J := xSt F V0 [(b 3, .inl (1, 111, .inr (.inl (va_up dr 16 (numV bf e 1 99 (bd0 bf e ps)))))), (b 0, .inr (5, mF b i1 j1)), (b 13, .inl (0, 600, .inl bf))]) hC 16 (xix_n 16 (Nat.le_of_ble_eq_true rfl) (Nat.le_of_ble_eq_true rfl)) (fun _ h => h.get 0 rfl) dX6_bodyRead_40 (fun _ h => h.set 0 _ rfl) 41 rfl ?_
    generalize hu5 : va_up dr 16 (numV bf e 1 99 (bd0 bf e ps)) = u5
    refine r_aload_n hC 0 dX6_bodyRead_41 rfl 42 rfl ?_
    refine r_get (v := .ref (b 3)) hC kX6 3 rfl q2756 (fun _ h => h.get 1 rfl) rfl dX6_bodyRead_42 45 rfl ?_
    refine r_iload_n hC 1 dX6_bodyRead_45 rfl 46 rfl ?_
    refine r_iconst hC 1 dX6_bodyRead_46 ic_1 47 rfl ?_
    refine r_invSr hC [.int 2, .int 1] (.int 17) mSX6_at q2711 (metX6_at _ _ hG 2 1) (fun _ _ => xIn.nil) ⟨rfl, rfl⟩ 0 0 rfl rfl (Nat.le_of_ble_eq_true rfl) (Nat.le_of_ble_eq_true rfl) rfl (Nat.le_of_ble_eq_true rfl) dX6_bodyRead_47 50 rfl ?_
    refine r_aload_n hC 0 dX6_bodyRead_50 rfl 51 rfl ?_
    refine r_ldc2 hC q2983 dX6_bodyRead_51 54 rfl ?_
    refine r_invVw hC kX6 (b 0) [.long 100000] [(b 3, .inl (1, 111, .inr (.inl u5)))] mVX6_signed q2984 1 rfl (metX6_signed _ _ hG b i1 j1 bf e he (numP bf e 1 99 (bd0 bf e ps)) hr1 100000) [1, 2] [0] rfl rfl rfl rfl (by decide) ⟨rfl, rfl⟩ 0 0 rfl rfl (Nat.le_of_ble_eq_true rfl) (Nat.le_of_ble_eq_true rfl) rfl (Nat.le_of_ble_eq_true rfl) dX6_bodyRead_54 57 rfl (fun v7 w8 h9 => ?_) (fun _ _ h => h.elim)
    obtain ⟨rfl, i6, j6, rfl, hr6, gi6, fj6⟩ := h9
    show rn C (xSt F V0 [(b 3, .inl (1, 111, .inr (.inl u5))), (b 0, .inr (5, mF b i6 j6)), (b 13, .inl (0, 600, .inl bf))]) 0 0 57 [(0, .ref (b 0)), (1, .int 2)] [.long (sgnV bf e 100000 (numP bf e 1 99 (bd0 bf e ps))), .int 17, .ref (b 3)]
    refine r_last (J := xSt F V0 [(b 3, .inl (1, 111, .inr (.inl (va_up u5 17 (sgnV bf e 100000 (numP bf e 1 99 (bd0 bf e ps))))))), (b 0, .inr (5, mF b i6 j6)), (b 13, .inl (0, 600, .inl bf))]) hC 17 (xix_n 17 (Nat.le_of_ble_eq_true rfl) (Nat.le_of_ble_eq_true rfl)) (fun _ h => h.get 0 rfl) dX6_bodyRead_57 (fun _ h => h.set 0 _ rfl) 58 rfl ?_
    generalize hu10 : va_up u5 17 (sgnV bf e 100000 (numP bf e 1 99 (bd0 bf e ps))) = u10
    refine r_aload_n hC 0 dX6_bodyRead_58 rfl 59 rfl ?_
    refine r_get (v := .ref (b 3)) hC kX6 3 rfl q2756 (fun _ h => h.get 1 rfl) rfl dX6_bodyRead_59 62 rfl ?_
    refine r_iload_n hC 1 dX6_bodyRead_62 rfl 63 rfl ?_
    refine r_iconst hC 2 dX6_bodyRead_63 ic_2 64 rfl ?_
    refine r_invSr hC [.int 2, .int 2] (.int 18) mSX6_at q2711 (metX6_at _ _ hG 2 2) (fun _ _ => xIn.nil) ⟨rfl, rfl⟩ 0 0 rfl rfl (Nat.le_of_ble_eq_true rfl) (Nat.le_of_ble_eq_true rfl) rfl (Nat.le_of_ble_eq_true rfl) dX6_bodyRead_64 67 rfl ?_
    refine r_aload_n hC 0 dX6_bodyRead_67 rfl 68 rfl ?_
    refine r_ldc2 hC q2983 dX6_bodyRead_68 71 rfl ?_
    refine r_invVw hC kX6 (b 0) [.long 100000] [(b 3, .inl (1, 111, .inr (.inl u10)))] mVX6_signed q2984 1 rfl (metX6_signed _ _ hG b i6 j6 bf e he (sgnP bf e 100000 (numP bf e 1 99 (bd0 bf e ps))) hr6 100000) [1, 2] [0] rfl rfl rfl rfl (by decide) ⟨rfl, rfl⟩ 0 0 rfl rfl (Nat.le_of_ble_eq_true rfl) (Nat.le_of_ble_eq_true rfl) rfl (Nat.le_of_ble_eq_true rfl) dX6_bodyRead_71 74 rfl (fun v12 w13 h14 => ?_) (fun _ _ h => h.elim)
    obtain ⟨rfl, i11, j11, rfl, hr11, gi11, fj11⟩ := h14
    show rn C (xSt F V0 [(b 3, .inl (1, 111, .inr (.inl u10))), (b 0, .inr (5, mF b i11 j11)), (b 13, .inl (0, 600, .inl bf))]) 0 0 74 [(0, .ref (b 0)), (1, .int 2)] [.long (sgnV bf e 100000 (sgnP bf e 100000 (numP bf e 1 99 (bd0 bf e ps)))), .int 18, .ref (b 3)]
    refine r_last (J := xSt F V0 [(b 3, .inl (1, 111, .inr (.inl (va_up u10 18 (sgnV bf e 100000 (sgnP bf e 100000 (numP bf e 1 99 (bd0 bf e ps)))))))), (b 0, .inr (5, mF b i11 j11)), (b 13, .inl (0, 600, .inl bf))]) hC 18 (xix_n 18 (Nat.le_of_ble_eq_true rfl) (Nat.le_of_ble_eq_true rfl)) (fun _ h => h.get 0 rfl) dX6_bodyRead_74 (fun _ h => h.set 0 _ rfl) 75 rfl ?_
    generalize hu15 : va_up u10 18 (sgnV bf e 100000 (sgnP bf e 100000 (numP bf e 1 99 (bd0 bf e ps)))) = u15
    refine r_aload_n hC 0 dX6_bodyRead_75 rfl 76 rfl ?_
    refine r_get (v := .ref (b 3)) hC kX6 3 rfl q2756 (fun _ h => h.get 1 rfl) rfl dX6_bodyRead_76 79 rfl ?_
    refine r_iload_n hC 1 dX6_bodyRead_79 rfl 80 rfl ?_
    refine r_iconst hC 3 dX6_bodyRead_80 ic_3 81 rfl ?_
    refine r_invSr hC [.int 2, .int 3] (.int 19) mSX6_at q2711 (metX6_at _ _ hG 2 3) (fun _ _ => xIn.nil) ⟨rfl, rfl⟩ 0 0 rfl rfl (Nat.le_of_ble_eq_true rfl) (Nat.le_of_ble_eq_true rfl) rfl (Nat.le_of_ble_eq_true rfl) dX6_bodyRead_81 84 rfl ?_
    refine r_aload_n hC 0 dX6_bodyRead_84 rfl 85 rfl ?_
    refine r_ldc2 hC q2926 dX6_bodyRead_85 88 rfl ?_
    refine r_invVw hC kX6 (b 0) [.long 1000000000] [(b 3, .inl (1, 111, .inr (.inl u15)))] mVX6_signed q2984 1 rfl (metX6_signed _ _ hG b i11 j11 bf e he (sgnP bf e 100000 (sgnP bf e 100000 (numP bf e 1 99 (bd0 bf e ps)))) hr11 1000000000) [1, 2] [0] rfl rfl rfl rfl (by decide) ⟨rfl, rfl⟩ 0 0 rfl rfl (Nat.le_of_ble_eq_true rfl) (Nat.le_of_ble_eq_true rfl) rfl (Nat.le_of_ble_eq_true rfl) dX6_bodyRead_88 91 rfl (fun v17 w18 h19 => ?_) (fun _ _ h => h.elim)
    obtain ⟨rfl, i16, j16, rfl, hr16, gi16, fj16⟩ := h19
    show rn C (xSt F V0 [(b 3, .inl (1, 111, .inr (.inl u15))), (b 0, .inr (5, mF b i16 j16)), (b 13, .inl (0, 600, .inl bf))]) 0 0 91 [(0, .ref (b 0)), (1, .int 2)] [.long (sgnV bf e 1000000000 (sgnP bf e 100000 (sgnP bf e 100000 (numP bf e 1 99 (bd0 bf e ps))))), .int 19, .ref (b 3)]
    refine r_last (J := xSt F V0 [(b 3, .inl (1, 111, .inr (.inl (va_up u15 19 (sgnV bf e 1000000000 (sgnP bf e 100000 (sgnP bf e 100000 (numP bf e 1 99 (bd0 bf e ps))))))))), (b 0, .inr (5, mF b i16 j16)), (b 13, .inl (0, 600, .inl bf))]) hC 19 (xix_n 19 (Nat.le_of_ble_eq_true rfl) (Nat.le_of_ble_eq_true rfl)) (fun _ h => h.get 0 rfl) dX6_bodyRead_91 (fun _ h => h.set 0 _ rfl) 92 rfl ?_
    generalize hu20 : va_up u15 19 (sgnV bf e 1000000000 (sgnP bf e 100000 (sgnP bf e 100000 (numP bf e 1 99 (bd0 bf e ps))))) = u20
    refine r_aload_n hC 0 dX6_bodyRead_92 rfl 93 rfl ?_
    refine r_get (v := .ref (b 3)) hC kX6 3 rfl q2756 (fun _ h => h.get 1 rfl) rfl dX6_bodyRead_93 96 rfl ?_
    refine r_iload_n hC 1 dX6_bodyRead_96 rfl 97 rfl ?_
    refine r_iconst hC 4 dX6_bodyRead_97 ic_4 98 rfl ?_
    refine r_invSr hC [.int 2, .int 4] (.int 20) mSX6_at q2711 (metX6_at _ _ hG 2 4) (fun _ _ => xIn.nil) ⟨rfl, rfl⟩ 0 0 rfl rfl (Nat.le_of_ble_eq_true rfl) (Nat.le_of_ble_eq_true rfl) rfl (Nat.le_of_ble_eq_true rfl) dX6_bodyRead_98 101 rfl ?_
    refine r_aload_n hC 0 dX6_bodyRead_101 rfl 102 rfl ?_
    refine r_ldc2 hC q2926 dX6_bodyRead_102 105 rfl ?_
    refine r_invVw hC kX6 (b 0) [.long 1000000000] [(b 3, .inl (1, 111, .inr (.inl u20)))] mVX6_signed q2984 1 rfl (metX6_signed _ _ hG b i16 j16 bf e he (sgnP bf e 1000000000 (sgnP bf e 100000 (sgnP bf e 100000 (numP bf e 1 99 (bd0 bf e ps))))) hr16 1000000000) [1, 2] [0] rfl rfl rfl rfl (by decide) ⟨rfl, rfl⟩ 0 0 rfl rfl (Nat.le_of_ble_eq_true rfl) (Nat.le_of_ble_eq_true rfl) rfl (Nat.le_of_ble_eq_true rfl) dX6_bodyRead_105 108 rfl (fun v22 w23 h24 => ?_) (fun _ _ h => h.elim)
    obtain ⟨rfl, i21, j21, rfl, hr21, gi21, fj21⟩ := h24
    show rn C (xSt F V0 [(b 3, .inl (1, 111, .inr (.inl u20))), (b 0, .inr (5, mF b i21 j21)), (b 13, .inl (0, 600, .inl bf))]) 0 0 108 [(0, .ref (b 0)), (1, .int 2)] [.long (sgnV bf e 1000000000 (sgnP bf e 1000000000 (sgnP bf e 100000 (sgnP bf e 100000 (numP bf e 1 99 (bd0 bf e ps)))))), .int 20, .ref (b 3)]
    refine r_last (J := xSt F V0 [(b 3, .inl (1, 111, .inr (.inl (va_up u20 20 (sgnV bf e 1000000000 (sgnP bf e 1000000000 (sgnP bf e 100000 (sgnP bf e 100000 (numP bf e 1 99 (bd0 bf e ps)))))))))), (b 0, .inr (5, mF b i21 j21)), (b 13, .inl (0, 600, .inl bf))]) hC 20 (xix_n 20 (Nat.le_of_ble_eq_true rfl) (Nat.le_of_ble_eq_true rfl)) (fun _ h => h.get 0 rfl) dX6_bodyRead_108 (fun _ h => h.set 0 _ rfl) 109 rfl ?_
    generalize hu25 : va_up u20 20 (sgnV bf e 1000000000 (sgnP bf e 1000000000 (sgnP bf e 100000 (sgnP bf e 100000 (numP bf e 1 99 (bd0 bf e ps)))))) = u25
    refine r_iconst hC 0 dX6_bodyRead_109 ic_0 110 rfl ?_
    refine r_istore_n hC 2 [(2, .int 0), (0, .ref (b 0)), (1, .int 2)] dX6_bodyRead_110 rfl (Nat.le_of_ble_eq_true rfl) rfl 111 rfl ?_
    refine r_iconst hC 0 dX6_bodyRead_111 ic_0 112 rfl ?_
    refine r_istore_n hC 3 [(3, .int 0), (2, .int 0), (0, .ref (b 0)), (1, .int 2)] dX6_bodyRead_112 rfl (Nat.le_of_ble_eq_true rfl) rfl 113 rfl ?_
    refine r_iload_n hC 0 dX6_bodyRead_113 rfl 114 rfl ?_
    refine r_iload_n hC 3 dX6_bodyRead_114 rfl 115 rfl ?_
    refine r_icge hC 182 dX6_bodyRead_115 (by decide) 118 rfl (fun h => absurd h (by decide)) (fun _ => ?_)
    refine r_iload_n hC 1 dX6_bodyRead_118 rfl 119 rfl ?_
    refine r_ifne hC 170 dX6_bodyRead_119 (by decide) 122 rfl (fun h => absurd h (by decide)) (fun _ => ?_)
    refine r_aload_n hC 2 dX6_bodyRead_122 rfl 123 rfl ?_
    refine r_get (v := .ref (b 3)) hC kX6 3 rfl q2756 (fun _ h => h.get 1 rfl) rfl dX6_bodyRead_123 126 rfl ?_
    refine r_iload_n hC 0 dX6_bodyRead_126 rfl 127 rfl ?_
    refine r_iconst hC 1 dX6_bodyRead_127 ic_1 128 rfl ?_
    refine r_invSr hC [.int 0, .int 1] (.int 7) mSX6_at q2711 (metX6_at _ _ hG 0 1) (fun _ _ => xIn.nil) ⟨rfl, rfl⟩ 0 0 rfl rfl (Nat.le_of_ble_eq_true rfl) (Nat.le_of_ble_eq_true rfl) rfl (Nat.le_of_ble_eq_true rfl) dX6_bodyRead_128 131 rfl ?_
    refine r_lald hC 7 (xix_n 7 (Nat.le_of_ble_eq_true rfl) (Nat.le_of_ble_eq_true rfl)) (fun _ h => h.get 0 rfl) (dr 7) (by rw [← hu25, ← hu20, ← hu15, ← hu10, ← hu5]; rfl) dX6_bodyRead_131 132 rfl ?_
    refine r_aload_n hC 2 dX6_bodyRead_132 rfl 133 rfl ?_
    refine r_get (v := .ref (b 3)) hC kX6 3 rfl q2756 (fun _ h => h.get 1 rfl) rfl dX6_bodyRead_133 136 rfl ?_
    refine r_iload_n hC 3 dX6_bodyRead_136 rfl 137 rfl ?_
    refine r_iconst hC 1 dX6_bodyRead_137 ic_1 138 rfl ?_
    refine r_invSr hC [.int 2, .int 1] (.int 17) mSX6_at q2711 (metX6_at _ _ hG 2 1) (fun _ _ => xIn.nil) ⟨rfl, rfl⟩ 0 0 rfl rfl (Nat.le_of_ble_eq_true rfl) (Nat.le_of_ble_eq_true rfl) rfl (Nat.le_of_ble_eq_true rfl) dX6_bodyRead_138 141 rfl ?_
    refine r_lald hC 17 (xix_n 17 (Nat.le_of_ble_eq_true rfl) (Nat.le_of_ble_eq_true rfl)) (fun _ h => h.get 0 rfl) (sgnV bf e 100000 (numP bf e 1 99 (bd0 bf e ps))) (by rw [← hu25, ← hu20, ← hu15, ← hu10]; rfl) dX6_bodyRead_141 142 rfl ?_
    refine r_lcne hC 174 dX6_bodyRead_142 dX6_bodyRead_143 (by decide) 146 rfl (fun c26 => ?_) (fun c26 => ?_)
    · skip
      refine r_iconst hC 0 dX6_bodyRead_174 ic_0 175 rfl ?_
      refine r_istore_n hC 2 [(2, .int 0), (3, .int 0), (0, .ref (b 0)), (1, .int 2)] dX6_bodyRead_175 rfl (Nat.le_of_ble_eq_true rfl) rfl 176 rfl ?_
      refine r_iinc hC 1 3 1 [(3, .int 1), (2, .int 0), (0, .ref (b 0)), (1, .int 2)] dX6_bodyRead_176 rfl (by decide) (Nat.le_of_ble_eq_true rfl) rfl 179 rfl ?_
      refine r_goto hC 113 dX6_bodyRead_179 (by decide) ?_
      refine r_iload_n hC 0 dX6_bodyRead_113 rfl 114 rfl ?_
      refine r_iload_n hC 3 dX6_bodyRead_114 rfl 115 rfl ?_
      refine r_icge hC 182 dX6_bodyRead_115 (by decide) 118 rfl (fun h => absurd h (by decide)) (fun _ => ?_)
      refine r_iload_n hC 1 dX6_bodyRead_118 rfl 119 rfl ?_
      refine r_ifne hC 170 dX6_bodyRead_119 (by decide) 122 rfl (fun h => absurd h (by decide)) (fun _ => ?_)
      refine r_aload_n hC 2 dX6_bodyRead_122 rfl 123 rfl ?_
      refine r_get (v := .ref (b 3)) hC kX6 3 rfl q2756 (fun _ h => h.get 1 rfl) rfl dX6_bodyRead_123 126 rfl ?_
      refine r_iload_n hC 0 dX6_bodyRead_126 rfl 127 rfl ?_
      refine r_iconst hC 1 dX6_bodyRead_127 ic_1 128 rfl ?_
      refine r_invSr hC [.int 1, .int 1] (.int 12) mSX6_at q2711 (metX6_at _ _ hG 1 1) (fun _ _ => xIn.nil) ⟨rfl, rfl⟩ 0 0 rfl rfl (Nat.le_of_ble_eq_true rfl) (Nat.le_of_ble_eq_true rfl) rfl (Nat.le_of_ble_eq_true rfl) dX6_bodyRead_128 131 rfl ?_
      refine r_lald hC 12 (xix_n 12 (Nat.le_of_ble_eq_true rfl) (Nat.le_of_ble_eq_true rfl)) (fun _ h => h.get 0 rfl) (dr 12) (by rw [← hu25, ← hu20, ← hu15, ← hu10, ← hu5]; rfl) dX6_bodyRead_131 132 rfl ?_
      refine r_aload_n hC 2 dX6_bodyRead_132 rfl 133 rfl ?_
      refine r_get (v := .ref (b 3)) hC kX6 3 rfl q2756 (fun _ h => h.get 1 rfl) rfl dX6_bodyRead_133 136 rfl ?_
      refine r_iload_n hC 3 dX6_bodyRead_136 rfl 137 rfl ?_
      refine r_iconst hC 1 dX6_bodyRead_137 ic_1 138 rfl ?_
      refine r_invSr hC [.int 2, .int 1] (.int 17) mSX6_at q2711 (metX6_at _ _ hG 2 1) (fun _ _ => xIn.nil) ⟨rfl, rfl⟩ 0 0 rfl rfl (Nat.le_of_ble_eq_true rfl) (Nat.le_of_ble_eq_true rfl) rfl (Nat.le_of_ble_eq_true rfl) dX6_bodyRead_138 141 rfl ?_
      refine r_lald hC 17 (xix_n 17 (Nat.le_of_ble_eq_true rfl) (Nat.le_of_ble_eq_true rfl)) (fun _ h => h.get 0 rfl) (sgnV bf e 100000 (numP bf e 1 99 (bd0 bf e ps))) (by rw [← hu25, ← hu20, ← hu15, ← hu10]; rfl) dX6_bodyRead_141 142 rfl ?_
      refine r_lcne hC 174 dX6_bodyRead_142 dX6_bodyRead_143 (by decide) 146 rfl (fun c27 => ?_) (fun c27 => ?_)
      · skip
        refine r_iconst hC 0 dX6_bodyRead_174 ic_0 175 rfl ?_
        refine r_istore_n hC 2 [(2, .int 0), (3, .int 1), (0, .ref (b 0)), (1, .int 2)] dX6_bodyRead_175 rfl (Nat.le_of_ble_eq_true rfl) rfl 176 rfl ?_
        refine r_iinc hC 2 3 1 [(3, .int 2), (2, .int 0), (0, .ref (b 0)), (1, .int 2)] dX6_bodyRead_176 rfl (by decide) (Nat.le_of_ble_eq_true rfl) rfl 179 rfl ?_
        refine r_goto hC 113 dX6_bodyRead_179 (by decide) ?_
        refine r_iload_n hC 0 dX6_bodyRead_113 rfl 114 rfl ?_
        refine r_iload_n hC 3 dX6_bodyRead_114 rfl 115 rfl ?_
        refine r_icge hC 182 dX6_bodyRead_115 (by decide) 118 rfl (fun _ => ?_) (fun h => absurd h (by decide))
        subst hu25
        subst hu20
        subst hu15
        subst hu10
        subst hu5
        refine rn.mono (J := xSt F V0 [(b 0, .inr (5, mF b i21 j21)), (b 13, .inl (0, 600, .inl bf)), (b 3, .inl (1, 111, .inr (.inl (va_up (va_up (va_up (va_up (va_up dr 16 (numV bf e 1 99 (bd0 bf e ps))) 17 (sgnV bf e 100000 (numP bf e 1 99 (bd0 bf e ps)))) 18 (sgnV bf e 100000 (sgnP bf e 100000 (numP bf e 1 99 (bd0 bf e ps))))) 19 (sgnV bf e 1000000000 (sgnP bf e 100000 (sgnP bf e 100000 (numP bf e 1 99 (bd0 bf e ps)))))) 20 (sgnV bf e 1000000000 (sgnP bf e 1000000000 (sgnP bf e 100000 (sgnP bf e 100000 (numP bf e 1 99 (bd0 bf e ps))))))))))]) (fun _ h => h.sub [1, 2, 0] rfl rfl) ?_
        have hcl : clQ (bdR bf e 2 ps dr) 2 = false := by rw [clQ_2, sm0x (dr := (bdR bf e 2 ps dr)) (a := 0) (c := 2) c26, sm0x (dr := (bdR bf e 2 ps dr)) (a := 1) (c := 2) c27]; rfl
        refine r_aload_n hC 2 dX6_bodyRead_182 rfl 183 rfl ?_
        refine r_bipush hC 59 dX6_bodyRead_183 bp_59 185 rfl ?_
        rcases Bool.eq_false_or_eq_true (isB bf e 59 (sgnP bf e 1000000000 (sgnP bf e 1000000000 (sgnP bf e 100000 (sgnP bf e 100000 (numP bf e 1 99 (bd0 bf e ps))))))) with hk28 | hk28
        · skip
          refine r_invVr hC kX6 (b 0) [.int 59] (.int 1) mVX6_isByte q2961 (fun _ h => h.get 0 rfl) (xRm_v (metX6_isByte _ _ hG b i21 j21 bf e he (sgnP bf e 1000000000 (sgnP bf e 1000000000 (sgnP bf e 100000 (sgnP bf e 100000 (numP bf e 1 99 (bd0 bf e ps)))))) hr21 59) (show _ = some (Value.int 1) by rw [hk28]; rfl)) (fun _ h => h.in.sub [0, 1] rfl rfl) ⟨rfl, rfl⟩ 0 0 rfl rfl (Nat.le_of_ble_eq_true rfl) (Nat.le_of_ble_eq_true rfl) rfl (Nat.le_of_ble_eq_true rfl) dX6_bodyRead_185 188 rfl ?_
          refine r_ifeq hC 201 dX6_bodyRead_188 (by decide) 191 rfl (fun h => absurd h (by decide)) (fun _ => ?_)
          refine r_iload_n hC 1 dX6_bodyRead_191 rfl 192 rfl ?_
          refine r_ifeq hC 201 dX6_bodyRead_192 (by decide) 195 rfl (fun _ => ?_) (fun h => absurd h (by decide))
          refine r_aload_n hC 2 dX6_bodyRead_201 rfl 202 rfl ?_
          refine r_bipush hC 59 dX6_bodyRead_202 bp_59 204 rfl ?_
          refine r_invVw hC kX6 (b 0) [.int 59] [(b 3, .inl (1, 111, .inr (.inl (va_up (va_up (va_up (va_up (va_up dr 16 (numV bf e 1 99 (bd0 bf e ps))) 17 (sgnV bf e 100000 (numP bf e 1 99 (bd0 bf e ps)))) 18 (sgnV bf e 100000 (sgnP bf e 100000 (numP bf e 1 99 (bd0 bf e ps))))) 19 (sgnV bf e 1000000000 (sgnP bf e 100000 (sgnP bf e 100000 (numP bf e 1 99 (bd0 bf e ps)))))) 20 (sgnV bf e 1000000000 (sgnP bf e 1000000000 (sgnP bf e 100000 (sgnP bf e 100000 (numP bf e 1 99 (bd0 bf e ps))))))))))] mVX6_must q2957 0 rfl (metX6_must _ _ hG b i21 j21 bf e he (sgnP bf e 1000000000 (sgnP bf e 1000000000 (sgnP bf e 100000 (sgnP bf e 100000 (numP bf e 1 99 (bd0 bf e ps)))))) hr21 59) [0, 1] [2] rfl rfl rfl rfl (by decide) ⟨rfl, rfl⟩ 0 0 rfl rfl (Nat.le_of_ble_eq_true rfl) (Nat.le_of_ble_eq_true rfl) rfl (Nat.le_of_ble_eq_true rfl) dX6_bodyRead_204 207 rfl (fun v30 w31 h32 => ?_) (fun _ _ h => h.elim)
          obtain ⟨rfl, i29, j29, rfl, hr29, gi29, fj29⟩ := h32
          show rn C (xSt F V0 [(b 3, .inl (1, 111, .inr (.inl (va_up (va_up (va_up (va_up (va_up dr 16 (numV bf e 1 99 (bd0 bf e ps))) 17 (sgnV bf e 100000 (numP bf e 1 99 (bd0 bf e ps)))) 18 (sgnV bf e 100000 (sgnP bf e 100000 (numP bf e 1 99 (bd0 bf e ps))))) 19 (sgnV bf e 1000000000 (sgnP bf e 100000 (sgnP bf e 100000 (numP bf e 1 99 (bd0 bf e ps)))))) 20 (sgnV bf e 1000000000 (sgnP bf e 1000000000 (sgnP bf e 100000 (sgnP bf e 100000 (numP bf e 1 99 (bd0 bf e ps)))))))))), (b 0, .inr (5, mF b i29 j29)), (b 13, .inl (0, 600, .inl bf))]) 0 0 207 [(3, .int 2), (2, .int 0), (0, .ref (b 0)), (1, .int 2)] []
          exact r_vret hC (Nat.le_of_ble_eq_true rfl) (Nat.le_of_ble_eq_true rfl) (fun V9 h => hQ _ _ ⟨[(b 0, .inr (5, mF b i29 j29)), (b 13, .inl (0, 600, .inl bf)), (b 3, .inl (1, 111, .inr (.inl (va_up (va_up (va_up (va_up (va_up dr 16 (numV bf e 1 99 (bd0 bf e ps))) 17 (sgnV bf e 100000 (numP bf e 1 99 (bd0 bf e ps)))) 18 (sgnV bf e 100000 (sgnP bf e 100000 (numP bf e 1 99 (bd0 bf e ps))))) 19 (sgnV bf e 1000000000 (sgnP bf e 100000 (sgnP bf e 100000 (numP bf e 1 99 (bd0 bf e ps)))))) 20 (sgnV bf e 1000000000 (sgnP bf e 1000000000 (sgnP bf e 100000 (sgnP bf e 100000 (numP bf e 1 99 (bd0 bf e ps))))))))))], ⟨rfl, _, _, rfl, (by rw [bd7, bd6, if_neg (fun h => absurd h.2 (nt hcl))]; exact hr29), ((((((g1.trans gi1).trans gi6).trans gi11).trans gi16).trans gi21).trans gi29), ((((((f1.trans fj1).trans fj6).trans fj11).trans fj16).trans fj21).trans fj29)⟩, by rw [← hV0, ← hF]; exact (h.sub [1, 2, 0] rfl rfl)⟩) dX6_bodyRead_207
        · skip
          refine r_invVr hC kX6 (b 0) [.int 59] (.int 0) mVX6_isByte q2961 (fun _ h => h.get 0 rfl) (xRm_v (metX6_isByte _ _ hG b i21 j21 bf e he (sgnP bf e 1000000000 (sgnP bf e 1000000000 (sgnP bf e 100000 (sgnP bf e 100000 (numP bf e 1 99 (bd0 bf e ps)))))) hr21 59) (show _ = some (Value.int 0) by rw [hk28]; rfl)) (fun _ h => h.in.sub [0, 1] rfl rfl) ⟨rfl, rfl⟩ 0 0 rfl rfl (Nat.le_of_ble_eq_true rfl) (Nat.le_of_ble_eq_true rfl) rfl (Nat.le_of_ble_eq_true rfl) dX6_bodyRead_185 188 rfl ?_
          refine r_ifeq hC 201 dX6_bodyRead_188 (by decide) 191 rfl (fun _ => ?_) (fun h => absurd h (by decide))
          refine r_aload_n hC 2 dX6_bodyRead_201 rfl 202 rfl ?_
          refine r_bipush hC 59 dX6_bodyRead_202 bp_59 204 rfl ?_
          refine r_invVw hC kX6 (b 0) [.int 59] [(b 3, .inl (1, 111, .inr (.inl (va_up (va_up (va_up (va_up (va_up dr 16 (numV bf e 1 99 (bd0 bf e ps))) 17 (sgnV bf e 100000 (numP bf e 1 99 (bd0 bf e ps)))) 18 (sgnV bf e 100000 (sgnP bf e 100000 (numP bf e 1 99 (bd0 bf e ps))))) 19 (sgnV bf e 1000000000 (sgnP bf e 100000 (sgnP bf e 100000 (numP bf e 1 99 (bd0 bf e ps)))))) 20 (sgnV bf e 1000000000 (sgnP bf e 1000000000 (sgnP bf e 100000 (sgnP bf e 100000 (numP bf e 1 99 (bd0 bf e ps))))))))))] mVX6_must q2957 0 rfl (metX6_must _ _ hG b i21 j21 bf e he (sgnP bf e 1000000000 (sgnP bf e 1000000000 (sgnP bf e 100000 (sgnP bf e 100000 (numP bf e 1 99 (bd0 bf e ps)))))) hr21 59) [0, 1] [2] rfl rfl rfl rfl (by decide) ⟨rfl, rfl⟩ 0 0 rfl rfl (Nat.le_of_ble_eq_true rfl) (Nat.le_of_ble_eq_true rfl) rfl (Nat.le_of_ble_eq_true rfl) dX6_bodyRead_204 207 rfl (fun v34 w35 h36 => ?_) (fun _ _ h => h.elim)
          obtain ⟨rfl, i33, j33, rfl, hr33, gi33, fj33⟩ := h36
          show rn C (xSt F V0 [(b 3, .inl (1, 111, .inr (.inl (va_up (va_up (va_up (va_up (va_up dr 16 (numV bf e 1 99 (bd0 bf e ps))) 17 (sgnV bf e 100000 (numP bf e 1 99 (bd0 bf e ps)))) 18 (sgnV bf e 100000 (sgnP bf e 100000 (numP bf e 1 99 (bd0 bf e ps))))) 19 (sgnV bf e 1000000000 (sgnP bf e 100000 (sgnP bf e 100000 (numP bf e 1 99 (bd0 bf e ps)))))) 20 (sgnV bf e 1000000000 (sgnP bf e 1000000000 (sgnP bf e 100000 (sgnP bf e 100000 (numP bf e 1 99 (bd0 bf e ps)))))))))), (b 0, .inr (5, mF b i33 j33)), (b 13, .inl (0, 600, .inl bf))]) 0 0 207 [(3, .int 2), (2, .int 0), (0, .ref (b 0)), (1, .int 2)] []
          exact r_vret hC (Nat.le_of_ble_eq_true rfl) (Nat.le_of_ble_eq_true rfl) (fun V9 h => hQ _ _ ⟨[(b 0, .inr (5, mF b i33 j33)), (b 13, .inl (0, 600, .inl bf)), (b 3, .inl (1, 111, .inr (.inl (va_up (va_up (va_up (va_up (va_up dr 16 (numV bf e 1 99 (bd0 bf e ps))) 17 (sgnV bf e 100000 (numP bf e 1 99 (bd0 bf e ps)))) 18 (sgnV bf e 100000 (sgnP bf e 100000 (numP bf e 1 99 (bd0 bf e ps))))) 19 (sgnV bf e 1000000000 (sgnP bf e 100000 (sgnP bf e 100000 (numP bf e 1 99 (bd0 bf e ps)))))) 20 (sgnV bf e 1000000000 (sgnP bf e 1000000000 (sgnP bf e 100000 (sgnP bf e 100000 (numP bf e 1 99 (bd0 bf e ps))))))))))], ⟨rfl, _, _, rfl, (by rw [bd7, bd6, if_neg (fun h => absurd h.1 (nt hk28))]; exact hr33), ((((((g1.trans gi1).trans gi6).trans gi11).trans gi16).trans gi21).trans gi33), ((((((f1.trans fj1).trans fj6).trans fj11).trans fj16).trans fj21).trans fj33)⟩, by rw [← hV0, ← hF]; exact (h.sub [1, 2, 0] rfl rfl)⟩) dX6_bodyRead_207
      · skip
        refine r_aload_n hC 2 dX6_bodyRead_146 rfl 147 rfl ?_
        refine r_get (v := .ref (b 3)) hC kX6 3 rfl q2756 (fun _ h => h.get 1 rfl) rfl dX6_bodyRead_147 150 rfl ?_
        refine r_iload_n hC 0 dX6_bodyRead_150 rfl 151 rfl ?_
        refine r_iconst hC 2 dX6_bodyRead_151 ic_2 152 rfl ?_
        refine r_invSr hC [.int 1, .int 2] (.int 13) mSX6_at q2711 (metX6_at _ _ hG 1 2) (fun _ _ => xIn.nil) ⟨rfl, rfl⟩ 0 0 rfl rfl (Nat.le_of_ble_eq_true rfl) (Nat.le_of_ble_eq_true rfl) rfl (Nat.le_of_ble_eq_true rfl) dX6_bodyRead_152 155 rfl ?_
        refine r_lald hC 13 (xix_n 13 (Nat.le_of_ble_eq_true rfl) (Nat.le_of_ble_eq_true rfl)) (fun _ h => h.get 0 rfl) (dr 13) (by rw [← hu25, ← hu20, ← hu15, ← hu10, ← hu5]; rfl) dX6_bodyRead_155 156 rfl ?_
        refine r_aload_n hC 2 dX6_bodyRead_156 rfl 157 rfl ?_
        refine r_get (v := .ref (b 3)) hC kX6 3 rfl q2756 (fun _ h => h.get 1 rfl) rfl dX6_bodyRead_157 160 rfl ?_
        refine r_iload_n hC 3 dX6_bodyRead_160 rfl 161 rfl ?_
        refine r_iconst hC 2 dX6_bodyRead_161 ic_2 162 rfl ?_
        refine r_invSr hC [.int 2, .int 2] (.int 18) mSX6_at q2711 (metX6_at _ _ hG 2 2) (fun _ _ => xIn.nil) ⟨rfl, rfl⟩ 0 0 rfl rfl (Nat.le_of_ble_eq_true rfl) (Nat.le_of_ble_eq_true rfl) rfl (Nat.le_of_ble_eq_true rfl) dX6_bodyRead_162 165 rfl ?_
        refine r_lald hC 18 (xix_n 18 (Nat.le_of_ble_eq_true rfl) (Nat.le_of_ble_eq_true rfl)) (fun _ h => h.get 0 rfl) (sgnV bf e 100000 (sgnP bf e 100000 (numP bf e 1 99 (bd0 bf e ps)))) (by rw [← hu25, ← hu20, ← hu15]; rfl) dX6_bodyRead_165 166 rfl ?_
        refine r_lcne hC 174 dX6_bodyRead_166 dX6_bodyRead_167 (by decide) 170 rfl (fun c37 => ?_) (fun c37 => ?_)
        · skip
          refine r_iconst hC 0 dX6_bodyRead_174 ic_0 175 rfl ?_
          refine r_istore_n hC 2 [(2, .int 0), (3, .int 1), (0, .ref (b 0)), (1, .int 2)] dX6_bodyRead_175 rfl (Nat.le_of_ble_eq_true rfl) rfl 176 rfl ?_
          refine r_iinc hC 2 3 1 [(3, .int 2), (2, .int 0), (0, .ref (b 0)), (1, .int 2)] dX6_bodyRead_176 rfl (by decide) (Nat.le_of_ble_eq_true rfl) rfl 179 rfl ?_
          refine r_goto hC 113 dX6_bodyRead_179 (by decide) ?_
          refine r_iload_n hC 0 dX6_bodyRead_113 rfl 114 rfl ?_
          refine r_iload_n hC 3 dX6_bodyRead_114 rfl 115 rfl ?_
          refine r_icge hC 182 dX6_bodyRead_115 (by decide) 118 rfl (fun _ => ?_) (fun h => absurd h (by decide))
          subst hu25
          subst hu20
          subst hu15
          subst hu10
          subst hu5
          refine rn.mono (J := xSt F V0 [(b 0, .inr (5, mF b i21 j21)), (b 13, .inl (0, 600, .inl bf)), (b 3, .inl (1, 111, .inr (.inl (va_up (va_up (va_up (va_up (va_up dr 16 (numV bf e 1 99 (bd0 bf e ps))) 17 (sgnV bf e 100000 (numP bf e 1 99 (bd0 bf e ps)))) 18 (sgnV bf e 100000 (sgnP bf e 100000 (numP bf e 1 99 (bd0 bf e ps))))) 19 (sgnV bf e 1000000000 (sgnP bf e 100000 (sgnP bf e 100000 (numP bf e 1 99 (bd0 bf e ps)))))) 20 (sgnV bf e 1000000000 (sgnP bf e 1000000000 (sgnP bf e 100000 (sgnP bf e 100000 (numP bf e 1 99 (bd0 bf e ps))))))))))]) (fun _ h => h.sub [1, 2, 0] rfl rfl) ?_
          have hcl : clQ (bdR bf e 2 ps dr) 2 = false := by rw [clQ_2, sm0x (dr := (bdR bf e 2 ps dr)) (a := 0) (c := 2) c26, sm0y (dr := (bdR bf e 2 ps dr)) (a := 1) (c := 2) c37]; rfl
          refine r_aload_n hC 2 dX6_bodyRead_182 rfl 183 rfl ?_
          refine r_bipush hC 59 dX6_bodyRead_183 bp_59 185 rfl ?_
          rcases Bool.eq_false_or_eq_true (isB bf e 59 (sgnP bf e 1000000000 (sgnP bf e 1000000000 (sgnP bf e 100000 (sgnP bf e 100000 (numP bf e 1 99 (bd0 bf e ps))))))) with hk38 | hk38
          · skip
            refine r_invVr hC kX6 (b 0) [.int 59] (.int 1) mVX6_isByte q2961 (fun _ h => h.get 0 rfl) (xRm_v (metX6_isByte _ _ hG b i21 j21 bf e he (sgnP bf e 1000000000 (sgnP bf e 1000000000 (sgnP bf e 100000 (sgnP bf e 100000 (numP bf e 1 99 (bd0 bf e ps)))))) hr21 59) (show _ = some (Value.int 1) by rw [hk38]; rfl)) (fun _ h => h.in.sub [0, 1] rfl rfl) ⟨rfl, rfl⟩ 0 0 rfl rfl (Nat.le_of_ble_eq_true rfl) (Nat.le_of_ble_eq_true rfl) rfl (Nat.le_of_ble_eq_true rfl) dX6_bodyRead_185 188 rfl ?_
            refine r_ifeq hC 201 dX6_bodyRead_188 (by decide) 191 rfl (fun h => absurd h (by decide)) (fun _ => ?_)
            refine r_iload_n hC 1 dX6_bodyRead_191 rfl 192 rfl ?_
            refine r_ifeq hC 201 dX6_bodyRead_192 (by decide) 195 rfl (fun _ => ?_) (fun h => absurd h (by decide))
            refine r_aload_n hC 2 dX6_bodyRead_201 rfl 202 rfl ?_
            refine r_bipush hC 59 dX6_bodyRead_202 bp_59 204 rfl ?_
            refine r_invVw hC kX6 (b 0) [.int 59] [(b 3, .inl (1, 111, .inr (.inl (va_up (va_up (va_up (va_up (va_up dr 16 (numV bf e 1 99 (bd0 bf e ps))) 17 (sgnV bf e 100000 (numP bf e 1 99 (bd0 bf e ps)))) 18 (sgnV bf e 100000 (sgnP bf e 100000 (numP bf e 1 99 (bd0 bf e ps))))) 19 (sgnV bf e 1000000000 (sgnP bf e 100000 (sgnP bf e 100000 (numP bf e 1 99 (bd0 bf e ps)))))) 20 (sgnV bf e 1000000000 (sgnP bf e 1000000000 (sgnP bf e 100000 (sgnP bf e 100000 (numP bf e 1 99 (bd0 bf e ps))))))))))] mVX6_must q2957 0 rfl (metX6_must _ _ hG b i21 j21 bf e he (sgnP bf e 1000000000 (sgnP bf e 1000000000 (sgnP bf e 100000 (sgnP bf e 100000 (numP bf e 1 99 (bd0 bf e ps)))))) hr21 59) [0, 1] [2] rfl rfl rfl rfl (by decide) ⟨rfl, rfl⟩ 0 0 rfl rfl (Nat.le_of_ble_eq_true rfl) (Nat.le_of_ble_eq_true rfl) rfl (Nat.le_of_ble_eq_true rfl) dX6_bodyRead_204 207 rfl (fun v40 w41 h42 => ?_) (fun _ _ h => h.elim)
            obtain ⟨rfl, i39, j39, rfl, hr39, gi39, fj39⟩ := h42
            show rn C (xSt F V0 [(b 3, .inl (1, 111, .inr (.inl (va_up (va_up (va_up (va_up (va_up dr 16 (numV bf e 1 99 (bd0 bf e ps))) 17 (sgnV bf e 100000 (numP bf e 1 99 (bd0 bf e ps)))) 18 (sgnV bf e 100000 (sgnP bf e 100000 (numP bf e 1 99 (bd0 bf e ps))))) 19 (sgnV bf e 1000000000 (sgnP bf e 100000 (sgnP bf e 100000 (numP bf e 1 99 (bd0 bf e ps)))))) 20 (sgnV bf e 1000000000 (sgnP bf e 1000000000 (sgnP bf e 100000 (sgnP bf e 100000 (numP bf e 1 99 (bd0 bf e ps)))))))))), (b 0, .inr (5, mF b i39 j39)), (b 13, .inl (0, 600, .inl bf))]) 0 0 207 [(3, .int 2), (2, .int 0), (0, .ref (b 0)), (1, .int 2)] []
            exact r_vret hC (Nat.le_of_ble_eq_true rfl) (Nat.le_of_ble_eq_true rfl) (fun V9 h => hQ _ _ ⟨[(b 0, .inr (5, mF b i39 j39)), (b 13, .inl (0, 600, .inl bf)), (b 3, .inl (1, 111, .inr (.inl (va_up (va_up (va_up (va_up (va_up dr 16 (numV bf e 1 99 (bd0 bf e ps))) 17 (sgnV bf e 100000 (numP bf e 1 99 (bd0 bf e ps)))) 18 (sgnV bf e 100000 (sgnP bf e 100000 (numP bf e 1 99 (bd0 bf e ps))))) 19 (sgnV bf e 1000000000 (sgnP bf e 100000 (sgnP bf e 100000 (numP bf e 1 99 (bd0 bf e ps)))))) 20 (sgnV bf e 1000000000 (sgnP bf e 1000000000 (sgnP bf e 100000 (sgnP bf e 100000 (numP bf e 1 99 (bd0 bf e ps))))))))))], ⟨rfl, _, _, rfl, (by rw [bd7, bd6, if_neg (fun h => absurd h.2 (nt hcl))]; exact hr39), ((((((g1.trans gi1).trans gi6).trans gi11).trans gi16).trans gi21).trans gi39), ((((((f1.trans fj1).trans fj6).trans fj11).trans fj16).trans fj21).trans fj39)⟩, by rw [← hV0, ← hF]; exact (h.sub [1, 2, 0] rfl rfl)⟩) dX6_bodyRead_207
          · skip
            refine r_invVr hC kX6 (b 0) [.int 59] (.int 0) mVX6_isByte q2961 (fun _ h => h.get 0 rfl) (xRm_v (metX6_isByte _ _ hG b i21 j21 bf e he (sgnP bf e 1000000000 (sgnP bf e 1000000000 (sgnP bf e 100000 (sgnP bf e 100000 (numP bf e 1 99 (bd0 bf e ps)))))) hr21 59) (show _ = some (Value.int 0) by rw [hk38]; rfl)) (fun _ h => h.in.sub [0, 1] rfl rfl) ⟨rfl, rfl⟩ 0 0 rfl rfl (Nat.le_of_ble_eq_true rfl) (Nat.le_of_ble_eq_true rfl) rfl (Nat.le_of_ble_eq_true rfl) dX6_bodyRead_185 188 rfl ?_
            refine r_ifeq hC 201 dX6_bodyRead_188 (by decide) 191 rfl (fun _ => ?_) (fun h => absurd h (by decide))
            refine r_aload_n hC 2 dX6_bodyRead_201 rfl 202 rfl ?_
            refine r_bipush hC 59 dX6_bodyRead_202 bp_59 204 rfl ?_
            refine r_invVw hC kX6 (b 0) [.int 59] [(b 3, .inl (1, 111, .inr (.inl (va_up (va_up (va_up (va_up (va_up dr 16 (numV bf e 1 99 (bd0 bf e ps))) 17 (sgnV bf e 100000 (numP bf e 1 99 (bd0 bf e ps)))) 18 (sgnV bf e 100000 (sgnP bf e 100000 (numP bf e 1 99 (bd0 bf e ps))))) 19 (sgnV bf e 1000000000 (sgnP bf e 100000 (sgnP bf e 100000 (numP bf e 1 99 (bd0 bf e ps)))))) 20 (sgnV bf e 1000000000 (sgnP bf e 1000000000 (sgnP bf e 100000 (sgnP bf e 100000 (numP bf e 1 99 (bd0 bf e ps))))))))))] mVX6_must q2957 0 rfl (metX6_must _ _ hG b i21 j21 bf e he (sgnP bf e 1000000000 (sgnP bf e 1000000000 (sgnP bf e 100000 (sgnP bf e 100000 (numP bf e 1 99 (bd0 bf e ps)))))) hr21 59) [0, 1] [2] rfl rfl rfl rfl (by decide) ⟨rfl, rfl⟩ 0 0 rfl rfl (Nat.le_of_ble_eq_true rfl) (Nat.le_of_ble_eq_true rfl) rfl (Nat.le_of_ble_eq_true rfl) dX6_bodyRead_204 207 rfl (fun v44 w45 h46 => ?_) (fun _ _ h => h.elim)
            obtain ⟨rfl, i43, j43, rfl, hr43, gi43, fj43⟩ := h46
            show rn C (xSt F V0 [(b 3, .inl (1, 111, .inr (.inl (va_up (va_up (va_up (va_up (va_up dr 16 (numV bf e 1 99 (bd0 bf e ps))) 17 (sgnV bf e 100000 (numP bf e 1 99 (bd0 bf e ps)))) 18 (sgnV bf e 100000 (sgnP bf e 100000 (numP bf e 1 99 (bd0 bf e ps))))) 19 (sgnV bf e 1000000000 (sgnP bf e 100000 (sgnP bf e 100000 (numP bf e 1 99 (bd0 bf e ps)))))) 20 (sgnV bf e 1000000000 (sgnP bf e 1000000000 (sgnP bf e 100000 (sgnP bf e 100000 (numP bf e 1 99 (bd0 bf e ps)))))))))), (b 0, .inr (5, mF b i43 j43)), (b 13, .inl (0, 600, .inl bf))]) 0 0 207 [(3, .int 2), (2, .int 0), (0, .ref (b 0)), (1, .int 2)] []
            exact r_vret hC (Nat.le_of_ble_eq_true rfl) (Nat.le_of_ble_eq_true rfl) (fun V9 h => hQ _ _ ⟨[(b 0, .inr (5, mF b i43 j43)), (b 13, .inl (0, 600, .inl bf)), (b 3, .inl (1, 111, .inr (.inl (va_up (va_up (va_up (va_up (va_up dr 16 (numV bf e 1 99 (bd0 bf e ps))) 17 (sgnV bf e 100000 (numP bf e 1 99 (bd0 bf e ps)))) 18 (sgnV bf e 100000 (sgnP bf e 100000 (numP bf e 1 99 (bd0 bf e ps))))) 19 (sgnV bf e 1000000000 (sgnP bf e 100000 (sgnP bf e 100000 (numP bf e 1 99 (bd0 bf e ps)))))) 20 (sgnV bf e 1000000000 (sgnP bf e 1000000000 (sgnP bf e 100000 (sgnP bf e 100000 (numP bf e 1 99 (bd0 bf e ps))))))))))], ⟨rfl, _, _, rfl, (by rw [bd7, bd6, if_neg (fun h => absurd h.1 (nt hk38))]; exact hr43), ((((((g1.trans gi1).trans gi6).trans gi11).trans gi16).trans gi21).trans gi43), ((((((f1.trans fj1).trans fj6).trans fj11).trans fj16).trans fj21).trans fj43)⟩, by rw [← hV0, ← hF]; exact (h.sub [1, 2, 0] rfl rfl)⟩) dX6_bodyRead_207
        · skip
          refine r_iconst hC 1 dX6_bodyRead_170 ic_1 171 rfl ?_
          refine r_goto hC 175 dX6_bodyRead_171 (by decide) ?_
          refine r_istore_n hC 2 [(2, .int 1), (3, .int 1), (0, .ref (b 0)), (1, .int 2)] dX6_bodyRead_175 rfl (Nat.le_of_ble_eq_true rfl) rfl 176 rfl ?_
          refine r_iinc hC 2 3 1 [(3, .int 2), (2, .int 1), (0, .ref (b 0)), (1, .int 2)] dX6_bodyRead_176 rfl (by decide) (Nat.le_of_ble_eq_true rfl) rfl 179 rfl ?_
          refine r_goto hC 113 dX6_bodyRead_179 (by decide) ?_
          refine r_iload_n hC 0 dX6_bodyRead_113 rfl 114 rfl ?_
          refine r_iload_n hC 3 dX6_bodyRead_114 rfl 115 rfl ?_
          refine r_icge hC 182 dX6_bodyRead_115 (by decide) 118 rfl (fun _ => ?_) (fun h => absurd h (by decide))
          subst hu25
          subst hu20
          subst hu15
          subst hu10
          subst hu5
          refine rn.mono (J := xSt F V0 [(b 0, .inr (5, mF b i21 j21)), (b 13, .inl (0, 600, .inl bf)), (b 3, .inl (1, 111, .inr (.inl (va_up (va_up (va_up (va_up (va_up dr 16 (numV bf e 1 99 (bd0 bf e ps))) 17 (sgnV bf e 100000 (numP bf e 1 99 (bd0 bf e ps)))) 18 (sgnV bf e 100000 (sgnP bf e 100000 (numP bf e 1 99 (bd0 bf e ps))))) 19 (sgnV bf e 1000000000 (sgnP bf e 100000 (sgnP bf e 100000 (numP bf e 1 99 (bd0 bf e ps)))))) 20 (sgnV bf e 1000000000 (sgnP bf e 1000000000 (sgnP bf e 100000 (sgnP bf e 100000 (numP bf e 1 99 (bd0 bf e ps))))))))))]) (fun _ h => h.sub [1, 2, 0] rfl rfl) ?_
          have hcl : clQ (bdR bf e 2 ps dr) 2 = true := by rw [clQ_2, sm0x (dr := (bdR bf e 2 ps dr)) (a := 0) (c := 2) c26, sm1 (dr := (bdR bf e 2 ps dr)) (a := 1) (c := 2) c27 c37]; rfl
          refine r_aload_n hC 2 dX6_bodyRead_182 rfl 183 rfl ?_
          refine r_bipush hC 59 dX6_bodyRead_183 bp_59 185 rfl ?_
          rcases Bool.eq_false_or_eq_true (isB bf e 59 (sgnP bf e 1000000000 (sgnP bf e 1000000000 (sgnP bf e 100000 (sgnP bf e 100000 (numP bf e 1 99 (bd0 bf e ps))))))) with hk47 | hk47
          · skip
            refine r_invVr hC kX6 (b 0) [.int 59] (.int 1) mVX6_isByte q2961 (fun _ h => h.get 0 rfl) (xRm_v (metX6_isByte _ _ hG b i21 j21 bf e he (sgnP bf e 1000000000 (sgnP bf e 1000000000 (sgnP bf e 100000 (sgnP bf e 100000 (numP bf e 1 99 (bd0 bf e ps)))))) hr21 59) (show _ = some (Value.int 1) by rw [hk47]; rfl)) (fun _ h => h.in.sub [0, 1] rfl rfl) ⟨rfl, rfl⟩ 0 0 rfl rfl (Nat.le_of_ble_eq_true rfl) (Nat.le_of_ble_eq_true rfl) rfl (Nat.le_of_ble_eq_true rfl) dX6_bodyRead_185 188 rfl ?_
            refine r_ifeq hC 201 dX6_bodyRead_188 (by decide) 191 rfl (fun h => absurd h (by decide)) (fun _ => ?_)
            refine r_iload_n hC 1 dX6_bodyRead_191 rfl 192 rfl ?_
            refine r_ifeq hC 201 dX6_bodyRead_192 (by decide) 195 rfl (fun h => absurd h (by decide)) (fun _ => ?_)
            refine r_aload_n hC 2 dX6_bodyRead_195 rfl 196 rfl ?_
            refine r_iconst hC 3 dX6_bodyRead_196 ic_3 197 rfl ?_
            refine r_invVw hC kX6 (b 0) [.int 3] [(b 13, .inl (0, 600, .inl bf)), (b 3, .inl (1, 111, .inr (.inl (va_up (va_up (va_up (va_up (va_up dr 16 (numV bf e 1 99 (bd0 bf e ps))) 17 (sgnV bf e 100000 (numP bf e 1 99 (bd0 bf e ps)))) 18 (sgnV bf e 100000 (sgnP bf e 100000 (numP bf e 1 99 (bd0 bf e ps))))) 19 (sgnV bf e 1000000000 (sgnP bf e 100000 (sgnP bf e 100000 (numP bf e 1 99 (bd0 bf e ps)))))) 20 (sgnV bf e 1000000000 (sgnP bf e 1000000000 (sgnP bf e 100000 (sgnP bf e 100000 (numP bf e 1 99 (bd0 bf e ps))))))))))] mVX6_wrongs q2953 0 rfl (metX6_wrongsP _ _ hG b i21 j21 bf e he (sgnP bf e 1000000000 (sgnP bf e 1000000000 (sgnP bf e 100000 (sgnP bf e 100000 (numP bf e 1 99 (bd0 bf e ps)))))) hr21 3 (by decide)) [0] [1, 2] rfl rfl rfl rfl (by decide) ⟨rfl, rfl⟩ 0 0 rfl rfl (Nat.le_of_ble_eq_true rfl) (Nat.le_of_ble_eq_true rfl) rfl (Nat.le_of_ble_eq_true rfl) dX6_bodyRead_197 200 rfl (fun v49 w50 h51 => ?_) (fun _ _ h => h.elim)
            obtain ⟨rfl, i48, j48, rfl, hr48, gi48, fj48⟩ := h51
            show rn C (xSt F V0 [(b 13, .inl (0, 600, .inl bf)), (b 3, .inl (1, 111, .inr (.inl (va_up (va_up (va_up (va_up (va_up dr 16 (numV bf e 1 99 (bd0 bf e ps))) 17 (sgnV bf e 100000 (numP bf e 1 99 (bd0 bf e ps)))) 18 (sgnV bf e 100000 (sgnP bf e 100000 (numP bf e 1 99 (bd0 bf e ps))))) 19 (sgnV bf e 1000000000 (sgnP bf e 100000 (sgnP bf e 100000 (numP bf e 1 99 (bd0 bf e ps)))))) 20 (sgnV bf e 1000000000 (sgnP bf e 1000000000 (sgnP bf e 100000 (sgnP bf e 100000 (numP bf e 1 99 (bd0 bf e ps)))))))))), (b 0, .inr (5, mF b i48 j48))]) 0 0 200 [(3, .int 2), (2, .int 1), (0, .ref (b 0)), (1, .int 2)] [.int 0]
            refine r_pop hC dX6_bodyRead_200 rfl 201 rfl ?_
            refine r_aload_n hC 2 dX6_bodyRead_201 rfl 202 rfl ?_
            refine r_bipush hC 59 dX6_bodyRead_202 bp_59 204 rfl ?_
            refine r_invVw hC kX6 (b 0) [.int 59] [(b 3, .inl (1, 111, .inr (.inl (va_up (va_up (va_up (va_up (va_up dr 16 (numV bf e 1 99 (bd0 bf e ps))) 17 (sgnV bf e 100000 (numP bf e 1 99 (bd0 bf e ps)))) 18 (sgnV bf e 100000 (sgnP bf e 100000 (numP bf e 1 99 (bd0 bf e ps))))) 19 (sgnV bf e 1000000000 (sgnP bf e 100000 (sgnP bf e 100000 (numP bf e 1 99 (bd0 bf e ps)))))) 20 (sgnV bf e 1000000000 (sgnP bf e 1000000000 (sgnP bf e 100000 (sgnP bf e 100000 (numP bf e 1 99 (bd0 bf e ps))))))))))] mVX6_must q2957 2 rfl (metX6_must _ _ hG b i48 j48 bf e he (wrP 3 (sgnP bf e 1000000000 (sgnP bf e 1000000000 (sgnP bf e 100000 (sgnP bf e 100000 (numP bf e 1 99 (bd0 bf e ps))))))) hr48 59) [2, 0] [1] rfl rfl rfl rfl (by decide) ⟨rfl, rfl⟩ 0 0 rfl rfl (Nat.le_of_ble_eq_true rfl) (Nat.le_of_ble_eq_true rfl) rfl (Nat.le_of_ble_eq_true rfl) dX6_bodyRead_204 207 rfl (fun v53 w54 h55 => ?_) (fun _ _ h => h.elim)
            obtain ⟨rfl, i52, j52, rfl, hr52, gi52, fj52⟩ := h55
            show rn C (xSt F V0 [(b 3, .inl (1, 111, .inr (.inl (va_up (va_up (va_up (va_up (va_up dr 16 (numV bf e 1 99 (bd0 bf e ps))) 17 (sgnV bf e 100000 (numP bf e 1 99 (bd0 bf e ps)))) 18 (sgnV bf e 100000 (sgnP bf e 100000 (numP bf e 1 99 (bd0 bf e ps))))) 19 (sgnV bf e 1000000000 (sgnP bf e 100000 (sgnP bf e 100000 (numP bf e 1 99 (bd0 bf e ps)))))) 20 (sgnV bf e 1000000000 (sgnP bf e 1000000000 (sgnP bf e 100000 (sgnP bf e 100000 (numP bf e 1 99 (bd0 bf e ps)))))))))), (b 0, .inr (5, mF b i52 j52)), (b 13, .inl (0, 600, .inl bf))]) 0 0 207 [(3, .int 2), (2, .int 1), (0, .ref (b 0)), (1, .int 2)] []
            exact r_vret hC (Nat.le_of_ble_eq_true rfl) (Nat.le_of_ble_eq_true rfl) (fun V9 h => hQ _ _ ⟨[(b 0, .inr (5, mF b i52 j52)), (b 13, .inl (0, 600, .inl bf)), (b 3, .inl (1, 111, .inr (.inl (va_up (va_up (va_up (va_up (va_up dr 16 (numV bf e 1 99 (bd0 bf e ps))) 17 (sgnV bf e 100000 (numP bf e 1 99 (bd0 bf e ps)))) 18 (sgnV bf e 100000 (sgnP bf e 100000 (numP bf e 1 99 (bd0 bf e ps))))) 19 (sgnV bf e 1000000000 (sgnP bf e 100000 (sgnP bf e 100000 (numP bf e 1 99 (bd0 bf e ps)))))) 20 (sgnV bf e 1000000000 (sgnP bf e 1000000000 (sgnP bf e 100000 (sgnP bf e 100000 (numP bf e 1 99 (bd0 bf e ps))))))))))], ⟨rfl, _, _, rfl, (by rw [bd7, bd6, if_pos ⟨hk47, hcl⟩]; exact hr52), (((((((g1.trans gi1).trans gi6).trans gi11).trans gi16).trans gi21).trans gi48).trans gi52), (((((((f1.trans fj1).trans fj6).trans fj11).trans fj16).trans fj21).trans fj48).trans fj52)⟩, by rw [← hV0, ← hF]; exact (h.sub [1, 2, 0] rfl rfl)⟩) dX6_bodyRead_207
          · skip
            refine r_invVr hC kX6 (b 0) [.int 59] (.int 0) mVX6_isByte q2961 (fun _ h => h.get 0 rfl) (xRm_v (metX6_isByte _ _ hG b i21 j21 bf e he (sgnP bf e 1000000000 (sgnP bf e 1000000000 (sgnP bf e 100000 (sgnP bf e 100000 (numP bf e 1 99 (bd0 bf e ps)))))) hr21 59) (show _ = some (Value.int 0) by rw [hk47]; rfl)) (fun _ h => h.in.sub [0, 1] rfl rfl) ⟨rfl, rfl⟩ 0 0 rfl rfl (Nat.le_of_ble_eq_true rfl) (Nat.le_of_ble_eq_true rfl) rfl (Nat.le_of_ble_eq_true rfl) dX6_bodyRead_185 188 rfl ?_
            refine r_ifeq hC 201 dX6_bodyRead_188 (by decide) 191 rfl (fun _ => ?_) (fun h => absurd h (by decide))
            refine r_aload_n hC 2 dX6_bodyRead_201 rfl 202 rfl ?_
            refine r_bipush hC 59 dX6_bodyRead_202 bp_59 204 rfl ?_
            refine r_invVw hC kX6 (b 0) [.int 59] [(b 3, .inl (1, 111, .inr (.inl (va_up (va_up (va_up (va_up (va_up dr 16 (numV bf e 1 99 (bd0 bf e ps))) 17 (sgnV bf e 100000 (numP bf e 1 99 (bd0 bf e ps)))) 18 (sgnV bf e 100000 (sgnP bf e 100000 (numP bf e 1 99 (bd0 bf e ps))))) 19 (sgnV bf e 1000000000 (sgnP bf e 100000 (sgnP bf e 100000 (numP bf e 1 99 (bd0 bf e ps)))))) 20 (sgnV bf e 1000000000 (sgnP bf e 1000000000 (sgnP bf e 100000 (sgnP bf e 100000 (numP bf e 1 99 (bd0 bf e ps))))))))))] mVX6_must q2957 0 rfl (metX6_must _ _ hG b i21 j21 bf e he (sgnP bf e 1000000000 (sgnP bf e 1000000000 (sgnP bf e 100000 (sgnP bf e 100000 (numP bf e 1 99 (bd0 bf e ps)))))) hr21 59) [0, 1] [2] rfl rfl rfl rfl (by decide) ⟨rfl, rfl⟩ 0 0 rfl rfl (Nat.le_of_ble_eq_true rfl) (Nat.le_of_ble_eq_true rfl) rfl (Nat.le_of_ble_eq_true rfl) dX6_bodyRead_204 207 rfl (fun v57 w58 h59 => ?_) (fun _ _ h => h.elim)
            obtain ⟨rfl, i56, j56, rfl, hr56, gi56, fj56⟩ := h59
            show rn C (xSt F V0 [(b 3, .inl (1, 111, .inr (.inl (va_up (va_up (va_up (va_up (va_up dr 16 (numV bf e 1 99 (bd0 bf e ps))) 17 (sgnV bf e 100000 (numP bf e 1 99 (bd0 bf e ps)))) 18 (sgnV bf e 100000 (sgnP bf e 100000 (numP bf e 1 99 (bd0 bf e ps))))) 19 (sgnV bf e 1000000000 (sgnP bf e 100000 (sgnP bf e 100000 (numP bf e 1 99 (bd0 bf e ps)))))) 20 (sgnV bf e 1000000000 (sgnP bf e 1000000000 (sgnP bf e 100000 (sgnP bf e 100000 (numP bf e 1 99 (bd0 bf e ps)))))))))), (b 0, .inr (5, mF b i56 j56)), (b 13, .inl (0, 600, .inl bf))]) 0 0 207 [(3, .int 2), (2, .int 1), (0, .ref (b 0)), (1, .int 2)] []
            exact r_vret hC (Nat.le_of_ble_eq_true rfl) (Nat.le_of_ble_eq_true rfl) (fun V9 h => hQ _ _ ⟨[(b 0, .inr (5, mF b i56 j56)), (b 13, .inl (0, 600, .inl bf)), (b 3, .inl (1, 111, .inr (.inl (va_up (va_up (va_up (va_up (va_up dr 16 (numV bf e 1 99 (bd0 bf e ps))) 17 (sgnV bf e 100000 (numP bf e 1 99 (bd0 bf e ps)))) 18 (sgnV bf e 100000 (sgnP bf e 100000 (numP bf e 1 99 (bd0 bf e ps))))) 19 (sgnV bf e 1000000000 (sgnP bf e 100000 (sgnP bf e 100000 (numP bf e 1 99 (bd0 bf e ps)))))) 20 (sgnV bf e 1000000000 (sgnP bf e 1000000000 (sgnP bf e 100000 (sgnP bf e 100000 (numP bf e 1 99 (bd0 bf e ps))))))))))], ⟨rfl, _, _, rfl, (by rw [bd7, bd6, if_neg (fun h => absurd h.1 (nt hk47))]; exact hr56), ((((((g1.trans gi1).trans gi6).trans gi11).trans gi16).trans gi21).trans gi56), ((((((f1.trans fj1).trans fj6).trans fj11).trans fj16).trans fj21).trans fj56)⟩, by rw [← hV0, ← hF]; exact (h.sub [1, 2, 0] rfl rfl)⟩) dX6_bodyRead_207
    · skip
      refine r_aload_n hC 2 dX6_bodyRead_146 rfl 147 rfl ?_
      refine r_get (v := .ref (b 3)) hC kX6 3 rfl q2756 (fun _ h => h.get 1 rfl) rfl dX6_bodyRead_147 150 rfl ?_
      refine r_iload_n hC 0 dX6_bodyRead_150 rfl 151 rfl ?_
      refine r_iconst hC 2 dX6_bodyRead_151 ic_2 152 rfl ?_
      refine r_invSr hC [.int 0, .int 2] (.int 8) mSX6_at q2711 (metX6_at _ _ hG 0 2) (fun _ _ => xIn.nil) ⟨rfl, rfl⟩ 0 0 rfl rfl (Nat.le_of_ble_eq_true rfl) (Nat.le_of_ble_eq_true rfl) rfl (Nat.le_of_ble_eq_true rfl) dX6_bodyRead_152 155 rfl ?_
      refine r_lald hC 8 (xix_n 8 (Nat.le_of_ble_eq_true rfl) (Nat.le_of_ble_eq_true rfl)) (fun _ h => h.get 0 rfl) (dr 8) (by rw [← hu25, ← hu20, ← hu15, ← hu10, ← hu5]; rfl) dX6_bodyRead_155 156 rfl ?_
      refine r_aload_n hC 2 dX6_bodyRead_156 rfl 157 rfl ?_
      refine r_get (v := .ref (b 3)) hC kX6 3 rfl q2756 (fun _ h => h.get 1 rfl) rfl dX6_bodyRead_157 160 rfl ?_
      refine r_iload_n hC 3 dX6_bodyRead_160 rfl 161 rfl ?_
      refine r_iconst hC 2 dX6_bodyRead_161 ic_2 162 rfl ?_
      refine r_invSr hC [.int 2, .int 2] (.int 18) mSX6_at q2711 (metX6_at _ _ hG 2 2) (fun _ _ => xIn.nil) ⟨rfl, rfl⟩ 0 0 rfl rfl (Nat.le_of_ble_eq_true rfl) (Nat.le_of_ble_eq_true rfl) rfl (Nat.le_of_ble_eq_true rfl) dX6_bodyRead_162 165 rfl ?_
      refine r_lald hC 18 (xix_n 18 (Nat.le_of_ble_eq_true rfl) (Nat.le_of_ble_eq_true rfl)) (fun _ h => h.get 0 rfl) (sgnV bf e 100000 (sgnP bf e 100000 (numP bf e 1 99 (bd0 bf e ps)))) (by rw [← hu25, ← hu20, ← hu15]; rfl) dX6_bodyRead_165 166 rfl ?_
      refine r_lcne hC 174 dX6_bodyRead_166 dX6_bodyRead_167 (by decide) 170 rfl (fun c60 => ?_) (fun c60 => ?_)
      · skip
        refine r_iconst hC 0 dX6_bodyRead_174 ic_0 175 rfl ?_
        refine r_istore_n hC 2 [(2, .int 0), (3, .int 0), (0, .ref (b 0)), (1, .int 2)] dX6_bodyRead_175 rfl (Nat.le_of_ble_eq_true rfl) rfl 176 rfl ?_
        refine r_iinc hC 1 3 1 [(3, .int 1), (2, .int 0), (0, .ref (b 0)), (1, .int 2)] dX6_bodyRead_176 rfl (by decide) (Nat.le_of_ble_eq_true rfl) rfl 179 rfl ?_
        refine r_goto hC 113 dX6_bodyRead_179 (by decide) ?_
        refine r_iload_n hC 0 dX6_bodyRead_113 rfl 114 rfl ?_
        refine r_iload_n hC 3 dX6_bodyRead_114 rfl 115 rfl ?_
        refine r_icge hC 182 dX6_bodyRead_115 (by decide) 118 rfl (fun h => absurd h (by decide)) (fun _ => ?_)
        refine r_iload_n hC 1 dX6_bodyRead_118 rfl 119 rfl ?_
        refine r_ifne hC 170 dX6_bodyRead_119 (by decide) 122 rfl (fun h => absurd h (by decide)) (fun _ => ?_)
        refine r_aload_n hC 2 dX6_bodyRead_122 rfl 123 rfl ?_
        refine r_get (v := .ref (b 3)) hC kX6 3 rfl q2756 (fun _ h => h.get 1 rfl) rfl dX6_bodyRead_123 126 rfl ?_
        refine r_iload_n hC 0 dX6_bodyRead_126 rfl 127 rfl ?_
        refine r_iconst hC 1 dX6_bodyRead_127 ic_1 128 rfl ?_
        refine r_invSr hC [.int 1, .int 1] (.int 12) mSX6_at q2711 (metX6_at _ _ hG 1 1) (fun _ _ => xIn.nil) ⟨rfl, rfl⟩ 0 0 rfl rfl (Nat.le_of_ble_eq_true rfl) (Nat.le_of_ble_eq_true rfl) rfl (Nat.le_of_ble_eq_true rfl) dX6_bodyRead_128 131 rfl ?_
        refine r_lald hC 12 (xix_n 12 (Nat.le_of_ble_eq_true rfl) (Nat.le_of_ble_eq_true rfl)) (fun _ h => h.get 0 rfl) (dr 12) (by rw [← hu25, ← hu20, ← hu15, ← hu10, ← hu5]; rfl) dX6_bodyRead_131 132 rfl ?_
        refine r_aload_n hC 2 dX6_bodyRead_132 rfl 133 rfl ?_
        refine r_get (v := .ref (b 3)) hC kX6 3 rfl q2756 (fun _ h => h.get 1 rfl) rfl dX6_bodyRead_133 136 rfl ?_
        refine r_iload_n hC 3 dX6_bodyRead_136 rfl 137 rfl ?_
        refine r_iconst hC 1 dX6_bodyRead_137 ic_1 138 rfl ?_
        refine r_invSr hC [.int 2, .int 1] (.int 17) mSX6_at q2711 (metX6_at _ _ hG 2 1) (fun _ _ => xIn.nil) ⟨rfl, rfl⟩ 0 0 rfl rfl (Nat.le_of_ble_eq_true rfl) (Nat.le_of_ble_eq_true rfl) rfl (Nat.le_of_ble_eq_true rfl) dX6_bodyRead_138 141 rfl ?_
        refine r_lald hC 17 (xix_n 17 (Nat.le_of_ble_eq_true rfl) (Nat.le_of_ble_eq_true rfl)) (fun _ h => h.get 0 rfl) (sgnV bf e 100000 (numP bf e 1 99 (bd0 bf e ps))) (by rw [← hu25, ← hu20, ← hu15, ← hu10]; rfl) dX6_bodyRead_141 142 rfl ?_
        refine r_lcne hC 174 dX6_bodyRead_142 dX6_bodyRead_143 (by decide) 146 rfl (fun c61 => ?_) (fun c61 => ?_)
        · skip
          refine r_iconst hC 0 dX6_bodyRead_174 ic_0 175 rfl ?_
          refine r_istore_n hC 2 [(2, .int 0), (3, .int 1), (0, .ref (b 0)), (1, .int 2)] dX6_bodyRead_175 rfl (Nat.le_of_ble_eq_true rfl) rfl 176 rfl ?_
          refine r_iinc hC 2 3 1 [(3, .int 2), (2, .int 0), (0, .ref (b 0)), (1, .int 2)] dX6_bodyRead_176 rfl (by decide) (Nat.le_of_ble_eq_true rfl) rfl 179 rfl ?_
          refine r_goto hC 113 dX6_bodyRead_179 (by decide) ?_
          refine r_iload_n hC 0 dX6_bodyRead_113 rfl 114 rfl ?_
          refine r_iload_n hC 3 dX6_bodyRead_114 rfl 115 rfl ?_
          refine r_icge hC 182 dX6_bodyRead_115 (by decide) 118 rfl (fun _ => ?_) (fun h => absurd h (by decide))
          subst hu25
          subst hu20
          subst hu15
          subst hu10
          subst hu5
          refine rn.mono (J := xSt F V0 [(b 0, .inr (5, mF b i21 j21)), (b 13, .inl (0, 600, .inl bf)), (b 3, .inl (1, 111, .inr (.inl (va_up (va_up (va_up (va_up (va_up dr 16 (numV bf e 1 99 (bd0 bf e ps))) 17 (sgnV bf e 100000 (numP bf e 1 99 (bd0 bf e ps)))) 18 (sgnV bf e 100000 (sgnP bf e 100000 (numP bf e 1 99 (bd0 bf e ps))))) 19 (sgnV bf e 1000000000 (sgnP bf e 100000 (sgnP bf e 100000 (numP bf e 1 99 (bd0 bf e ps)))))) 20 (sgnV bf e 1000000000 (sgnP bf e 1000000000 (sgnP bf e 100000 (sgnP bf e 100000 (numP bf e 1 99 (bd0 bf e ps))))))))))]) (fun _ h => h.sub [1, 2, 0] rfl rfl) ?_
          have hcl : clQ (bdR bf e 2 ps dr) 2 = false := by rw [clQ_2, sm0y (dr := (bdR bf e 2 ps dr)) (a := 0) (c := 2) c60, sm0x (dr := (bdR bf e 2 ps dr)) (a := 1) (c := 2) c61]; rfl
          refine r_aload_n hC 2 dX6_bodyRead_182 rfl 183 rfl ?_
          refine r_bipush hC 59 dX6_bodyRead_183 bp_59 185 rfl ?_
          rcases Bool.eq_false_or_eq_true (isB bf e 59 (sgnP bf e 1000000000 (sgnP bf e 1000000000 (sgnP bf e 100000 (sgnP bf e 100000 (numP bf e 1 99 (bd0 bf e ps))))))) with hk62 | hk62
          · skip
            refine r_invVr hC kX6 (b 0) [.int 59] (.int 1) mVX6_isByte q2961 (fun _ h => h.get 0 rfl) (xRm_v (metX6_isByte _ _ hG b i21 j21 bf e he (sgnP bf e 1000000000 (sgnP bf e 1000000000 (sgnP bf e 100000 (sgnP bf e 100000 (numP bf e 1 99 (bd0 bf e ps)))))) hr21 59) (show _ = some (Value.int 1) by rw [hk62]; rfl)) (fun _ h => h.in.sub [0, 1] rfl rfl) ⟨rfl, rfl⟩ 0 0 rfl rfl (Nat.le_of_ble_eq_true rfl) (Nat.le_of_ble_eq_true rfl) rfl (Nat.le_of_ble_eq_true rfl) dX6_bodyRead_185 188 rfl ?_
            refine r_ifeq hC 201 dX6_bodyRead_188 (by decide) 191 rfl (fun h => absurd h (by decide)) (fun _ => ?_)
            refine r_iload_n hC 1 dX6_bodyRead_191 rfl 192 rfl ?_
            refine r_ifeq hC 201 dX6_bodyRead_192 (by decide) 195 rfl (fun _ => ?_) (fun h => absurd h (by decide))
            refine r_aload_n hC 2 dX6_bodyRead_201 rfl 202 rfl ?_
            refine r_bipush hC 59 dX6_bodyRead_202 bp_59 204 rfl ?_
            refine r_invVw hC kX6 (b 0) [.int 59] [(b 3, .inl (1, 111, .inr (.inl (va_up (va_up (va_up (va_up (va_up dr 16 (numV bf e 1 99 (bd0 bf e ps))) 17 (sgnV bf e 100000 (numP bf e 1 99 (bd0 bf e ps)))) 18 (sgnV bf e 100000 (sgnP bf e 100000 (numP bf e 1 99 (bd0 bf e ps))))) 19 (sgnV bf e 1000000000 (sgnP bf e 100000 (sgnP bf e 100000 (numP bf e 1 99 (bd0 bf e ps)))))) 20 (sgnV bf e 1000000000 (sgnP bf e 1000000000 (sgnP bf e 100000 (sgnP bf e 100000 (numP bf e 1 99 (bd0 bf e ps))))))))))] mVX6_must q2957 0 rfl (metX6_must _ _ hG b i21 j21 bf e he (sgnP bf e 1000000000 (sgnP bf e 1000000000 (sgnP bf e 100000 (sgnP bf e 100000 (numP bf e 1 99 (bd0 bf e ps)))))) hr21 59) [0, 1] [2] rfl rfl rfl rfl (by decide) ⟨rfl, rfl⟩ 0 0 rfl rfl (Nat.le_of_ble_eq_true rfl) (Nat.le_of_ble_eq_true rfl) rfl (Nat.le_of_ble_eq_true rfl) dX6_bodyRead_204 207 rfl (fun v64 w65 h66 => ?_) (fun _ _ h => h.elim)
            obtain ⟨rfl, i63, j63, rfl, hr63, gi63, fj63⟩ := h66
            show rn C (xSt F V0 [(b 3, .inl (1, 111, .inr (.inl (va_up (va_up (va_up (va_up (va_up dr 16 (numV bf e 1 99 (bd0 bf e ps))) 17 (sgnV bf e 100000 (numP bf e 1 99 (bd0 bf e ps)))) 18 (sgnV bf e 100000 (sgnP bf e 100000 (numP bf e 1 99 (bd0 bf e ps))))) 19 (sgnV bf e 1000000000 (sgnP bf e 100000 (sgnP bf e 100000 (numP bf e 1 99 (bd0 bf e ps)))))) 20 (sgnV bf e 1000000000 (sgnP bf e 1000000000 (sgnP bf e 100000 (sgnP bf e 100000 (numP bf e 1 99 (bd0 bf e ps)))))))))), (b 0, .inr (5, mF b i63 j63)), (b 13, .inl (0, 600, .inl bf))]) 0 0 207 [(3, .int 2), (2, .int 0), (0, .ref (b 0)), (1, .int 2)] []
            exact r_vret hC (Nat.le_of_ble_eq_true rfl) (Nat.le_of_ble_eq_true rfl) (fun V9 h => hQ _ _ ⟨[(b 0, .inr (5, mF b i63 j63)), (b 13, .inl (0, 600, .inl bf)), (b 3, .inl (1, 111, .inr (.inl (va_up (va_up (va_up (va_up (va_up dr 16 (numV bf e 1 99 (bd0 bf e ps))) 17 (sgnV bf e 100000 (numP bf e 1 99 (bd0 bf e ps)))) 18 (sgnV bf e 100000 (sgnP bf e 100000 (numP bf e 1 99 (bd0 bf e ps))))) 19 (sgnV bf e 1000000000 (sgnP bf e 100000 (sgnP bf e 100000 (numP bf e 1 99 (bd0 bf e ps)))))) 20 (sgnV bf e 1000000000 (sgnP bf e 1000000000 (sgnP bf e 100000 (sgnP bf e 100000 (numP bf e 1 99 (bd0 bf e ps))))))))))], ⟨rfl, _, _, rfl, (by rw [bd7, bd6, if_neg (fun h => absurd h.2 (nt hcl))]; exact hr63), ((((((g1.trans gi1).trans gi6).trans gi11).trans gi16).trans gi21).trans gi63), ((((((f1.trans fj1).trans fj6).trans fj11).trans fj16).trans fj21).trans fj63)⟩, by rw [← hV0, ← hF]; exact (h.sub [1, 2, 0] rfl rfl)⟩) dX6_bodyRead_207
          · skip
            refine r_invVr hC kX6 (b 0) [.int 59] (.int 0) mVX6_isByte q2961 (fun _ h => h.get 0 rfl) (xRm_v (metX6_isByte _ _ hG b i21 j21 bf e he (sgnP bf e 1000000000 (sgnP bf e 1000000000 (sgnP bf e 100000 (sgnP bf e 100000 (numP bf e 1 99 (bd0 bf e ps)))))) hr21 59) (show _ = some (Value.int 0) by rw [hk62]; rfl)) (fun _ h => h.in.sub [0, 1] rfl rfl) ⟨rfl, rfl⟩ 0 0 rfl rfl (Nat.le_of_ble_eq_true rfl) (Nat.le_of_ble_eq_true rfl) rfl (Nat.le_of_ble_eq_true rfl) dX6_bodyRead_185 188 rfl ?_
            refine r_ifeq hC 201 dX6_bodyRead_188 (by decide) 191 rfl (fun _ => ?_) (fun h => absurd h (by decide))
            refine r_aload_n hC 2 dX6_bodyRead_201 rfl 202 rfl ?_
            refine r_bipush hC 59 dX6_bodyRead_202 bp_59 204 rfl ?_
            refine r_invVw hC kX6 (b 0) [.int 59] [(b 3, .inl (1, 111, .inr (.inl (va_up (va_up (va_up (va_up (va_up dr 16 (numV bf e 1 99 (bd0 bf e ps))) 17 (sgnV bf e 100000 (numP bf e 1 99 (bd0 bf e ps)))) 18 (sgnV bf e 100000 (sgnP bf e 100000 (numP bf e 1 99 (bd0 bf e ps))))) 19 (sgnV bf e 1000000000 (sgnP bf e 100000 (sgnP bf e 100000 (numP bf e 1 99 (bd0 bf e ps)))))) 20 (sgnV bf e 1000000000 (sgnP bf e 1000000000 (sgnP bf e 100000 (sgnP bf e 100000 (numP bf e 1 99 (bd0 bf e ps))))))))))] mVX6_must q2957 0 rfl (metX6_must _ _ hG b i21 j21 bf e he (sgnP bf e 1000000000 (sgnP bf e 1000000000 (sgnP bf e 100000 (sgnP bf e 100000 (numP bf e 1 99 (bd0 bf e ps)))))) hr21 59) [0, 1] [2] rfl rfl rfl rfl (by decide) ⟨rfl, rfl⟩ 0 0 rfl rfl (Nat.le_of_ble_eq_true rfl) (Nat.le_of_ble_eq_true rfl) rfl (Nat.le_of_ble_eq_true rfl) dX6_bodyRead_204 207 rfl (fun v68 w69 h70 => ?_) (fun _ _ h => h.elim)
            obtain ⟨rfl, i67, j67, rfl, hr67, gi67, fj67⟩ := h70
            show rn C (xSt F V0 [(b 3, .inl (1, 111, .inr (.inl (va_up (va_up (va_up (va_up (va_up dr 16 (numV bf e 1 99 (bd0 bf e ps))) 17 (sgnV bf e 100000 (numP bf e 1 99 (bd0 bf e ps)))) 18 (sgnV bf e 100000 (sgnP bf e 100000 (numP bf e 1 99 (bd0 bf e ps))))) 19 (sgnV bf e 1000000000 (sgnP bf e 100000 (sgnP bf e 100000 (numP bf e 1 99 (bd0 bf e ps)))))) 20 (sgnV bf e 1000000000 (sgnP bf e 1000000000 (sgnP bf e 100000 (sgnP bf e 100000 (numP bf e 1 99 (bd0 bf e ps)))))))))), (b 0, .inr (5, mF b i67 j67)), (b 13, .inl (0, 600, .inl bf))]) 0 0 207 [(3, .int 2), (2, .int 0), (0, .ref (b 0)), (1, .int 2)] []
            exact r_vret hC (Nat.le_of_ble_eq_true rfl) (Nat.le_of_ble_eq_true rfl) (fun V9 h => hQ _ _ ⟨[(b 0, .inr (5, mF b i67 j67)), (b 13, .inl (0, 600, .inl bf)), (b 3, .inl (1, 111, .inr (.inl (va_up (va_up (va_up (va_up (va_up dr 16 (numV bf e 1 99 (bd0 bf e ps))) 17 (sgnV bf e 100000 (numP bf e 1 99 (bd0 bf e ps)))) 18 (sgnV bf e 100000 (sgnP bf e 100000 (numP bf e 1 99 (bd0 bf e ps))))) 19 (sgnV bf e 1000000000 (sgnP bf e 100000 (sgnP bf e 100000 (numP bf e 1 99 (bd0 bf e ps)))))) 20 (sgnV bf e 1000000000 (sgnP bf e 1000000000 (sgnP bf e 100000 (sgnP bf e 100000 (numP bf e 1 99 (bd0 bf e ps))))))))))], ⟨rfl, _, _, rfl, (by rw [bd7, bd6, if_neg (fun h => absurd h.1 (nt hk62))]; exact hr67), ((((((g1.trans gi1).trans gi6).trans gi11).trans gi16).trans gi21).trans gi67), ((((((f1.trans fj1).trans fj6).trans fj11).trans fj16).trans fj21).trans fj67)⟩, by rw [← hV0, ← hF]; exact (h.sub [1, 2, 0] rfl rfl)⟩) dX6_bodyRead_207
        · skip
          refine r_aload_n hC 2 dX6_bodyRead_146 rfl 147 rfl ?_
          refine r_get (v := .ref (b 3)) hC kX6 3 rfl q2756 (fun _ h => h.get 1 rfl) rfl dX6_bodyRead_147 150 rfl ?_
          refine r_iload_n hC 0 dX6_bodyRead_150 rfl 151 rfl ?_
          refine r_iconst hC 2 dX6_bodyRead_151 ic_2 152 rfl ?_
          refine r_invSr hC [.int 1, .int 2] (.int 13) mSX6_at q2711 (metX6_at _ _ hG 1 2) (fun _ _ => xIn.nil) ⟨rfl, rfl⟩ 0 0 rfl rfl (Nat.le_of_ble_eq_true rfl) (Nat.le_of_ble_eq_true rfl) rfl (Nat.le_of_ble_eq_true rfl) dX6_bodyRead_152 155 rfl ?_
          refine r_lald hC 13 (xix_n 13 (Nat.le_of_ble_eq_true rfl) (Nat.le_of_ble_eq_true rfl)) (fun _ h => h.get 0 rfl) (dr 13) (by rw [← hu25, ← hu20, ← hu15, ← hu10, ← hu5]; rfl) dX6_bodyRead_155 156 rfl ?_
          refine r_aload_n hC 2 dX6_bodyRead_156 rfl 157 rfl ?_
          refine r_get (v := .ref (b 3)) hC kX6 3 rfl q2756 (fun _ h => h.get 1 rfl) rfl dX6_bodyRead_157 160 rfl ?_
          refine r_iload_n hC 3 dX6_bodyRead_160 rfl 161 rfl ?_
          refine r_iconst hC 2 dX6_bodyRead_161 ic_2 162 rfl ?_
          refine r_invSr hC [.int 2, .int 2] (.int 18) mSX6_at q2711 (metX6_at _ _ hG 2 2) (fun _ _ => xIn.nil) ⟨rfl, rfl⟩ 0 0 rfl rfl (Nat.le_of_ble_eq_true rfl) (Nat.le_of_ble_eq_true rfl) rfl (Nat.le_of_ble_eq_true rfl) dX6_bodyRead_162 165 rfl ?_
          refine r_lald hC 18 (xix_n 18 (Nat.le_of_ble_eq_true rfl) (Nat.le_of_ble_eq_true rfl)) (fun _ h => h.get 0 rfl) (sgnV bf e 100000 (sgnP bf e 100000 (numP bf e 1 99 (bd0 bf e ps)))) (by rw [← hu25, ← hu20, ← hu15]; rfl) dX6_bodyRead_165 166 rfl ?_
          refine r_lcne hC 174 dX6_bodyRead_166 dX6_bodyRead_167 (by decide) 170 rfl (fun c71 => ?_) (fun c71 => ?_)
          · skip
            refine r_iconst hC 0 dX6_bodyRead_174 ic_0 175 rfl ?_
            refine r_istore_n hC 2 [(2, .int 0), (3, .int 1), (0, .ref (b 0)), (1, .int 2)] dX6_bodyRead_175 rfl (Nat.le_of_ble_eq_true rfl) rfl 176 rfl ?_
            refine r_iinc hC 2 3 1 [(3, .int 2), (2, .int 0), (0, .ref (b 0)), (1, .int 2)] dX6_bodyRead_176 rfl (by decide) (Nat.le_of_ble_eq_true rfl) rfl 179 rfl ?_
            refine r_goto hC 113 dX6_bodyRead_179 (by decide) ?_
            refine r_iload_n hC 0 dX6_bodyRead_113 rfl 114 rfl ?_
            refine r_iload_n hC 3 dX6_bodyRead_114 rfl 115 rfl ?_
            refine r_icge hC 182 dX6_bodyRead_115 (by decide) 118 rfl (fun _ => ?_) (fun h => absurd h (by decide))
            subst hu25
            subst hu20
            subst hu15
            subst hu10
            subst hu5
            refine rn.mono (J := xSt F V0 [(b 0, .inr (5, mF b i21 j21)), (b 13, .inl (0, 600, .inl bf)), (b 3, .inl (1, 111, .inr (.inl (va_up (va_up (va_up (va_up (va_up dr 16 (numV bf e 1 99 (bd0 bf e ps))) 17 (sgnV bf e 100000 (numP bf e 1 99 (bd0 bf e ps)))) 18 (sgnV bf e 100000 (sgnP bf e 100000 (numP bf e 1 99 (bd0 bf e ps))))) 19 (sgnV bf e 1000000000 (sgnP bf e 100000 (sgnP bf e 100000 (numP bf e 1 99 (bd0 bf e ps)))))) 20 (sgnV bf e 1000000000 (sgnP bf e 1000000000 (sgnP bf e 100000 (sgnP bf e 100000 (numP bf e 1 99 (bd0 bf e ps))))))))))]) (fun _ h => h.sub [1, 2, 0] rfl rfl) ?_
            have hcl : clQ (bdR bf e 2 ps dr) 2 = false := by rw [clQ_2, sm0y (dr := (bdR bf e 2 ps dr)) (a := 0) (c := 2) c60, sm0y (dr := (bdR bf e 2 ps dr)) (a := 1) (c := 2) c71]; rfl
            refine r_aload_n hC 2 dX6_bodyRead_182 rfl 183 rfl ?_
            refine r_bipush hC 59 dX6_bodyRead_183 bp_59 185 rfl ?_
            rcases Bool.eq_false_or_eq_true (isB bf e 59 (sgnP bf e 1000000000 (sgnP bf e 1000000000 (sgnP bf e 100000 (sgnP bf e 100000 (numP bf e 1 99 (bd0 bf e ps))))))) with hk72 | hk72
            · skip
              refine r_invVr hC kX6 (b 0) [.int 59] (.int 1) mVX6_isByte q2961 (fun _ h => h.get 0 rfl) (xRm_v (metX6_isByte _ _ hG b i21 j21 bf e he (sgnP bf e 1000000000 (sgnP bf e 1000000000 (sgnP bf e 100000 (sgnP bf e 100000 (numP bf e 1 99 (bd0 bf e ps)))))) hr21 59) (show _ = some (Value.int 1) by rw [hk72]; rfl)) (fun _ h => h.in.sub [0, 1] rfl rfl) ⟨rfl, rfl⟩ 0 0 rfl rfl (Nat.le_of_ble_eq_true rfl) (Nat.le_of_ble_eq_true rfl) rfl (Nat.le_of_ble_eq_true rfl) dX6_bodyRead_185 188 rfl ?_
              refine r_ifeq hC 201 dX6_bodyRead_188 (by decide) 191 rfl (fun h => absurd h (by decide)) (fun _ => ?_)
              refine r_iload_n hC 1 dX6_bodyRead_191 rfl 192 rfl ?_
              refine r_ifeq hC 201 dX6_bodyRead_192 (by decide) 195 rfl (fun _ => ?_) (fun h => absurd h (by decide))
              refine r_aload_n hC 2 dX6_bodyRead_201 rfl 202 rfl ?_
              refine r_bipush hC 59 dX6_bodyRead_202 bp_59 204 rfl ?_
              refine r_invVw hC kX6 (b 0) [.int 59] [(b 3, .inl (1, 111, .inr (.inl (va_up (va_up (va_up (va_up (va_up dr 16 (numV bf e 1 99 (bd0 bf e ps))) 17 (sgnV bf e 100000 (numP bf e 1 99 (bd0 bf e ps)))) 18 (sgnV bf e 100000 (sgnP bf e 100000 (numP bf e 1 99 (bd0 bf e ps))))) 19 (sgnV bf e 1000000000 (sgnP bf e 100000 (sgnP bf e 100000 (numP bf e 1 99 (bd0 bf e ps)))))) 20 (sgnV bf e 1000000000 (sgnP bf e 1000000000 (sgnP bf e 100000 (sgnP bf e 100000 (numP bf e 1 99 (bd0 bf e ps))))))))))] mVX6_must q2957 0 rfl (metX6_must _ _ hG b i21 j21 bf e he (sgnP bf e 1000000000 (sgnP bf e 1000000000 (sgnP bf e 100000 (sgnP bf e 100000 (numP bf e 1 99 (bd0 bf e ps)))))) hr21 59) [0, 1] [2] rfl rfl rfl rfl (by decide) ⟨rfl, rfl⟩ 0 0 rfl rfl (Nat.le_of_ble_eq_true rfl) (Nat.le_of_ble_eq_true rfl) rfl (Nat.le_of_ble_eq_true rfl) dX6_bodyRead_204 207 rfl (fun v74 w75 h76 => ?_) (fun _ _ h => h.elim)
              obtain ⟨rfl, i73, j73, rfl, hr73, gi73, fj73⟩ := h76
              show rn C (xSt F V0 [(b 3, .inl (1, 111, .inr (.inl (va_up (va_up (va_up (va_up (va_up dr 16 (numV bf e 1 99 (bd0 bf e ps))) 17 (sgnV bf e 100000 (numP bf e 1 99 (bd0 bf e ps)))) 18 (sgnV bf e 100000 (sgnP bf e 100000 (numP bf e 1 99 (bd0 bf e ps))))) 19 (sgnV bf e 1000000000 (sgnP bf e 100000 (sgnP bf e 100000 (numP bf e 1 99 (bd0 bf e ps)))))) 20 (sgnV bf e 1000000000 (sgnP bf e 1000000000 (sgnP bf e 100000 (sgnP bf e 100000 (numP bf e 1 99 (bd0 bf e ps)))))))))), (b 0, .inr (5, mF b i73 j73)), (b 13, .inl (0, 600, .inl bf))]) 0 0 207 [(3, .int 2), (2, .int 0), (0, .ref (b 0)), (1, .int 2)] []
              exact r_vret hC (Nat.le_of_ble_eq_true rfl) (Nat.le_of_ble_eq_true rfl) (fun V9 h => hQ _ _ ⟨[(b 0, .inr (5, mF b i73 j73)), (b 13, .inl (0, 600, .inl bf)), (b 3, .inl (1, 111, .inr (.inl (va_up (va_up (va_up (va_up (va_up dr 16 (numV bf e 1 99 (bd0 bf e ps))) 17 (sgnV bf e 100000 (numP bf e 1 99 (bd0 bf e ps)))) 18 (sgnV bf e 100000 (sgnP bf e 100000 (numP bf e 1 99 (bd0 bf e ps))))) 19 (sgnV bf e 1000000000 (sgnP bf e 100000 (sgnP bf e 100000 (numP bf e 1 99 (bd0 bf e ps)))))) 20 (sgnV bf e 1000000000 (sgnP bf e 1000000000 (sgnP bf e 100000 (sgnP bf e 100000 (numP bf e 1 99 (bd0 bf e ps))))))))))], ⟨rfl, _, _, rfl, (by rw [bd7, bd6, if_neg (fun h => absurd h.2 (nt hcl))]; exact hr73), ((((((g1.trans gi1).trans gi6).trans gi11).trans gi16).trans gi21).trans gi73), ((((((f1.trans fj1).trans fj6).trans fj11).trans fj16).trans fj21).trans fj73)⟩, by rw [← hV0, ← hF]; exact (h.sub [1, 2, 0] rfl rfl)⟩) dX6_bodyRead_207
            · skip
              refine r_invVr hC kX6 (b 0) [.int 59] (.int 0) mVX6_isByte q2961 (fun _ h => h.get 0 rfl) (xRm_v (metX6_isByte _ _ hG b i21 j21 bf e he (sgnP bf e 1000000000 (sgnP bf e 1000000000 (sgnP bf e 100000 (sgnP bf e 100000 (numP bf e 1 99 (bd0 bf e ps)))))) hr21 59) (show _ = some (Value.int 0) by rw [hk72]; rfl)) (fun _ h => h.in.sub [0, 1] rfl rfl) ⟨rfl, rfl⟩ 0 0 rfl rfl (Nat.le_of_ble_eq_true rfl) (Nat.le_of_ble_eq_true rfl) rfl (Nat.le_of_ble_eq_true rfl) dX6_bodyRead_185 188 rfl ?_
              refine r_ifeq hC 201 dX6_bodyRead_188 (by decide) 191 rfl (fun _ => ?_) (fun h => absurd h (by decide))
              refine r_aload_n hC 2 dX6_bodyRead_201 rfl 202 rfl ?_
              refine r_bipush hC 59 dX6_bodyRead_202 bp_59 204 rfl ?_
              refine r_invVw hC kX6 (b 0) [.int 59] [(b 3, .inl (1, 111, .inr (.inl (va_up (va_up (va_up (va_up (va_up dr 16 (numV bf e 1 99 (bd0 bf e ps))) 17 (sgnV bf e 100000 (numP bf e 1 99 (bd0 bf e ps)))) 18 (sgnV bf e 100000 (sgnP bf e 100000 (numP bf e 1 99 (bd0 bf e ps))))) 19 (sgnV bf e 1000000000 (sgnP bf e 100000 (sgnP bf e 100000 (numP bf e 1 99 (bd0 bf e ps)))))) 20 (sgnV bf e 1000000000 (sgnP bf e 1000000000 (sgnP bf e 100000 (sgnP bf e 100000 (numP bf e 1 99 (bd0 bf e ps))))))))))] mVX6_must q2957 0 rfl (metX6_must _ _ hG b i21 j21 bf e he (sgnP bf e 1000000000 (sgnP bf e 1000000000 (sgnP bf e 100000 (sgnP bf e 100000 (numP bf e 1 99 (bd0 bf e ps)))))) hr21 59) [0, 1] [2] rfl rfl rfl rfl (by decide) ⟨rfl, rfl⟩ 0 0 rfl rfl (Nat.le_of_ble_eq_true rfl) (Nat.le_of_ble_eq_true rfl) rfl (Nat.le_of_ble_eq_true rfl) dX6_bodyRead_204 207 rfl (fun v78 w79 h80 => ?_) (fun _ _ h => h.elim)
              obtain ⟨rfl, i77, j77, rfl, hr77, gi77, fj77⟩ := h80
              show rn C (xSt F V0 [(b 3, .inl (1, 111, .inr (.inl (va_up (va_up (va_up (va_up (va_up dr 16 (numV bf e 1 99 (bd0 bf e ps))) 17 (sgnV bf e 100000 (numP bf e 1 99 (bd0 bf e ps)))) 18 (sgnV bf e 100000 (sgnP bf e 100000 (numP bf e 1 99 (bd0 bf e ps))))) 19 (sgnV bf e 1000000000 (sgnP bf e 100000 (sgnP bf e 100000 (numP bf e 1 99 (bd0 bf e ps)))))) 20 (sgnV bf e 1000000000 (sgnP bf e 1000000000 (sgnP bf e 100000 (sgnP bf e 100000 (numP bf e 1 99 (bd0 bf e ps)))))))))), (b 0, .inr (5, mF b i77 j77)), (b 13, .inl (0, 600, .inl bf))]) 0 0 207 [(3, .int 2), (2, .int 0), (0, .ref (b 0)), (1, .int 2)] []
              exact r_vret hC (Nat.le_of_ble_eq_true rfl) (Nat.le_of_ble_eq_true rfl) (fun V9 h => hQ _ _ ⟨[(b 0, .inr (5, mF b i77 j77)), (b 13, .inl (0, 600, .inl bf)), (b 3, .inl (1, 111, .inr (.inl (va_up (va_up (va_up (va_up (va_up dr 16 (numV bf e 1 99 (bd0 bf e ps))) 17 (sgnV bf e 100000 (numP bf e 1 99 (bd0 bf e ps)))) 18 (sgnV bf e 100000 (sgnP bf e 100000 (numP bf e 1 99 (bd0 bf e ps))))) 19 (sgnV bf e 1000000000 (sgnP bf e 100000 (sgnP bf e 100000 (numP bf e 1 99 (bd0 bf e ps)))))) 20 (sgnV bf e 1000000000 (sgnP bf e 1000000000 (sgnP bf e 100000 (sgnP bf e 100000 (numP bf e 1 99 (bd0 bf e ps))))))))))], ⟨rfl, _, _, rfl, (by rw [bd7, bd6, if_neg (fun h => absurd h.1 (nt hk72))]; exact hr77), ((((((g1.trans gi1).trans gi6).trans gi11).trans gi16).trans gi21).trans gi77), ((((((f1.trans fj1).trans fj6).trans fj11).trans fj16).trans fj21).trans fj77)⟩, by rw [← hV0, ← hF]; exact (h.sub [1, 2, 0] rfl rfl)⟩) dX6_bodyRead_207
          · skip
            refine r_iconst hC 1 dX6_bodyRead_170 ic_1 171 rfl ?_
            refine r_goto hC 175 dX6_bodyRead_171 (by decide) ?_
            refine r_istore_n hC 2 [(2, .int 1), (3, .int 1), (0, .ref (b 0)), (1, .int 2)] dX6_bodyRead_175 rfl (Nat.le_of_ble_eq_true rfl) rfl 176 rfl ?_
            refine r_iinc hC 2 3 1 [(3, .int 2), (2, .int 1), (0, .ref (b 0)), (1, .int 2)] dX6_bodyRead_176 rfl (by decide) (Nat.le_of_ble_eq_true rfl) rfl 179 rfl ?_
            refine r_goto hC 113 dX6_bodyRead_179 (by decide) ?_
            refine r_iload_n hC 0 dX6_bodyRead_113 rfl 114 rfl ?_
            refine r_iload_n hC 3 dX6_bodyRead_114 rfl 115 rfl ?_
            refine r_icge hC 182 dX6_bodyRead_115 (by decide) 118 rfl (fun _ => ?_) (fun h => absurd h (by decide))
            subst hu25
            subst hu20
            subst hu15
            subst hu10
            subst hu5
            refine rn.mono (J := xSt F V0 [(b 0, .inr (5, mF b i21 j21)), (b 13, .inl (0, 600, .inl bf)), (b 3, .inl (1, 111, .inr (.inl (va_up (va_up (va_up (va_up (va_up dr 16 (numV bf e 1 99 (bd0 bf e ps))) 17 (sgnV bf e 100000 (numP bf e 1 99 (bd0 bf e ps)))) 18 (sgnV bf e 100000 (sgnP bf e 100000 (numP bf e 1 99 (bd0 bf e ps))))) 19 (sgnV bf e 1000000000 (sgnP bf e 100000 (sgnP bf e 100000 (numP bf e 1 99 (bd0 bf e ps)))))) 20 (sgnV bf e 1000000000 (sgnP bf e 1000000000 (sgnP bf e 100000 (sgnP bf e 100000 (numP bf e 1 99 (bd0 bf e ps))))))))))]) (fun _ h => h.sub [1, 2, 0] rfl rfl) ?_
            have hcl : clQ (bdR bf e 2 ps dr) 2 = true := by rw [clQ_2, sm0y (dr := (bdR bf e 2 ps dr)) (a := 0) (c := 2) c60, sm1 (dr := (bdR bf e 2 ps dr)) (a := 1) (c := 2) c61 c71]; rfl
            refine r_aload_n hC 2 dX6_bodyRead_182 rfl 183 rfl ?_
            refine r_bipush hC 59 dX6_bodyRead_183 bp_59 185 rfl ?_
            rcases Bool.eq_false_or_eq_true (isB bf e 59 (sgnP bf e 1000000000 (sgnP bf e 1000000000 (sgnP bf e 100000 (sgnP bf e 100000 (numP bf e 1 99 (bd0 bf e ps))))))) with hk81 | hk81
            · skip
              refine r_invVr hC kX6 (b 0) [.int 59] (.int 1) mVX6_isByte q2961 (fun _ h => h.get 0 rfl) (xRm_v (metX6_isByte _ _ hG b i21 j21 bf e he (sgnP bf e 1000000000 (sgnP bf e 1000000000 (sgnP bf e 100000 (sgnP bf e 100000 (numP bf e 1 99 (bd0 bf e ps)))))) hr21 59) (show _ = some (Value.int 1) by rw [hk81]; rfl)) (fun _ h => h.in.sub [0, 1] rfl rfl) ⟨rfl, rfl⟩ 0 0 rfl rfl (Nat.le_of_ble_eq_true rfl) (Nat.le_of_ble_eq_true rfl) rfl (Nat.le_of_ble_eq_true rfl) dX6_bodyRead_185 188 rfl ?_
              refine r_ifeq hC 201 dX6_bodyRead_188 (by decide) 191 rfl (fun h => absurd h (by decide)) (fun _ => ?_)
              refine r_iload_n hC 1 dX6_bodyRead_191 rfl 192 rfl ?_
              refine r_ifeq hC 201 dX6_bodyRead_192 (by decide) 195 rfl (fun h => absurd h (by decide)) (fun _ => ?_)
              refine r_aload_n hC 2 dX6_bodyRead_195 rfl 196 rfl ?_
              refine r_iconst hC 3 dX6_bodyRead_196 ic_3 197 rfl ?_
              refine r_invVw hC kX6 (b 0) [.int 3] [(b 13, .inl (0, 600, .inl bf)), (b 3, .inl (1, 111, .inr (.inl (va_up (va_up (va_up (va_up (va_up dr 16 (numV bf e 1 99 (bd0 bf e ps))) 17 (sgnV bf e 100000 (numP bf e 1 99 (bd0 bf e ps)))) 18 (sgnV bf e 100000 (sgnP bf e 100000 (numP bf e 1 99 (bd0 bf e ps))))) 19 (sgnV bf e 1000000000 (sgnP bf e 100000 (sgnP bf e 100000 (numP bf e 1 99 (bd0 bf e ps)))))) 20 (sgnV bf e 1000000000 (sgnP bf e 1000000000 (sgnP bf e 100000 (sgnP bf e 100000 (numP bf e 1 99 (bd0 bf e ps))))))))))] mVX6_wrongs q2953 0 rfl (metX6_wrongsP _ _ hG b i21 j21 bf e he (sgnP bf e 1000000000 (sgnP bf e 1000000000 (sgnP bf e 100000 (sgnP bf e 100000 (numP bf e 1 99 (bd0 bf e ps)))))) hr21 3 (by decide)) [0] [1, 2] rfl rfl rfl rfl (by decide) ⟨rfl, rfl⟩ 0 0 rfl rfl (Nat.le_of_ble_eq_true rfl) (Nat.le_of_ble_eq_true rfl) rfl (Nat.le_of_ble_eq_true rfl) dX6_bodyRead_197 200 rfl (fun v83 w84 h85 => ?_) (fun _ _ h => h.elim)
              obtain ⟨rfl, i82, j82, rfl, hr82, gi82, fj82⟩ := h85
              show rn C (xSt F V0 [(b 13, .inl (0, 600, .inl bf)), (b 3, .inl (1, 111, .inr (.inl (va_up (va_up (va_up (va_up (va_up dr 16 (numV bf e 1 99 (bd0 bf e ps))) 17 (sgnV bf e 100000 (numP bf e 1 99 (bd0 bf e ps)))) 18 (sgnV bf e 100000 (sgnP bf e 100000 (numP bf e 1 99 (bd0 bf e ps))))) 19 (sgnV bf e 1000000000 (sgnP bf e 100000 (sgnP bf e 100000 (numP bf e 1 99 (bd0 bf e ps)))))) 20 (sgnV bf e 1000000000 (sgnP bf e 1000000000 (sgnP bf e 100000 (sgnP bf e 100000 (numP bf e 1 99 (bd0 bf e ps)))))))))), (b 0, .inr (5, mF b i82 j82))]) 0 0 200 [(3, .int 2), (2, .int 1), (0, .ref (b 0)), (1, .int 2)] [.int 0]
              refine r_pop hC dX6_bodyRead_200 rfl 201 rfl ?_
              refine r_aload_n hC 2 dX6_bodyRead_201 rfl 202 rfl ?_
              refine r_bipush hC 59 dX6_bodyRead_202 bp_59 204 rfl ?_
              refine r_invVw hC kX6 (b 0) [.int 59] [(b 3, .inl (1, 111, .inr (.inl (va_up (va_up (va_up (va_up (va_up dr 16 (numV bf e 1 99 (bd0 bf e ps))) 17 (sgnV bf e 100000 (numP bf e 1 99 (bd0 bf e ps)))) 18 (sgnV bf e 100000 (sgnP bf e 100000 (numP bf e 1 99 (bd0 bf e ps))))) 19 (sgnV bf e 1000000000 (sgnP bf e 100000 (sgnP bf e 100000 (numP bf e 1 99 (bd0 bf e ps)))))) 20 (sgnV bf e 1000000000 (sgnP bf e 1000000000 (sgnP bf e 100000 (sgnP bf e 100000 (numP bf e 1 99 (bd0 bf e ps))))))))))] mVX6_must q2957 2 rfl (metX6_must _ _ hG b i82 j82 bf e he (wrP 3 (sgnP bf e 1000000000 (sgnP bf e 1000000000 (sgnP bf e 100000 (sgnP bf e 100000 (numP bf e 1 99 (bd0 bf e ps))))))) hr82 59) [2, 0] [1] rfl rfl rfl rfl (by decide) ⟨rfl, rfl⟩ 0 0 rfl rfl (Nat.le_of_ble_eq_true rfl) (Nat.le_of_ble_eq_true rfl) rfl (Nat.le_of_ble_eq_true rfl) dX6_bodyRead_204 207 rfl (fun v87 w88 h89 => ?_) (fun _ _ h => h.elim)
              obtain ⟨rfl, i86, j86, rfl, hr86, gi86, fj86⟩ := h89
              show rn C (xSt F V0 [(b 3, .inl (1, 111, .inr (.inl (va_up (va_up (va_up (va_up (va_up dr 16 (numV bf e 1 99 (bd0 bf e ps))) 17 (sgnV bf e 100000 (numP bf e 1 99 (bd0 bf e ps)))) 18 (sgnV bf e 100000 (sgnP bf e 100000 (numP bf e 1 99 (bd0 bf e ps))))) 19 (sgnV bf e 1000000000 (sgnP bf e 100000 (sgnP bf e 100000 (numP bf e 1 99 (bd0 bf e ps)))))) 20 (sgnV bf e 1000000000 (sgnP bf e 1000000000 (sgnP bf e 100000 (sgnP bf e 100000 (numP bf e 1 99 (bd0 bf e ps)))))))))), (b 0, .inr (5, mF b i86 j86)), (b 13, .inl (0, 600, .inl bf))]) 0 0 207 [(3, .int 2), (2, .int 1), (0, .ref (b 0)), (1, .int 2)] []
              exact r_vret hC (Nat.le_of_ble_eq_true rfl) (Nat.le_of_ble_eq_true rfl) (fun V9 h => hQ _ _ ⟨[(b 0, .inr (5, mF b i86 j86)), (b 13, .inl (0, 600, .inl bf)), (b 3, .inl (1, 111, .inr (.inl (va_up (va_up (va_up (va_up (va_up dr 16 (numV bf e 1 99 (bd0 bf e ps))) 17 (sgnV bf e 100000 (numP bf e 1 99 (bd0 bf e ps)))) 18 (sgnV bf e 100000 (sgnP bf e 100000 (numP bf e 1 99 (bd0 bf e ps))))) 19 (sgnV bf e 1000000000 (sgnP bf e 100000 (sgnP bf e 100000 (numP bf e 1 99 (bd0 bf e ps)))))) 20 (sgnV bf e 1000000000 (sgnP bf e 1000000000 (sgnP bf e 100000 (sgnP bf e 100000 (numP bf e 1 99 (bd0 bf e ps))))))))))], ⟨rfl, _, _, rfl, (by rw [bd7, bd6, if_pos ⟨hk81, hcl⟩]; exact hr86), (((((((g1.trans gi1).trans gi6).trans gi11).trans gi16).trans gi21).trans gi82).trans gi86), (((((((f1.trans fj1).trans fj6).trans fj11).trans fj16).trans fj21).trans fj82).trans fj86)⟩, by rw [← hV0, ← hF]; exact (h.sub [1, 2, 0] rfl rfl)⟩) dX6_bodyRead_207
            · skip
              refine r_invVr hC kX6 (b 0) [.int 59] (.int 0) mVX6_isByte q2961 (fun _ h => h.get 0 rfl) (xRm_v (metX6_isByte _ _ hG b i21 j21 bf e he (sgnP bf e 1000000000 (sgnP bf e 1000000000 (sgnP bf e 100000 (sgnP bf e 100000 (numP bf e 1 99 (bd0 bf e ps)))))) hr21 59) (show _ = some (Value.int 0) by rw [hk81]; rfl)) (fun _ h => h.in.sub [0, 1] rfl rfl) ⟨rfl, rfl⟩ 0 0 rfl rfl (Nat.le_of_ble_eq_true rfl) (Nat.le_of_ble_eq_true rfl) rfl (Nat.le_of_ble_eq_true rfl) dX6_bodyRead_185 188 rfl ?_
              refine r_ifeq hC 201 dX6_bodyRead_188 (by decide) 191 rfl (fun _ => ?_) (fun h => absurd h (by decide))
              refine r_aload_n hC 2 dX6_bodyRead_201 rfl 202 rfl ?_
              refine r_bipush hC 59 dX6_bodyRead_202 bp_59 204 rfl ?_
              refine r_invVw hC kX6 (b 0) [.int 59] [(b 3, .inl (1, 111, .inr (.inl (va_up (va_up (va_up (va_up (va_up dr 16 (numV bf e 1 99 (bd0 bf e ps))) 17 (sgnV bf e 100000 (numP bf e 1 99 (bd0 bf e ps)))) 18 (sgnV bf e 100000 (sgnP bf e 100000 (numP bf e 1 99 (bd0 bf e ps))))) 19 (sgnV bf e 1000000000 (sgnP bf e 100000 (sgnP bf e 100000 (numP bf e 1 99 (bd0 bf e ps)))))) 20 (sgnV bf e 1000000000 (sgnP bf e 1000000000 (sgnP bf e 100000 (sgnP bf e 100000 (numP bf e 1 99 (bd0 bf e ps))))))))))] mVX6_must q2957 0 rfl (metX6_must _ _ hG b i21 j21 bf e he (sgnP bf e 1000000000 (sgnP bf e 1000000000 (sgnP bf e 100000 (sgnP bf e 100000 (numP bf e 1 99 (bd0 bf e ps)))))) hr21 59) [0, 1] [2] rfl rfl rfl rfl (by decide) ⟨rfl, rfl⟩ 0 0 rfl rfl (Nat.le_of_ble_eq_true rfl) (Nat.le_of_ble_eq_true rfl) rfl (Nat.le_of_ble_eq_true rfl) dX6_bodyRead_204 207 rfl (fun v91 w92 h93 => ?_) (fun _ _ h => h.elim)
              obtain ⟨rfl, i90, j90, rfl, hr90, gi90, fj90⟩ := h93
              show rn C (xSt F V0 [(b 3, .inl (1, 111, .inr (.inl (va_up (va_up (va_up (va_up (va_up dr 16 (numV bf e 1 99 (bd0 bf e ps))) 17 (sgnV bf e 100000 (numP bf e 1 99 (bd0 bf e ps)))) 18 (sgnV bf e 100000 (sgnP bf e 100000 (numP bf e 1 99 (bd0 bf e ps))))) 19 (sgnV bf e 1000000000 (sgnP bf e 100000 (sgnP bf e 100000 (numP bf e 1 99 (bd0 bf e ps)))))) 20 (sgnV bf e 1000000000 (sgnP bf e 1000000000 (sgnP bf e 100000 (sgnP bf e 100000 (numP bf e 1 99 (bd0 bf e ps)))))))))), (b 0, .inr (5, mF b i90 j90)), (b 13, .inl (0, 600, .inl bf))]) 0 0 207 [(3, .int 2), (2, .int 1), (0, .ref (b 0)), (1, .int 2)] []
              exact r_vret hC (Nat.le_of_ble_eq_true rfl) (Nat.le_of_ble_eq_true rfl) (fun V9 h => hQ _ _ ⟨[(b 0, .inr (5, mF b i90 j90)), (b 13, .inl (0, 600, .inl bf)), (b 3, .inl (1, 111, .inr (.inl (va_up (va_up (va_up (va_up (va_up dr 16 (numV bf e 1 99 (bd0 bf e ps))) 17 (sgnV bf e 100000 (numP bf e 1 99 (bd0 bf e ps)))) 18 (sgnV bf e 100000 (sgnP bf e 100000 (numP bf e 1 99 (bd0 bf e ps))))) 19 (sgnV bf e 1000000000 (sgnP bf e 100000 (sgnP bf e 100000 (numP bf e 1 99 (bd0 bf e ps)))))) 20 (sgnV bf e 1000000000 (sgnP bf e 1000000000 (sgnP bf e 100000 (sgnP bf e 100000 (numP bf e 1 99 (bd0 bf e ps))))))))))], ⟨rfl, _, _, rfl, (by rw [bd7, bd6, if_neg (fun h => absurd h.1 (nt hk81))]; exact hr90), ((((((g1.trans gi1).trans gi6).trans gi11).trans gi16).trans gi21).trans gi90), ((((((f1.trans fj1).trans fj6).trans fj11).trans fj16).trans fj21).trans fj90)⟩, by rw [← hV0, ← hF]; exact (h.sub [1, 2, 0] rfl rfl)⟩) dX6_bodyRead_207
      · skip
        refine r_iconst hC 1 dX6_bodyRead_170 ic_1 171 rfl ?_
        refine r_goto hC 175 dX6_bodyRead_171 (by decide) ?_
        refine r_istore_n hC 2 [(2, .int 1), (3, .int 0), (0, .ref (b 0)), (1, .int 2)] dX6_bodyRead_175 rfl (Nat.le_of_ble_eq_true rfl) rfl 176 rfl ?_
        refine r_iinc hC 1 3 1 [(3, .int 1), (2, .int 1), (0, .ref (b 0)), (1, .int 2)] dX6_bodyRead_176 rfl (by decide) (Nat.le_of_ble_eq_true rfl) rfl 179 rfl ?_
        refine r_goto hC 113 dX6_bodyRead_179 (by decide) ?_
        refine r_iload_n hC 0 dX6_bodyRead_113 rfl 114 rfl ?_
        refine r_iload_n hC 3 dX6_bodyRead_114 rfl 115 rfl ?_
        refine r_icge hC 182 dX6_bodyRead_115 (by decide) 118 rfl (fun h => absurd h (by decide)) (fun _ => ?_)
        refine r_iload_n hC 1 dX6_bodyRead_118 rfl 119 rfl ?_
        refine r_ifne hC 170 dX6_bodyRead_119 (by decide) 122 rfl (fun _ => ?_) (fun h => absurd h (by decide))
        refine r_iconst hC 1 dX6_bodyRead_170 ic_1 171 rfl ?_
        refine r_goto hC 175 dX6_bodyRead_171 (by decide) ?_
        refine r_istore_n hC 2 [(2, .int 1), (3, .int 1), (0, .ref (b 0)), (1, .int 2)] dX6_bodyRead_175 rfl (Nat.le_of_ble_eq_true rfl) rfl 176 rfl ?_
        refine r_iinc hC 2 3 1 [(3, .int 2), (2, .int 1), (0, .ref (b 0)), (1, .int 2)] dX6_bodyRead_176 rfl (by decide) (Nat.le_of_ble_eq_true rfl) rfl 179 rfl ?_
        refine r_goto hC 113 dX6_bodyRead_179 (by decide) ?_
        refine r_iload_n hC 0 dX6_bodyRead_113 rfl 114 rfl ?_
        refine r_iload_n hC 3 dX6_bodyRead_114 rfl 115 rfl ?_
        refine r_icge hC 182 dX6_bodyRead_115 (by decide) 118 rfl (fun _ => ?_) (fun h => absurd h (by decide))
        subst hu25
        subst hu20
        subst hu15
        subst hu10
        subst hu5
        refine rn.mono (J := xSt F V0 [(b 0, .inr (5, mF b i21 j21)), (b 13, .inl (0, 600, .inl bf)), (b 3, .inl (1, 111, .inr (.inl (va_up (va_up (va_up (va_up (va_up dr 16 (numV bf e 1 99 (bd0 bf e ps))) 17 (sgnV bf e 100000 (numP bf e 1 99 (bd0 bf e ps)))) 18 (sgnV bf e 100000 (sgnP bf e 100000 (numP bf e 1 99 (bd0 bf e ps))))) 19 (sgnV bf e 1000000000 (sgnP bf e 100000 (sgnP bf e 100000 (numP bf e 1 99 (bd0 bf e ps)))))) 20 (sgnV bf e 1000000000 (sgnP bf e 1000000000 (sgnP bf e 100000 (sgnP bf e 100000 (numP bf e 1 99 (bd0 bf e ps))))))))))]) (fun _ h => h.sub [1, 2, 0] rfl rfl) ?_
        have hcl : clQ (bdR bf e 2 ps dr) 2 = true := by rw [clQ_2, sm1 (dr := (bdR bf e 2 ps dr)) (a := 0) (c := 2) c26 c60, Bool.true_or]
        refine r_aload_n hC 2 dX6_bodyRead_182 rfl 183 rfl ?_
        refine r_bipush hC 59 dX6_bodyRead_183 bp_59 185 rfl ?_
        rcases Bool.eq_false_or_eq_true (isB bf e 59 (sgnP bf e 1000000000 (sgnP bf e 1000000000 (sgnP bf e 100000 (sgnP bf e 100000 (numP bf e 1 99 (bd0 bf e ps))))))) with hk94 | hk94
        · skip
          refine r_invVr hC kX6 (b 0) [.int 59] (.int 1) mVX6_isByte q2961 (fun _ h => h.get 0 rfl) (xRm_v (metX6_isByte _ _ hG b i21 j21 bf e he (sgnP bf e 1000000000 (sgnP bf e 1000000000 (sgnP bf e 100000 (sgnP bf e 100000 (numP bf e 1 99 (bd0 bf e ps)))))) hr21 59) (show _ = some (Value.int 1) by rw [hk94]; rfl)) (fun _ h => h.in.sub [0, 1] rfl rfl) ⟨rfl, rfl⟩ 0 0 rfl rfl (Nat.le_of_ble_eq_true rfl) (Nat.le_of_ble_eq_true rfl) rfl (Nat.le_of_ble_eq_true rfl) dX6_bodyRead_185 188 rfl ?_
          refine r_ifeq hC 201 dX6_bodyRead_188 (by decide) 191 rfl (fun h => absurd h (by decide)) (fun _ => ?_)
          refine r_iload_n hC 1 dX6_bodyRead_191 rfl 192 rfl ?_
          refine r_ifeq hC 201 dX6_bodyRead_192 (by decide) 195 rfl (fun h => absurd h (by decide)) (fun _ => ?_)
          refine r_aload_n hC 2 dX6_bodyRead_195 rfl 196 rfl ?_
          refine r_iconst hC 3 dX6_bodyRead_196 ic_3 197 rfl ?_
          refine r_invVw hC kX6 (b 0) [.int 3] [(b 13, .inl (0, 600, .inl bf)), (b 3, .inl (1, 111, .inr (.inl (va_up (va_up (va_up (va_up (va_up dr 16 (numV bf e 1 99 (bd0 bf e ps))) 17 (sgnV bf e 100000 (numP bf e 1 99 (bd0 bf e ps)))) 18 (sgnV bf e 100000 (sgnP bf e 100000 (numP bf e 1 99 (bd0 bf e ps))))) 19 (sgnV bf e 1000000000 (sgnP bf e 100000 (sgnP bf e 100000 (numP bf e 1 99 (bd0 bf e ps)))))) 20 (sgnV bf e 1000000000 (sgnP bf e 1000000000 (sgnP bf e 100000 (sgnP bf e 100000 (numP bf e 1 99 (bd0 bf e ps))))))))))] mVX6_wrongs q2953 0 rfl (metX6_wrongsP _ _ hG b i21 j21 bf e he (sgnP bf e 1000000000 (sgnP bf e 1000000000 (sgnP bf e 100000 (sgnP bf e 100000 (numP bf e 1 99 (bd0 bf e ps)))))) hr21 3 (by decide)) [0] [1, 2] rfl rfl rfl rfl (by decide) ⟨rfl, rfl⟩ 0 0 rfl rfl (Nat.le_of_ble_eq_true rfl) (Nat.le_of_ble_eq_true rfl) rfl (Nat.le_of_ble_eq_true rfl) dX6_bodyRead_197 200 rfl (fun v96 w97 h98 => ?_) (fun _ _ h => h.elim)
          obtain ⟨rfl, i95, j95, rfl, hr95, gi95, fj95⟩ := h98
          show rn C (xSt F V0 [(b 13, .inl (0, 600, .inl bf)), (b 3, .inl (1, 111, .inr (.inl (va_up (va_up (va_up (va_up (va_up dr 16 (numV bf e 1 99 (bd0 bf e ps))) 17 (sgnV bf e 100000 (numP bf e 1 99 (bd0 bf e ps)))) 18 (sgnV bf e 100000 (sgnP bf e 100000 (numP bf e 1 99 (bd0 bf e ps))))) 19 (sgnV bf e 1000000000 (sgnP bf e 100000 (sgnP bf e 100000 (numP bf e 1 99 (bd0 bf e ps)))))) 20 (sgnV bf e 1000000000 (sgnP bf e 1000000000 (sgnP bf e 100000 (sgnP bf e 100000 (numP bf e 1 99 (bd0 bf e ps)))))))))), (b 0, .inr (5, mF b i95 j95))]) 0 0 200 [(3, .int 2), (2, .int 1), (0, .ref (b 0)), (1, .int 2)] [.int 0]
          refine r_pop hC dX6_bodyRead_200 rfl 201 rfl ?_
          refine r_aload_n hC 2 dX6_bodyRead_201 rfl 202 rfl ?_
          refine r_bipush hC 59 dX6_bodyRead_202 bp_59 204 rfl ?_
          refine r_invVw hC kX6 (b 0) [.int 59] [(b 3, .inl (1, 111, .inr (.inl (va_up (va_up (va_up (va_up (va_up dr 16 (numV bf e 1 99 (bd0 bf e ps))) 17 (sgnV bf e 100000 (numP bf e 1 99 (bd0 bf e ps)))) 18 (sgnV bf e 100000 (sgnP bf e 100000 (numP bf e 1 99 (bd0 bf e ps))))) 19 (sgnV bf e 1000000000 (sgnP bf e 100000 (sgnP bf e 100000 (numP bf e 1 99 (bd0 bf e ps)))))) 20 (sgnV bf e 1000000000 (sgnP bf e 1000000000 (sgnP bf e 100000 (sgnP bf e 100000 (numP bf e 1 99 (bd0 bf e ps))))))))))] mVX6_must q2957 2 rfl (metX6_must _ _ hG b i95 j95 bf e he (wrP 3 (sgnP bf e 1000000000 (sgnP bf e 1000000000 (sgnP bf e 100000 (sgnP bf e 100000 (numP bf e 1 99 (bd0 bf e ps))))))) hr95 59) [2, 0] [1] rfl rfl rfl rfl (by decide) ⟨rfl, rfl⟩ 0 0 rfl rfl (Nat.le_of_ble_eq_true rfl) (Nat.le_of_ble_eq_true rfl) rfl (Nat.le_of_ble_eq_true rfl) dX6_bodyRead_204 207 rfl (fun v100 w101 h102 => ?_) (fun _ _ h => h.elim)
          obtain ⟨rfl, i99, j99, rfl, hr99, gi99, fj99⟩ := h102
          show rn C (xSt F V0 [(b 3, .inl (1, 111, .inr (.inl (va_up (va_up (va_up (va_up (va_up dr 16 (numV bf e 1 99 (bd0 bf e ps))) 17 (sgnV bf e 100000 (numP bf e 1 99 (bd0 bf e ps)))) 18 (sgnV bf e 100000 (sgnP bf e 100000 (numP bf e 1 99 (bd0 bf e ps))))) 19 (sgnV bf e 1000000000 (sgnP bf e 100000 (sgnP bf e 100000 (numP bf e 1 99 (bd0 bf e ps)))))) 20 (sgnV bf e 1000000000 (sgnP bf e 1000000000 (sgnP bf e 100000 (sgnP bf e 100000 (numP bf e 1 99 (bd0 bf e ps)))))))))), (b 0, .inr (5, mF b i99 j99)), (b 13, .inl (0, 600, .inl bf))]) 0 0 207 [(3, .int 2), (2, .int 1), (0, .ref (b 0)), (1, .int 2)] []
          exact r_vret hC (Nat.le_of_ble_eq_true rfl) (Nat.le_of_ble_eq_true rfl) (fun V9 h => hQ _ _ ⟨[(b 0, .inr (5, mF b i99 j99)), (b 13, .inl (0, 600, .inl bf)), (b 3, .inl (1, 111, .inr (.inl (va_up (va_up (va_up (va_up (va_up dr 16 (numV bf e 1 99 (bd0 bf e ps))) 17 (sgnV bf e 100000 (numP bf e 1 99 (bd0 bf e ps)))) 18 (sgnV bf e 100000 (sgnP bf e 100000 (numP bf e 1 99 (bd0 bf e ps))))) 19 (sgnV bf e 1000000000 (sgnP bf e 100000 (sgnP bf e 100000 (numP bf e 1 99 (bd0 bf e ps)))))) 20 (sgnV bf e 1000000000 (sgnP bf e 1000000000 (sgnP bf e 100000 (sgnP bf e 100000 (numP bf e 1 99 (bd0 bf e ps))))))))))], ⟨rfl, _, _, rfl, (by rw [bd7, bd6, if_pos ⟨hk94, hcl⟩]; exact hr99), (((((((g1.trans gi1).trans gi6).trans gi11).trans gi16).trans gi21).trans gi95).trans gi99), (((((((f1.trans fj1).trans fj6).trans fj11).trans fj16).trans fj21).trans fj95).trans fj99)⟩, by rw [← hV0, ← hF]; exact (h.sub [1, 2, 0] rfl rfl)⟩) dX6_bodyRead_207
        · skip
          refine r_invVr hC kX6 (b 0) [.int 59] (.int 0) mVX6_isByte q2961 (fun _ h => h.get 0 rfl) (xRm_v (metX6_isByte _ _ hG b i21 j21 bf e he (sgnP bf e 1000000000 (sgnP bf e 1000000000 (sgnP bf e 100000 (sgnP bf e 100000 (numP bf e 1 99 (bd0 bf e ps)))))) hr21 59) (show _ = some (Value.int 0) by rw [hk94]; rfl)) (fun _ h => h.in.sub [0, 1] rfl rfl) ⟨rfl, rfl⟩ 0 0 rfl rfl (Nat.le_of_ble_eq_true rfl) (Nat.le_of_ble_eq_true rfl) rfl (Nat.le_of_ble_eq_true rfl) dX6_bodyRead_185 188 rfl ?_
          refine r_ifeq hC 201 dX6_bodyRead_188 (by decide) 191 rfl (fun _ => ?_) (fun h => absurd h (by decide))
          refine r_aload_n hC 2 dX6_bodyRead_201 rfl 202 rfl ?_
          refine r_bipush hC 59 dX6_bodyRead_202 bp_59 204 rfl ?_
          refine r_invVw hC kX6 (b 0) [.int 59] [(b 3, .inl (1, 111, .inr (.inl (va_up (va_up (va_up (va_up (va_up dr 16 (numV bf e 1 99 (bd0 bf e ps))) 17 (sgnV bf e 100000 (numP bf e 1 99 (bd0 bf e ps)))) 18 (sgnV bf e 100000 (sgnP bf e 100000 (numP bf e 1 99 (bd0 bf e ps))))) 19 (sgnV bf e 1000000000 (sgnP bf e 100000 (sgnP bf e 100000 (numP bf e 1 99 (bd0 bf e ps)))))) 20 (sgnV bf e 1000000000 (sgnP bf e 1000000000 (sgnP bf e 100000 (sgnP bf e 100000 (numP bf e 1 99 (bd0 bf e ps))))))))))] mVX6_must q2957 0 rfl (metX6_must _ _ hG b i21 j21 bf e he (sgnP bf e 1000000000 (sgnP bf e 1000000000 (sgnP bf e 100000 (sgnP bf e 100000 (numP bf e 1 99 (bd0 bf e ps)))))) hr21 59) [0, 1] [2] rfl rfl rfl rfl (by decide) ⟨rfl, rfl⟩ 0 0 rfl rfl (Nat.le_of_ble_eq_true rfl) (Nat.le_of_ble_eq_true rfl) rfl (Nat.le_of_ble_eq_true rfl) dX6_bodyRead_204 207 rfl (fun v104 w105 h106 => ?_) (fun _ _ h => h.elim)
          obtain ⟨rfl, i103, j103, rfl, hr103, gi103, fj103⟩ := h106
          show rn C (xSt F V0 [(b 3, .inl (1, 111, .inr (.inl (va_up (va_up (va_up (va_up (va_up dr 16 (numV bf e 1 99 (bd0 bf e ps))) 17 (sgnV bf e 100000 (numP bf e 1 99 (bd0 bf e ps)))) 18 (sgnV bf e 100000 (sgnP bf e 100000 (numP bf e 1 99 (bd0 bf e ps))))) 19 (sgnV bf e 1000000000 (sgnP bf e 100000 (sgnP bf e 100000 (numP bf e 1 99 (bd0 bf e ps)))))) 20 (sgnV bf e 1000000000 (sgnP bf e 1000000000 (sgnP bf e 100000 (sgnP bf e 100000 (numP bf e 1 99 (bd0 bf e ps)))))))))), (b 0, .inr (5, mF b i103 j103)), (b 13, .inl (0, 600, .inl bf))]) 0 0 207 [(3, .int 2), (2, .int 1), (0, .ref (b 0)), (1, .int 2)] []
          exact r_vret hC (Nat.le_of_ble_eq_true rfl) (Nat.le_of_ble_eq_true rfl) (fun V9 h => hQ _ _ ⟨[(b 0, .inr (5, mF b i103 j103)), (b 13, .inl (0, 600, .inl bf)), (b 3, .inl (1, 111, .inr (.inl (va_up (va_up (va_up (va_up (va_up dr 16 (numV bf e 1 99 (bd0 bf e ps))) 17 (sgnV bf e 100000 (numP bf e 1 99 (bd0 bf e ps)))) 18 (sgnV bf e 100000 (sgnP bf e 100000 (numP bf e 1 99 (bd0 bf e ps))))) 19 (sgnV bf e 1000000000 (sgnP bf e 100000 (sgnP bf e 100000 (numP bf e 1 99 (bd0 bf e ps)))))) 20 (sgnV bf e 1000000000 (sgnP bf e 1000000000 (sgnP bf e 100000 (sgnP bf e 100000 (numP bf e 1 99 (bd0 bf e ps))))))))))], ⟨rfl, _, _, rfl, (by rw [bd7, bd6, if_neg (fun h => absurd h.1 (nt hk94))]; exact hr103), ((((((g1.trans gi1).trans gi6).trans gi11).trans gi16).trans gi21).trans gi103), ((((((f1.trans fj1).trans fj6).trans fj11).trans fj16).trans fj21).trans fj103)⟩, by rw [← hV0, ← hF]; exact (h.sub [1, 2, 0] rfl rfl)⟩) dX6_bodyRead_207
  refine r_aload_n hC 0 dX6_bodyRead_0 rfl 1 rfl ?_
  rcases Bool.eq_false_or_eq_true (okP ps) with hk107 | hk107
  · skip
    refine r_invVr hC kX6 (b 0) [] (.int 1) mVX6_isGood q2945 (fun _ h => h.get 0 rfl) (metX6_isGood _ _ hG b i _ 1 (by rw [rd_good hr, hk107]; rfl)) (fun _ h => h.in.sub [0] rfl rfl) ⟨rfl, rfl⟩ 0 0 rfl rfl (Nat.le_of_ble_eq_true rfl) (Nat.le_of_ble_eq_true rfl) rfl (Nat.le_of_ble_eq_true rfl) dX6_bodyRead_1 4 rfl ?_
    refine r_ifeq hC 23 dX6_bodyRead_4 (by decide) 7 rfl (fun h => absurd h (by decide)) (fun _ => ?_)
    refine r_aload_n hC 0 dX6_bodyRead_7 rfl 8 rfl ?_
    refine r_ldc2 hC q2981 dX6_bodyRead_8 11 rfl ?_
    rcases Bool.eq_false_or_eq_true (isW bf e 50434 ps) with hk108 | hk108
    · skip
      refine r_invVw hC kX6 (b 0) [.long 50434] [(b 3, .inl (1, 111, .inr (.inl dr)))] mVX6_passes q2937 0 rfl (metX6_passes1 _ _ hG b i j bf e he ps hr 50434 hk108) [0, 1] [2] rfl rfl rfl rfl (by decide) ⟨rfl, rfl⟩ 0 0 rfl rfl (Nat.le_of_ble_eq_true rfl) (Nat.le_of_ble_eq_true rfl) rfl (Nat.le_of_ble_eq_true rfl) dX6_bodyRead_11 14 rfl (fun v110 w111 h112 => ?_) (fun _ _ h => h.elim)
      obtain ⟨rfl, i109, j109, rfl, hr109, gi109, fj109⟩ := h112
      show rn C (xSt F V0 [(b 3, .inl (1, 111, .inr (.inl dr))), (b 0, .inr (5, mF b i109 j109)), (b 13, .inl (0, 600, .inl bf))]) 0 0 14 [(0, .ref (b 0)), (1, .int 2)] [.int 1]
      refine r_ifne hC 23 dX6_bodyRead_14 (by decide) 17 rfl (fun _ => ?_) (fun h => absurd h (by decide))
      refine rn.mono (J := xSt F V0 [(b 0, .inr (5, mF b i109 j109)), (b 13, .inl (0, 600, .inl bf)), (b 3, .inl (1, 111, .inr (.inl dr)))]) (fun _ h => h.sub [1, 2, 0] rfl rfl) ?_
      refine rn.sub (lv' := [(0, .ref (b 0)), (1, .int 2)]) [0, 1] rfl ?_
      exact KJ _ _ (by rw [bd0, exp_pos hk108]; exact hr109) gi109 fj109
    · skip
      refine r_invVr hC kX6 (b 0) [.long 50434] (.int 0) mVX6_passes q2937 (fun _ h => h.get 0 rfl) (metX6_passes0 _ _ hG b i j bf e he ps hr 50434 hk108) (fun _ h => h.in.sub [0, 1] rfl rfl) ⟨rfl, rfl⟩ 0 0 rfl rfl (Nat.le_of_ble_eq_true rfl) (Nat.le_of_ble_eq_true rfl) rfl (Nat.le_of_ble_eq_true rfl) dX6_bodyRead_11 14 rfl ?_
      refine r_ifne hC 23 dX6_bodyRead_14 (by decide) 17 rfl (fun h => absurd h (by decide)) (fun _ => ?_)
      refine r_aload_n hC 0 dX6_bodyRead_17 rfl 18 rfl ?_
      refine r_iconst hC 1 dX6_bodyRead_18 ic_1 19 rfl ?_
      refine r_invVw hC kX6 (b 0) [.int 1] [(b 13, .inl (0, 600, .inl bf)), (b 3, .inl (1, 111, .inr (.inl dr)))] mVX6_wrongs q2953 0 rfl (metX6_wrongsP _ _ hG b i j bf e he ps hr 1 (by decide)) [0] [1, 2] rfl rfl rfl rfl (by decide) ⟨rfl, rfl⟩ 0 0 rfl rfl (Nat.le_of_ble_eq_true rfl) (Nat.le_of_ble_eq_true rfl) rfl (Nat.le_of_ble_eq_true rfl) dX6_bodyRead_19 22 rfl (fun v114 w115 h116 => ?_) (fun _ _ h => h.elim)
      obtain ⟨rfl, i113, j113, rfl, hr113, gi113, fj113⟩ := h116
      show rn C (xSt F V0 [(b 13, .inl (0, 600, .inl bf)), (b 3, .inl (1, 111, .inr (.inl dr))), (b 0, .inr (5, mF b i113 j113))]) 0 0 22 [(0, .ref (b 0)), (1, .int 2)] [.int 0]
      refine r_pop hC dX6_bodyRead_22 rfl 23 rfl ?_
      refine rn.mono (J := xSt F V0 [(b 0, .inr (5, mF b i113 j113)), (b 13, .inl (0, 600, .inl bf)), (b 3, .inl (1, 111, .inr (.inl dr)))]) (fun _ h => h.sub [2, 0, 1] rfl rfl) ?_
      refine rn.sub (lv' := [(0, .ref (b 0)), (1, .int 2)]) [0, 1] rfl ?_
      exact KJ _ _ (by rw [bd0, exp_neg hk108]; exact hr113) gi113 fj113
  · skip
    refine r_invVr hC kX6 (b 0) [] (.int 0) mVX6_isGood q2945 (fun _ h => h.get 0 rfl) (metX6_isGood _ _ hG b i _ 0 (by rw [rd_good hr, hk107]; rfl)) (fun _ h => h.in.sub [0] rfl rfl) ⟨rfl, rfl⟩ 0 0 rfl rfl (Nat.le_of_ble_eq_true rfl) (Nat.le_of_ble_eq_true rfl) rfl (Nat.le_of_ble_eq_true rfl) dX6_bodyRead_1 4 rfl ?_
    refine r_ifeq hC 23 dX6_bodyRead_4 (by decide) 7 rfl (fun _ => ?_) (fun h => absurd h (by decide))
    refine rn.sub (lv' := [(0, .ref (b 0)), (1, .int 2)]) [0, 1] rfl ?_
    exact KJ _ _ (by rw [bd0, exp_bad hk107]; exact hr) (gI_refl i) (fJ_refl j)
def z0 : Nat → Int64 := fun _ => 0
def told0 : Nat → Int64 := fun k => if k = 0 then 1000 else if k = 1 then 10 else if k = 2 then 1 else if k = 3 then 100 else 1000
set_option maxHeartbeats 4000000 in
set_option maxRecDepth 100000 in
theorem lpX6_clears {C : xC} {F : Nat → Prop} {V0 : xV} {k n : Nat} {rm : Room} (hC : xCtx C RX6 cX6_clears 2 none rm) (b : Nat → Nat) (i : Nat → Int32) (j : Nat → Int64) (dr dt : Nat → Int64) (kx : rn C (xSt F V0 [(b 0, .inr (5, mF b i j)), (b 3, .inl (1, 111, .inr (.inl (va_cpy z0 dr 0 0 111)))), (b 8, .inl (1, 5, .inr (.inl dt)))]) k n 21 [(0, .ref (b 0))] []) : ∀ m c : Nat, c + m = 111 → rn C (xSt F V0 [(b 0, .inr (5, mF b i j)), (b 3, .inl (1, 111, .inr (.inl (va_cpy z0 dr 0 0 c)))), (b 8, .inl (1, 5, .inr (.inl dt)))]) k n 2 [(1, .int (nI c)), (0, .ref (b 0))] [] := by
  intro m
  induction m with
  | zero =>
    intro c hc
    have hc : c = 111 := by omega
    subst hc
    refine r_iload_n hC 0 dX6_clears_2 rfl 3 rfl ?_
    refine r_bipush hC 111 dX6_clears_3 bp_111 5 rfl ?_
    refine r_icge hC 21 dX6_clears_5 (by decide) 8 rfl (fun _ => ?_) (fun h => absurd (Int32.le_refl _) h)
    refine rn.sub (lv' := [(0, .ref (b 0))]) [1] rfl ?_
    exact kx
  | succ m ih =>
    intro c hc
    refine r_iload_n hC 0 dX6_clears_2 rfl 3 rfl ?_
    refine r_bipush hC 111 dX6_clears_3 bp_111 5 rfl ?_
    refine r_icge hC 21 dX6_clears_5 (by decide) 8 rfl (fun h => absurd h (nI_ge (a := c) (b := 111) (by omega) (by decide))) (fun _ => ?_)
    refine r_aload_n hC 1 dX6_clears_8 rfl 9 rfl ?_
    refine r_get (v := .ref (b 3)) hC kX6 3 rfl q2756 (fun _ h => h.get 0 rfl) rfl dX6_clears_9 12 rfl ?_
    refine r_iload_n hC 0 dX6_clears_12 rfl 13 rfl ?_
    refine r_lconst hC 0 dX6_clears_13 lc_0 14 rfl ?_
    refine r_last (J := xSt F V0 [(b 0, .inr (5, mF b i j)), (b 3, .inl (1, 111, .inr (.inl (va_up (va_cpy z0 dr 0 0 c) c 0)))), (b 8, .inl (1, 5, .inr (.inl dt)))]) hC c (xix_n c (by omega) (Nat.le_of_ble_eq_true rfl)) (fun _ h => h.get 1 rfl) dX6_clears_14 (fun _ h => h.set 1 _ rfl) 15 rfl ?_
    refine r_iinc hC (nI (c + 1)) 1 0 [(1, .int (nI (c + 1))), (0, .ref (b 0))] dX6_clears_15 rfl (nI_add c 1) (Nat.le_of_ble_eq_true rfl) rfl 18 rfl ?_
    refine r_goto hC 2 dX6_clears_18 (by decide) ?_
    rw [show va_up (va_cpy z0 dr 0 0 c) c 0 = va_cpy z0 dr 0 0 (c + 1) from cpy_step (by omega) (rfl)]
    refine rn.sub (lv' := [(1, .int (nI (c + 1))), (0, .ref (b 0))]) [0, 1] rfl ?_
    exact ih (c + 1) (by omega)
set_option maxHeartbeats 4000000 in
set_option maxRecDepth 100000 in
theorem metX6_clears (l : Launch) (G : xG) (hG : xGood G) (b : Nat → Nat) (i : Nat → Int32) (j : Nat → Int64) (dr dt : Nat → Int64) : xWm l G yX6_clears (Cond.code yX6_clears cX6_clears 2 none) { frames := 0, locals := 0, cells := 0, slots := 0 } [.ref (b 0)] [(b 0, .inr (5, mF b i j)), (b 3, .inl (1, 111, .inr (.inl dr))), (b 8, .inl (1, 5, .inr (.inl dt)))] (fun v w' => v = none ∧ w' = [(b 0, .inr (5, mF b i j)), (b 3, .inl (1, 111, .inr (.inl z0))), (b 8, .inl (1, 5, .inr (.inl told0)))]) (fun _ _ => False) := by
  intro V hV
  refine xMet_of RX6 hG rfl (by decide) (Nat.le_of_ble_eq_true rfl) fun C hC hQ hX hl hg _ => ?_
  subst hl hg
  obtain ⟨V0, hV0⟩ : ∃ V0, V0 = V := ⟨_, rfl⟩
  obtain ⟨F, hF⟩ : ∃ F, F = xF [(b 0, .inr (5, mF b i j)), (b 3, .inl (1, 111, .inr (.inl dr))), (b 8, .inl (1, 5, .inr (.inl dt)))] := ⟨_, rfl⟩
  refine rn.mono (J := xSt F V0 [(b 0, .inr (5, mF b i j)), (b 3, .inl (1, 111, .inr (.inl dr))), (b 8, .inl (1, 5, .inr (.inl dt)))]) (fun V9 h => by rw [h, hV0, hF]; exact hV.st) ?_
  show rn C (xSt F V0 [(b 0, .inr (5, mF b i j)), (b 3, .inl (1, 111, .inr (.inl dr))), (b 8, .inl (1, 5, .inr (.inl dt)))]) 0 0 0 [(0, .ref (b 0))] []
  refine r_iconst hC 0 dX6_clears_0 ic_0 1 rfl ?_
  refine r_istore_n hC 1 [(1, .int 0), (0, .ref (b 0))] dX6_clears_1 rfl (Nat.le_of_ble_eq_true rfl) rfl 2 rfl ?_
  refine rn.sub (lv' := [(1, .int 0), (0, .ref (b 0))]) [0, 1] rfl ?_
  refine rn.mono (J := xSt F V0 [(b 0, .inr (5, mF b i j)), (b 3, .inl (1, 111, .inr (.inl (va_cpy z0 dr 0 0 0)))), (b 8, .inl (1, 5, .inr (.inl dt)))]) (fun _ h => by rw [cpy_0]; exact h) ?_
  refine lpX6_clears hC b i j dr dt ?_ 111 0 rfl
  refine rn_cellJ (J := xSt F V0 [(b 0, .inr (5, mF b i j)), (b 3, .inl (1, 111, .inr (.inl z0))), (b 8, .inl (1, 5, .inr (.inl dt)))]) (fun _ h => h.get 1 rfl) (fun j hj => cpy_in (by omega) (by omega)) (fun _ h => h.set 1 _ rfl) ?_
  refine r_aload_n hC 0 dX6_clears_21 rfl 22 rfl ?_
  refine r_get (v := .ref (b 8)) hC kX6 8 rfl q2761 (fun _ h => h.get 0 rfl) rfl dX6_clears_22 25 rfl ?_
  refine r_iconst hC 0 dX6_clears_25 ic_0 26 rfl ?_
  refine r_ldc2 hC q2708 dX6_clears_26 29 rfl ?_
  refine r_last (J := xSt F V0 [(b 0, .inr (5, mF b i j)), (b 3, .inl (1, 111, .inr (.inl z0))), (b 8, .inl (1, 5, .inr (.inl (va_up dt 0 1000))))]) hC 0 (xix_n 0 (Nat.le_of_ble_eq_true rfl) (Nat.le_of_ble_eq_true rfl)) (fun _ h => h.get 2 rfl) dX6_clears_29 (fun _ h => h.set 2 _ rfl) 30 rfl ?_
  generalize hu1 : va_up dt 0 1000 = u1
  refine r_aload_n hC 0 dX6_clears_30 rfl 31 rfl ?_
  refine r_get (v := .ref (b 8)) hC kX6 8 rfl q2761 (fun _ h => h.get 0 rfl) rfl dX6_clears_31 34 rfl ?_
  refine r_iconst hC 1 dX6_clears_34 ic_1 35 rfl ?_
  refine r_ldc2 hC q2709 dX6_clears_35 38 rfl ?_
  refine r_last (J := xSt F V0 [(b 0, .inr (5, mF b i j)), (b 3, .inl (1, 111, .inr (.inl z0))), (b 8, .inl (1, 5, .inr (.inl (va_up u1 1 10))))]) hC 1 (xix_n 1 (Nat.le_of_ble_eq_true rfl) (Nat.le_of_ble_eq_true rfl)) (fun _ h => h.get 2 rfl) dX6_clears_38 (fun _ h => h.set 2 _ rfl) 39 rfl ?_
  generalize hu2 : va_up u1 1 10 = u2
  refine r_aload_n hC 0 dX6_clears_39 rfl 40 rfl ?_
  refine r_get (v := .ref (b 8)) hC kX6 8 rfl q2761 (fun _ h => h.get 0 rfl) rfl dX6_clears_40 43 rfl ?_
  refine r_iconst hC 2 dX6_clears_43 ic_2 44 rfl ?_
  refine r_lconst hC 1 dX6_clears_44 lc_1 45 rfl ?_
  refine r_last (J := xSt F V0 [(b 0, .inr (5, mF b i j)), (b 3, .inl (1, 111, .inr (.inl z0))), (b 8, .inl (1, 5, .inr (.inl (va_up u2 2 1))))]) hC 2 (xix_n 2 (Nat.le_of_ble_eq_true rfl) (Nat.le_of_ble_eq_true rfl)) (fun _ h => h.get 2 rfl) dX6_clears_45 (fun _ h => h.set 2 _ rfl) 46 rfl ?_
  generalize hu3 : va_up u2 2 1 = u3
  refine r_aload_n hC 0 dX6_clears_46 rfl 47 rfl ?_
  refine r_get (v := .ref (b 8)) hC kX6 8 rfl q2761 (fun _ h => h.get 0 rfl) rfl dX6_clears_47 50 rfl ?_
  refine r_iconst hC 3 dX6_clears_50 ic_3 51 rfl ?_
  refine r_ldc2 hC q2710 dX6_clears_51 54 rfl ?_
  refine r_last (J := xSt F V0 [(b 0, .inr (5, mF b i j)), (b 3, .inl (1, 111, .inr (.inl z0))), (b 8, .inl (1, 5, .inr (.inl (va_up u3 3 100))))]) hC 3 (xix_n 3 (Nat.le_of_ble_eq_true rfl) (Nat.le_of_ble_eq_true rfl)) (fun _ h => h.get 2 rfl) dX6_clears_54 (fun _ h => h.set 2 _ rfl) 55 rfl ?_
  generalize hu4 : va_up u3 3 100 = u4
  refine r_aload_n hC 0 dX6_clears_55 rfl 56 rfl ?_
  refine r_get (v := .ref (b 8)) hC kX6 8 rfl q2761 (fun _ h => h.get 0 rfl) rfl dX6_clears_56 59 rfl ?_
  refine r_iconst hC 4 dX6_clears_59 ic_4 60 rfl ?_
  refine r_ldc2 hC q2708 dX6_clears_60 63 rfl ?_
  refine r_last (J := xSt F V0 [(b 0, .inr (5, mF b i j)), (b 3, .inl (1, 111, .inr (.inl z0))), (b 8, .inl (1, 5, .inr (.inl (va_up u4 4 1000))))]) hC 4 (xix_n 4 (Nat.le_of_ble_eq_true rfl) (Nat.le_of_ble_eq_true rfl)) (fun _ h => h.get 2 rfl) dX6_clears_63 (fun _ h => h.set 2 _ rfl) 64 rfl ?_
  generalize hu5 : va_up u4 4 1000 = u5
  subst hu5
  subst hu4
  subst hu3
  subst hu2
  subst hu1
  refine rn_cellJ (J := xSt F V0 [(b 0, .inr (5, mF b i j)), (b 3, .inl (1, 111, .inr (.inl z0))), (b 8, .inl (1, 5, .inr (.inl told0)))]) (fun _ h => h.get 2 rfl) (fun j hj => ?_) (fun _ h => h.set 2 _ rfl) ?_
  · rcases (show j = 0 ∨ j = 1 ∨ j = 2 ∨ j = 3 ∨ j = 4 by omega) with rfl | rfl | rfl | rfl | rfl <;> rfl
  exact r_vret hC (Nat.le_of_ble_eq_true rfl) (Nat.le_of_ble_eq_true rfl) (fun V9 h => hQ _ _ ⟨[(b 0, .inr (5, mF b i j)), (b 3, .inl (1, 111, .inr (.inl z0))), (b 8, .inl (1, 5, .inr (.inl told0)))], ⟨rfl, rfl⟩, by rw [← hV0, ← hF]; exact h⟩) dX6_clears_64
set_option maxHeartbeats 4000000 in
set_option maxRecDepth 100000 in
theorem lpX6_becomes {C : xC} {F : Nat → Prop} {V0 : xV} {k n : Nat} {rm : Room} (hC : xCtx C RX6 cX6_becomes 2 none rm) (b : Nat → Nat) (i : Nat → Int32) (j : Nat → Int64) (dr dt r t : Nat → Int64) (kx : rn C (xSt F V0 [(b 0, .inr (5, mF b i j)), (b 3, .inl (1, 111, .inr (.inl dr))), (b 8, .inl (1, 5, .inr (.inl dt))), (b 1, .inl (1, 111, .inr (.inl r))), (b 7, .inl (1, 5, .inr (.inl (va_cpy dt t 0 0 5))))]) k n 25 [(0, .ref (b 0))] []) : ∀ m c : Nat, c + m = 5 → rn C (xSt F V0 [(b 0, .inr (5, mF b i j)), (b 3, .inl (1, 111, .inr (.inl dr))), (b 8, .inl (1, 5, .inr (.inl dt))), (b 1, .inl (1, 111, .inr (.inl r))), (b 7, .inl (1, 5, .inr (.inl (va_cpy dt t 0 0 c))))]) k n 2 [(1, .int (nI c)), (0, .ref (b 0))] [] := by
  intro m
  induction m with
  | zero =>
    intro c hc
    have hc : c = 5 := by omega
    subst hc
    refine r_iload_n hC 0 dX6_becomes_2 rfl 3 rfl ?_
    refine r_iconst hC 5 dX6_becomes_3 ic_5 4 rfl ?_
    refine r_icge hC 25 dX6_becomes_4 (by decide) 7 rfl (fun _ => ?_) (fun h => absurd (Int32.le_refl _) h)
    refine rn.sub (lv' := [(0, .ref (b 0))]) [1] rfl ?_
    exact kx
  | succ m ih =>
    intro c hc
    refine r_iload_n hC 0 dX6_becomes_2 rfl 3 rfl ?_
    refine r_iconst hC 5 dX6_becomes_3 ic_5 4 rfl ?_
    refine r_icge hC 25 dX6_becomes_4 (by decide) 7 rfl (fun h => absurd h (nI_ge (a := c) (b := 5) (by omega) (by decide))) (fun _ => ?_)
    refine r_aload_n hC 1 dX6_becomes_7 rfl 8 rfl ?_
    refine r_get (v := .ref (b 7)) hC kX6 7 rfl q2760 (fun _ h => h.get 0 rfl) rfl dX6_becomes_8 11 rfl ?_
    refine r_iload_n hC 0 dX6_becomes_11 rfl 12 rfl ?_
    refine r_aload_n hC 1 dX6_becomes_12 rfl 13 rfl ?_
    refine r_get (v := .ref (b 8)) hC kX6 8 rfl q2761 (fun _ h => h.get 0 rfl) rfl dX6_becomes_13 16 rfl ?_
    refine r_iload_n hC 0 dX6_becomes_16 rfl 17 rfl ?_
    refine r_lald hC c (xix_n c (by omega) (Nat.le_of_ble_eq_true rfl)) (fun _ h => h.get 2 rfl) (dt c) (rfl) dX6_becomes_17 18 rfl ?_
    refine r_last (J := xSt F V0 [(b 0, .inr (5, mF b i j)), (b 3, .inl (1, 111, .inr (.inl dr))), (b 8, .inl (1, 5, .inr (.inl dt))), (b 1, .inl (1, 111, .inr (.inl r))), (b 7, .inl (1, 5, .inr (.inl (va_up (va_cpy dt t 0 0 c) c (dt c)))))]) hC c (xix_n c (by omega) (Nat.le_of_ble_eq_true rfl)) (fun _ h => h.get 4 rfl) dX6_becomes_18 (fun _ h => h.set 4 _ rfl) 19 rfl ?_
    refine r_iinc hC (nI (c + 1)) 1 0 [(1, .int (nI (c + 1))), (0, .ref (b 0))] dX6_becomes_19 rfl (nI_add c 1) (Nat.le_of_ble_eq_true rfl) rfl 22 rfl ?_
    refine r_goto hC 2 dX6_becomes_22 (by decide) ?_
    rw [show va_up (va_cpy dt t 0 0 c) c (dt c) = va_cpy dt t 0 0 (c + 1) from cpy_step (by omega) (by rw [Nat.zero_add])]
    refine rn.sub (lv' := [(1, .int (nI (c + 1))), (0, .ref (b 0))]) [0, 1] rfl ?_
    exact ih (c + 1) (by omega)
def begR (t r : Nat → Int64) : Nat → Int64 := va_up (va_up r 3 (enQ t r)) 4 (enQ t r)
set_option maxHeartbeats 4000000 in
set_option maxRecDepth 100000 in
theorem metX6_becomes (l : Launch) (G : xG) (hG : xGood G) (b : Nat → Nat) (i : Nat → Int32) (j : Nat → Int64) (dr dt r t : Nat → Int64) (ht : tOK dt) (hm : mOK dr) : xWm l G yX6_becomes (Cond.code yX6_becomes cX6_becomes 2 none) { frames := 6, locals := 140, cells := 0, slots := 0 } [.ref (b 0)] [(b 0, .inr (5, mF b i j)), (b 3, .inl (1, 111, .inr (.inl dr))), (b 8, .inl (1, 5, .inr (.inl dt))), (b 1, .inl (1, 111, .inr (.inl r))), (b 7, .inl (1, 5, .inr (.inl t)))] (fun v w' => v = none ∧ w' = [(b 0, .inr (5, mF b (va_up (va_up (va_up i 10 0) 9 0) 11 0) j)), (b 3, .inl (1, 111, .inr (.inl dr))), (b 8, .inl (1, 5, .inr (.inl dt))), (b 1, .inl (1, 111, .inr (.inl (begR dt dr)))), (b 7, .inl (1, 5, .inr (.inl dt)))]) (fun _ _ => False) := by
  intro V hV
  refine xMet_of RX6 hG rfl (by decide) (Nat.le_of_ble_eq_true rfl) fun C hC hQ hX hl hg _ => ?_
  subst hl hg
  obtain ⟨V0, hV0⟩ : ∃ V0, V0 = V := ⟨_, rfl⟩
  obtain ⟨F, hF⟩ : ∃ F, F = xF [(b 0, .inr (5, mF b i j)), (b 3, .inl (1, 111, .inr (.inl dr))), (b 8, .inl (1, 5, .inr (.inl dt))), (b 1, .inl (1, 111, .inr (.inl r))), (b 7, .inl (1, 5, .inr (.inl t)))] := ⟨_, rfl⟩
  refine rn.mono (J := xSt F V0 [(b 0, .inr (5, mF b i j)), (b 3, .inl (1, 111, .inr (.inl dr))), (b 8, .inl (1, 5, .inr (.inl dt))), (b 1, .inl (1, 111, .inr (.inl r))), (b 7, .inl (1, 5, .inr (.inl t)))]) (fun V9 h => by rw [h, hV0, hF]; exact hV.st) ?_
  show rn C (xSt F V0 [(b 0, .inr (5, mF b i j)), (b 3, .inl (1, 111, .inr (.inl dr))), (b 8, .inl (1, 5, .inr (.inl dt))), (b 1, .inl (1, 111, .inr (.inl r))), (b 7, .inl (1, 5, .inr (.inl t)))]) 0 0 0 [(0, .ref (b 0))] []
  refine r_iconst hC 0 dX6_becomes_0 ic_0 1 rfl ?_
  refine r_istore_n hC 1 [(1, .int 0), (0, .ref (b 0))] dX6_becomes_1 rfl (Nat.le_of_ble_eq_true rfl) rfl 2 rfl ?_
  refine rn.sub (lv' := [(1, .int 0), (0, .ref (b 0))]) [0, 1] rfl ?_
  refine rn.mono (J := xSt F V0 [(b 0, .inr (5, mF b i j)), (b 3, .inl (1, 111, .inr (.inl dr))), (b 8, .inl (1, 5, .inr (.inl dt))), (b 1, .inl (1, 111, .inr (.inl r))), (b 7, .inl (1, 5, .inr (.inl (va_cpy dt t 0 0 0))))]) (fun _ h => by rw [cpy_0]; exact h) ?_
  refine lpX6_becomes hC b i j dr dt r t ?_ 5 0 rfl
  refine rn_cellJ (J := xSt F V0 [(b 0, .inr (5, mF b i j)), (b 3, .inl (1, 111, .inr (.inl dr))), (b 8, .inl (1, 5, .inr (.inl dt))), (b 1, .inl (1, 111, .inr (.inl r))), (b 7, .inl (1, 5, .inr (.inl dt)))]) (fun _ h => h.get 4 rfl) (fun j hj => (cpy_in (by omega) (by omega)).trans (by congr 1; omega)) (fun _ h => h.set 4 _ rfl) ?_
  refine r_aload_n hC 0 dX6_becomes_25 rfl 26 rfl ?_
  refine r_get (v := .ref (b 3)) hC kX6 3 rfl q2756 (fun _ h => h.get 0 rfl) rfl dX6_becomes_26 29 rfl ?_
  refine r_aload_n hC 0 dX6_becomes_29 rfl 30 rfl ?_
  refine r_get (v := .ref (b 1)) hC kX6 1 rfl q2754 (fun _ h => h.get 0 rfl) rfl dX6_becomes_30 33 rfl ?_
  refine r_invSw hC [.ref (b 3), .ref (b 1)] [(b 0, .inr (5, mF b i j)), (b 8, .inl (1, 5, .inr (.inl dt))), (b 7, .inl (1, 5, .inr (.inl dt)))] mSX6_copy q2718 (metX6_copy _ _ hG (b 3) (b 1) _ _) [1, 3] [0, 2, 4] rfl rfl rfl rfl (by decide) ⟨rfl, rfl⟩ 0 0 rfl rfl (Nat.le_of_ble_eq_true rfl) (Nat.le_of_ble_eq_true rfl) rfl (Nat.le_of_ble_eq_true rfl) dX6_becomes_33 36 rfl (fun v1 w2 h3 => ?_) (fun _ _ h => h.elim)
  obtain ⟨rfl, rfl⟩ := h3
  show rn C (xSt F V0 [(b 0, .inr (5, mF b i j)), (b 8, .inl (1, 5, .inr (.inl dt))), (b 7, .inl (1, 5, .inr (.inl dt))), (b 3, .inl (1, 111, .inr (.inl dr))), (b 1, .inl (1, 111, .inr (.inl dr)))]) 0 0 36 [(0, .ref (b 0))] []
  refine r_aload_n hC 0 dX6_becomes_36 rfl 37 rfl ?_
  refine r_get (v := .ref (b 1)) hC kX6 1 rfl q2754 (fun _ h => h.get 0 rfl) rfl dX6_becomes_37 40 rfl ?_
  refine r_iconst hC 3 dX6_becomes_40 ic_3 41 rfl ?_
  refine r_aload_n hC 0 dX6_becomes_41 rfl 42 rfl ?_
  refine r_aload_n hC 0 dX6_becomes_42 rfl 43 rfl ?_
  refine r_get (v := .ref (b 1)) hC kX6 1 rfl q2754 (fun _ h => h.get 0 rfl) rfl dX6_becomes_43 46 rfl ?_
  refine r_invVr hC kX6 (b 0) [.ref (b 1)] (.long (enQ dt dr)) mVX6_energy q2721 (fun _ h => h.get 0 rfl) (metX6_energy _ _ hG b _ _ _ (b 1) _   (rowOK_of ht hm)) (fun _ h => h.in.sub [0, 2, 4] rfl rfl) ⟨rfl, rfl⟩ 0 0 rfl rfl (Nat.le_of_ble_eq_true rfl) (Nat.le_of_ble_eq_true rfl) rfl (Nat.le_of_ble_eq_true rfl) dX6_becomes_46 49 rfl ?_
  refine r_last (J := xSt F V0 [(b 0, .inr (5, mF b i j)), (b 8, .inl (1, 5, .inr (.inl dt))), (b 7, .inl (1, 5, .inr (.inl dt))), (b 3, .inl (1, 111, .inr (.inl dr))), (b 1, .inl (1, 111, .inr (.inl (va_up dr 3 (enQ dt dr)))))]) hC 3 (xix_n 3 (Nat.le_of_ble_eq_true rfl) (Nat.le_of_ble_eq_true rfl)) (fun _ h => h.get 4 rfl) dX6_becomes_49 (fun _ h => h.set 4 _ rfl) 50 rfl ?_
  generalize hu4 : va_up dr 3 (enQ dt dr) = u4
  refine r_aload_n hC 0 dX6_becomes_50 rfl 51 rfl ?_
  refine r_get (v := .ref (b 1)) hC kX6 1 rfl q2754 (fun _ h => h.get 0 rfl) rfl dX6_becomes_51 54 rfl ?_
  refine r_iconst hC 4 dX6_becomes_54 ic_4 55 rfl ?_
  refine r_aload_n hC 0 dX6_becomes_55 rfl 56 rfl ?_
  refine r_get (v := .ref (b 1)) hC kX6 1 rfl q2754 (fun _ h => h.get 0 rfl) rfl dX6_becomes_56 59 rfl ?_
  refine r_iconst hC 3 dX6_becomes_59 ic_3 60 rfl ?_
  refine r_lald hC 3 (xix_n 3 (Nat.le_of_ble_eq_true rfl) (Nat.le_of_ble_eq_true rfl)) (fun _ h => h.get 4 rfl) (enQ dt dr) (by rw [← hu4]; rfl) dX6_becomes_60 61 rfl ?_
  refine r_last (J := xSt F V0 [(b 0, .inr (5, mF b i j)), (b 8, .inl (1, 5, .inr (.inl dt))), (b 7, .inl (1, 5, .inr (.inl dt))), (b 3, .inl (1, 111, .inr (.inl dr))), (b 1, .inl (1, 111, .inr (.inl (va_up u4 4 (enQ dt dr)))))]) hC 4 (xix_n 4 (Nat.le_of_ble_eq_true rfl) (Nat.le_of_ble_eq_true rfl)) (fun _ h => h.get 4 rfl) dX6_becomes_61 (fun _ h => h.set 4 _ rfl) 62 rfl ?_
  generalize hu5 : va_up u4 4 (enQ dt dr) = u5
  refine r_aload_n hC 0 dX6_becomes_62 rfl 63 rfl ?_
  refine r_iconst hC 0 dX6_becomes_63 ic_0 64 rfl ?_
  refine r_put (J := xSt F V0 [(b 0, .inr (5, mF b (va_up i 10 0) j)), (b 8, .inl (1, 5, .inr (.inl dt))), (b 7, .inl (1, 5, .inr (.inl dt))), (b 3, .inl (1, 111, .inr (.inl dr))), (b 1, .inl (1, 111, .inr (.inl u5)))]) hC kX6 10 rfl q2763 rfl (fun _ h => h.get 0 rfl) (Nat.le_of_ble_eq_true rfl) rfl rfl dX6_becomes_64 (fun _ h => h.set 0 _ rfl) 67 rfl ?_
  refine r_aload_n hC 0 dX6_becomes_67 rfl 68 rfl ?_
  refine r_iconst hC 0 dX6_becomes_68 ic_0 69 rfl ?_
  refine r_put (J := xSt F V0 [(b 0, .inr (5, mF b (va_up (va_up i 10 0) 9 0) j)), (b 8, .inl (1, 5, .inr (.inl dt))), (b 7, .inl (1, 5, .inr (.inl dt))), (b 3, .inl (1, 111, .inr (.inl dr))), (b 1, .inl (1, 111, .inr (.inl u5)))]) hC kX6 9 rfl q2762 rfl (fun _ h => h.get 0 rfl) (Nat.le_of_ble_eq_true rfl) rfl rfl dX6_becomes_69 (fun _ h => h.set 0 _ rfl) 72 rfl ?_
  refine r_aload_n hC 0 dX6_becomes_72 rfl 73 rfl ?_
  refine r_iconst hC 0 dX6_becomes_73 ic_0 74 rfl ?_
  refine r_put (J := xSt F V0 [(b 0, .inr (5, mF b (va_up (va_up (va_up i 10 0) 9 0) 11 0) j)), (b 8, .inl (1, 5, .inr (.inl dt))), (b 7, .inl (1, 5, .inr (.inl dt))), (b 3, .inl (1, 111, .inr (.inl dr))), (b 1, .inl (1, 111, .inr (.inl u5)))]) hC kX6 11 rfl q2764 rfl (fun _ h => h.get 0 rfl) (Nat.le_of_ble_eq_true rfl) rfl rfl dX6_becomes_74 (fun _ h => h.set 0 _ rfl) 77 rfl ?_
  subst hu5
  subst hu4
  exact r_vret hC (Nat.le_of_ble_eq_true rfl) (Nat.le_of_ble_eq_true rfl) (fun V9 h => hQ _ _ ⟨[(b 0, .inr (5, mF b (va_up (va_up (va_up i 10 0) 9 0) 11 0) j)), (b 3, .inl (1, 111, .inr (.inl dr))), (b 8, .inl (1, 5, .inr (.inl dt))), (b 1, .inl (1, 111, .inr (.inl (va_up (va_up dr 3 (enQ dt dr)) 4 (enQ dt dr))))), (b 7, .inl (1, 5, .inr (.inl dt)))], ⟨rfl, rfl⟩, by rw [← hV0, ← hF]; exact (h.sub [0, 3, 1, 4, 2] rfl rfl)⟩) dX6_becomes_77
theorem numV_in {bf : Nat → Int32} {e : Nat} {lo hi : Int64} {ps : PS} (h : lo.toInt ≤ hi.toInt) : lo.toInt ≤ (numV bf e lo hi ps).toInt ∧ (numV bf e lo hi ps).toInt ≤ hi.toInt := by
  cases ps with
  | ok g =>
    show lo.toInt ≤ (if numG bf e lo hi g = true then tVal bf e g else lo).toInt ∧ (if numG bf e lo hi g = true then tVal bf e g else lo).toInt ≤ hi.toInt
    split
    · rename_i hg
      rw [numG, Bool.and_eq_true] at hg
      exact in_iff.mp hg.2
    · exact ⟨Int.le_refl _, h⟩
  | error x => exact ⟨Int.le_refl _, h⟩
theorem tOK_up0 {t : Nat → Int64} {v : Int64} (ht : tOK t) (h : 0 ≤ v.toInt ∧ v.toInt ≤ 1000000000) : tOK (va_up t 0 v) := ⟨h, ht.2.1, ht.2.2.1, ht.2.2.2.1, ht.2.2.2.2⟩
theorem tOK_up1 {t : Nat → Int64} {v : Int64} (ht : tOK t) (h : 1 ≤ v.toInt ∧ v.toInt ≤ 1000) : tOK (va_up t 1 v) := ⟨ht.1, h, ht.2.2.1, ht.2.2.2.1, ht.2.2.2.2⟩
theorem tOK_up2 {t : Nat → Int64} {v : Int64} (ht : tOK t) (h : 1 ≤ v.toInt ∧ v.toInt ≤ 100) : tOK (va_up t 2 v) := ⟨ht.1, ht.2.1, h, ht.2.2.2.1, ht.2.2.2.2⟩
theorem tOK_up3 {t : Nat → Int64} {v : Int64} (ht : tOK t) (h : 0 ≤ v.toInt ∧ v.toInt ≤ 300000) : tOK (va_up t 3 v) := ⟨ht.1, ht.2.1, ht.2.2.1, h, ht.2.2.2.2⟩
theorem tOK_up4 {t : Nat → Int64} {v : Int64} (ht : tOK t) (h : 1 ≤ v.toInt ∧ v.toInt ≤ 1000000000) : tOK (va_up t 4 v) := ⟨ht.1, ht.2.1, ht.2.2.1, ht.2.2.2.1, h⟩
theorem tOK_0 : tOK told0 := by unfold tOK told0; decide
theorem tOK_set1 {bf : Nat → Int32} {e : Nat} {ps : PS} {dt dr : Nat → Int64} {x : PS × (Nat → Int64) × (Nat → Int64)} (ht : tOK dt) (h : set1 bf e ps dt dr = some x) : tOK x.2.1 := by
  unfold set1 at h
  repeat' (first | (split at h) | (injection h with h; subst h))
  all_goals first
    | exact absurd h (by simp)
    | exact tOK_up0 ht (numV_in (lo := 0) (hi := 1000000000) (by decide))
    | exact tOK_up1 ht (numV_in (lo := 1) (hi := 1000) (by decide))
    | exact tOK_up2 ht (numV_in (lo := 1) (hi := 100) (by decide))
    | exact tOK_up3 ht (numV_in (lo := 0) (hi := 300000) (by decide))
    | exact tOK_up4 ht (numV_in (lo := 1) (hi := 1000000000) (by decide))
    | exact ht
theorem tOK_setL {bf : Nat → Int32} {e : Nat} : ∀ {f : Nat} {ps : PS} {dt dr : Nat → Int64}, tOK dt → tOK (setL bf e f ps dt dr).2.1 := by
  intro f
  induction f with
  | zero => intro ps dt dr h; exact h
  | succ f ih =>
    intro ps dt dr h
    rw [setL]
    cases hs : set1 bf e ps dt dr with
    | none => exact h
    | some x => exact ih (tOK_set1 h hs)
theorem mOK_b3 {bf : Nat → Int32} {e : Nat} {p0 p1 p2 : PS} {dr : Nat → Int64} : mOK (bdR bf e 2 p2 (bdR bf e 1 p1 (bdR bf e 0 p0 dr))) :=
  ⟨numV_in (lo := 1) (hi := 99) (by decide), numV_in (lo := 1) (hi := 99) (by decide), numV_in (lo := 1) (hi := 99) (by decide)⟩
/-- what is read: the state behind the settings, the bodies, the end; the row, the settings -/
def ldS (bf : Nat → Int32) (e : Nat) : PS × (Nat → Int64) × (Nat → Int64) := setL bf e (e + 1) (.ok (tBeg bf e 0)) told0 z0
def ldB1 (bf : Nat → Int32) (e : Nat) : PS := bd7 bf e 0 (ldS bf e).1 (ldS bf e).2.2
def ldR1 (bf : Nat → Int32) (e : Nat) : Nat → Int64 := bdR bf e 0 (ldS bf e).1 (ldS bf e).2.2
def ldB2 (bf : Nat → Int32) (e : Nat) : PS := bd7 bf e 1 (ldB1 bf e) (ldR1 bf e)
def ldR2 (bf : Nat → Int32) (e : Nat) : Nat → Int64 := bdR bf e 1 (ldB1 bf e) (ldR1 bf e)
def ldB3 (bf : Nat → Int32) (e : Nat) : PS := bd7 bf e 2 (ldB2 bf e) (ldR2 bf e)
def ldR (bf : Nat → Int32) (e : Nat) : Nat → Int64 := bdR bf e 2 (ldB2 bf e) (ldR2 bf e)
def ldP (bf : Nat → Int32) (e : Nat) : PS := endP bf e (ldB3 bf e)
theorem mu_0 {bf : Nat → Int32} {e : Nat} : muP e (.ok (tBeg bf e 0)) ≤ e + 1 := by show e - _ + 1 ≤ e + 1; omega
theorem isK_f {bf : Nat → Int32} {e : Nat} {c : Int32} {ps : PS} (h : okP ps = false) : isK bf e c ps = false := by
  cases ps with
  | ok g => exact absurd h (by simp [okP])
  | error x => rfl
theorem rd_kind {bf : Nat → Int32} {e : Nat} {i : Nat → Int32} {j : Nat → Int64} {ps : PS} (h : rdP bf e i j ps) (ho : okP ps = true) : i 18 = 0 ↔ isK bf e 0 ps = true := by
  obtain ⟨g, rfl, ht, -⟩ := rd_ok h ho
  rw [ht.2.2.2.2.1]
  simp [isK]
