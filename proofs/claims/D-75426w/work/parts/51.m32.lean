/-! ===== the reference: virial, meanDistance ===== -/
set_option maxRecDepth 100000
theorem r_ldcwf {C : xC} {I : xV → Prop} {k n pc : Nat} {lv : List (Nat × Value)} {st : List Value} {own : String} {cc : ByteArray} {nL0 : Nat} {ret : Option FieldType} {rm : Room} (hC : xCtx C own cc nL0 ret rm) {ix : Nat} {v : UInt32} (hq : Cond.constantFloat own ix v ∈ lw_all) (hd : decode cc pc = .ok (.ldc_w ix, 3)) (pc1 : Nat) (hp : pc + 3 = pc1) (kk : rn C I k n pc1 lv (.float v :: st)) : rn C I k n pc lv st := by
  subst hp
  obtain ⟨p, l, e, R, s, m, args, below, meth, c, G, nL, Q, X⟩ := C
  obtain ⟨hx, hb, hml, hnL, hown, hts, -⟩ := hC
  intro V H locs ls hI hR hL hl T hT X0
  obtain ⟨t, a, b⟩ := kk V H locs ls hI hR hL hl T hT X0
  refine ⟨t, ?_, b⟩
  obtain ⟨kc, cf, hk, hcf, hcp⟩ := Cond.constantFloat_spec hown (hts _ hq)
  obtain ⟨k', hk', he⟩ := X0.warmed.alike.2.2 _ _ hk
  jvm_step X0.here [X0.here.top, hx, hb, hd, Jvm.Op.ldc_w.wp_float (s := T) (f := F0 m pc ls st) X0.here.top hk' (by rw [he]; exact hcf) hcp]
  exact a
def virQ (t r : Nat → Int64) : UInt64 := if potQ t r = 0 then 0 else FP.ddiv (FP.l2d (kinQ r)) (FP.l2d (-potQ t r))
def meanS (r : Nat → Int64) : Int64 := lN (distQ r 0 + distQ r 1 + distQ r 2)
def meanQ (r : Nat → Int64) : UInt32 := FP.fdiv (FP.l2f (meanS r)) 1077936128
theorem neg_n0 {x : Int64} (h : ¬ x = 0) : ¬ -x = 0 := fun e => h (by have := congrArg (fun y => -y) e; simpa using this)
set_option maxHeartbeats 4000000 in
set_option maxRecDepth 100000 in
theorem metX6_virial (l : Launch) (G : xG) (hG : xGood G) (b : Nat → Nat) (i : Nat → Int32) (j : Nat → Int64) (t r : Nat → Int64) (ht : tOK t) (hm : mOK r) : xWm l G yX6_virial (Cond.code yX6_virial cX6_virial 3 (some .double)) { frames := 5, locals := 119, cells := 0, slots := 0 } [.ref (b 0)] [(b 0, .inr (5, mF b i j)), (b 7, .inl (1, 5, .inr (.inl t))), (b 1, .inl (1, 111, .inr (.inl r)))] (fun v w' => v = some (.double (virQ t r)) ∧ w' = [(b 0, .inr (5, mF b (va_up i 0 0) j)), (b 7, .inl (1, 5, .inr (.inl t))), (b 1, .inl (1, 111, .inr (.inl r)))]) (fun _ _ => False) := by
  intro V hV
  refine xMet_of RX6 hG rfl (by decide) (Nat.le_of_ble_eq_true rfl) fun C hC hQ hX hl hg _ => ?_
  subst hl hg
  obtain ⟨V0, hV0⟩ : ∃ V0, V0 = V := ⟨_, rfl⟩
  obtain ⟨F, hF⟩ : ∃ F, F = xF [(b 0, .inr (5, mF b i j)), (b 7, .inl (1, 5, .inr (.inl t))), (b 1, .inl (1, 111, .inr (.inl r)))] := ⟨_, rfl⟩
  refine rn.mono (J := xSt F V0 [(b 0, .inr (5, mF b i j)), (b 7, .inl (1, 5, .inr (.inl t))), (b 1, .inl (1, 111, .inr (.inl r)))]) (fun V9 h => by rw [h, hV0, hF]; exact hV.st) ?_
  show rn C (xSt F V0 [(b 0, .inr (5, mF b i j)), (b 7, .inl (1, 5, .inr (.inl t))), (b 1, .inl (1, 111, .inr (.inl r)))]) 0 0 0 [(0, .ref (b 0))] []
  refine r_aload_n hC 0 dX6_virial_0 rfl 1 rfl ?_
  refine r_iconst hC 0 dX6_virial_1 ic_0 2 rfl ?_
  refine r_put (J := xSt F V0 [(b 0, .inr (5, mF b (va_up i 0 0) j)), (b 7, .inl (1, 5, .inr (.inl t))), (b 1, .inl (1, 111, .inr (.inl r)))]) hC kX6 0 rfl q2753 rfl (fun _ h => h.get 0 rfl) (Nat.le_of_ble_eq_true rfl) rfl rfl dX6_virial_2 (fun _ h => h.set 0 _ rfl) 5 rfl ?_
  refine r_aload_n hC 0 dX6_virial_5 rfl 6 rfl ?_
  refine r_aload_n hC 0 dX6_virial_6 rfl 7 rfl ?_
  refine r_get (v := .ref (b 1)) hC kX6 1 rfl q2754 (fun _ h => h.get 0 rfl) rfl dX6_virial_7 10 rfl ?_
  refine r_invVr hC kX6 (b 0) [.ref (b 1)] (.long (potQ t r)) mVX6_potentialOf q2729 (fun _ h => h.get 0 rfl) (metX6_potentialOf _ _ hG b _ _ _ (b 1) _   (rowOK_of ht hm)) (fun _ h => h.in.sub [0, 1, 2] rfl rfl) ⟨rfl, rfl⟩ 0 0 rfl rfl (Nat.le_of_ble_eq_true rfl) (Nat.le_of_ble_eq_true rfl) rfl (Nat.le_of_ble_eq_true rfl) dX6_virial_10 13 rfl ?_
  refine r_lstore_n hC 1 [(1, .long (potQ t r)), (0, .ref (b 0))] dX6_virial_13 rfl (Nat.le_of_ble_eq_true rfl) rfl 14 rfl ?_
  refine r_lload_n hC 0 dX6_virial_14 rfl 15 rfl ?_
  refine r_lconst hC 0 dX6_virial_15 lc_0 16 rfl ?_
  refine r_lcne hC 24 dX6_virial_16 dX6_virial_17 (by decide) 20 rfl (fun c1 => ?_) (fun c1 => ?_)
  · skip
    refine r_aload_n hC 1 dX6_virial_24 rfl 25 rfl ?_
    refine r_get (v := .ref (b 1)) hC kX6 1 rfl q2754 (fun _ h => h.get 0 rfl) rfl dX6_virial_25 28 rfl ?_
    refine r_invSr hC [.ref (b 1)] (.long (kinQ r)) mSX6_kineticOf q2725 (metX6_kineticOf _ _ hG (b 1) _ (rowOK_of ht hm).2.1.1 (rowOK_of ht hm).2.1.2.1 (rowOK_of ht hm).2.1.2.2) (fun _ h => h.in.sub [2] rfl rfl) ⟨rfl, rfl⟩ 0 0 rfl rfl (Nat.le_of_ble_eq_true rfl) (Nat.le_of_ble_eq_true rfl) rfl (Nat.le_of_ble_eq_true rfl) dX6_virial_28 31 rfl ?_
    refine r_l2d hC dX6_virial_31 32 rfl ?_
    refine r_lload_n hC 0 dX6_virial_32 rfl 33 rfl ?_
    refine r_lneg hC (-(potQ t r)) dX6_virial_33 (rfl) 34 rfl ?_
    refine r_l2d hC dX6_virial_34 35 rfl ?_
    refine r_ddiv hC dX6_virial_35 (vir_n (neg_n0 (by assumption))) 36 rfl ?_
    exact r_dret hC (Nat.le_of_ble_eq_true rfl) (Nat.le_of_ble_eq_true rfl) (fun V9 h => hQ _ _ ⟨[(b 0, .inr (5, mF b (va_up i 0 0) j)), (b 7, .inl (1, 5, .inr (.inl t))), (b 1, .inl (1, 111, .inr (.inl r)))], ⟨by rw [virQ, if_neg c1], rfl⟩, by rw [← hV0, ← hF]; exact h⟩) dX6_virial_36
  · skip
    refine r_dconst0 hC dX6_virial_20 21 rfl ?_
    refine r_goto hC 36 dX6_virial_21 (by decide) ?_
    exact r_dret hC (Nat.le_of_ble_eq_true rfl) (Nat.le_of_ble_eq_true rfl) (fun V9 h => hQ _ _ ⟨[(b 0, .inr (5, mF b (va_up i 0 0) j)), (b 7, .inl (1, 5, .inr (.inl t))), (b 1, .inl (1, 111, .inr (.inl r)))], ⟨by rw [virQ, if_pos c1], rfl⟩, by rw [← hV0, ← hF]; exact h⟩) dX6_virial_36
set_option maxHeartbeats 4000000 in
set_option maxRecDepth 100000 in
theorem metX6_meanDistance (l : Launch) (G : xG) (hG : xGood G) (b : Nat → Nat) (i : Nat → Int32) (j : Nat → Int64) (r : Nat → Int64) : xWm l G yX6_meanDistance (Cond.code yX6_meanDistance cX6_meanDistance 3 (some .float)) { frames := 3, locals := 73, cells := 0, slots := 0 } [.ref (b 0)] [(b 0, .inr (5, mF b i j)), (b 1, .inl (1, 111, .inr (.inl r)))] (fun v w' => v = some (.float (meanQ r)) ∧ w' = [(b 0, .inr (5, mF b (va_up i 0 0) j)), (b 1, .inl (1, 111, .inr (.inl r)))]) (fun _ _ => False) := by
  intro V hV
  refine xMet_of RX6 hG rfl (by decide) (Nat.le_of_ble_eq_true rfl) fun C hC hQ hX hl hg _ => ?_
  subst hl hg
  obtain ⟨V0, hV0⟩ : ∃ V0, V0 = V := ⟨_, rfl⟩
  obtain ⟨F, hF⟩ : ∃ F, F = xF [(b 0, .inr (5, mF b i j)), (b 1, .inl (1, 111, .inr (.inl r)))] := ⟨_, rfl⟩
  refine rn.mono (J := xSt F V0 [(b 0, .inr (5, mF b i j)), (b 1, .inl (1, 111, .inr (.inl r)))]) (fun V9 h => by rw [h, hV0, hF]; exact hV.st) ?_
  show rn C (xSt F V0 [(b 0, .inr (5, mF b i j)), (b 1, .inl (1, 111, .inr (.inl r)))]) 0 0 0 [(0, .ref (b 0))] []
  refine r_aload_n hC 0 dX6_meanDistance_0 rfl 1 rfl ?_
  refine r_iconst hC 0 dX6_meanDistance_1 ic_0 2 rfl ?_
  refine r_put (J := xSt F V0 [(b 0, .inr (5, mF b (va_up i 0 0) j)), (b 1, .inl (1, 111, .inr (.inl r)))]) hC kX6 0 rfl q2753 rfl (fun _ h => h.get 0 rfl) (Nat.le_of_ble_eq_true rfl) rfl rfl dX6_meanDistance_2 (fun _ h => h.set 0 _ rfl) 5 rfl ?_
  refine r_aload_n hC 0 dX6_meanDistance_5 rfl 6 rfl ?_
  refine r_get (v := .ref (b 1)) hC kX6 1 rfl q2754 (fun _ h => h.get 0 rfl) rfl dX6_meanDistance_6 9 rfl ?_
  refine r_iconst hC 0 dX6_meanDistance_9 ic_0 10 rfl ?_
  refine r_invSr hC [.ref (b 1), .int 0] (.long (lN (distQ r 0))) mSX6_distanceOf q2743 (metX6_distanceOf _ _ hG (b 1) _ 0 (Nat.le_of_ble_eq_true rfl)) (fun _ h => h.in.sub [1] rfl rfl) ⟨rfl, rfl⟩ 0 0 rfl rfl (Nat.le_of_ble_eq_true rfl) (Nat.le_of_ble_eq_true rfl) rfl (Nat.le_of_ble_eq_true rfl) dX6_meanDistance_10 13 rfl ?_
  refine r_aload_n hC 0 dX6_meanDistance_13 rfl 14 rfl ?_
  refine r_get (v := .ref (b 1)) hC kX6 1 rfl q2754 (fun _ h => h.get 0 rfl) rfl dX6_meanDistance_14 17 rfl ?_
  refine r_iconst hC 1 dX6_meanDistance_17 ic_1 18 rfl ?_
  refine r_invSr hC [.ref (b 1), .int 1] (.long (lN (distQ r 1))) mSX6_distanceOf q2743 (metX6_distanceOf _ _ hG (b 1) _ 1 (Nat.le_of_ble_eq_true rfl)) (fun _ h => h.in.sub [1] rfl rfl) ⟨rfl, rfl⟩ 0 0 rfl rfl (Nat.le_of_ble_eq_true rfl) (Nat.le_of_ble_eq_true rfl) rfl (Nat.le_of_ble_eq_true rfl) dX6_meanDistance_18 21 rfl ?_
  refine r_ladd hC (lN (distQ r 0 + (distQ r 1))) dX6_meanDistance_21  (lN_add (distQ r 0) (distQ r 1)) 22 rfl ?_
  refine r_aload_n hC 0 dX6_meanDistance_22 rfl 23 rfl ?_
  refine r_get (v := .ref (b 1)) hC kX6 1 rfl q2754 (fun _ h => h.get 0 rfl) rfl dX6_meanDistance_23 26 rfl ?_
  refine r_iconst hC 2 dX6_meanDistance_26 ic_2 27 rfl ?_
  refine r_invSr hC [.ref (b 1), .int 2] (.long (lN (distQ r 2))) mSX6_distanceOf q2743 (metX6_distanceOf _ _ hG (b 1) _ 2 (Nat.le_of_ble_eq_true rfl)) (fun _ h => h.in.sub [1] rfl rfl) ⟨rfl, rfl⟩ 0 0 rfl rfl (Nat.le_of_ble_eq_true rfl) (Nat.le_of_ble_eq_true rfl) rfl (Nat.le_of_ble_eq_true rfl) dX6_meanDistance_27 30 rfl ?_
  refine r_ladd hC (lN (distQ r 0 + (distQ r 1) + (distQ r 2))) dX6_meanDistance_30  (lN_add (distQ r 0 + (distQ r 1)) (distQ r 2)) 31 rfl ?_
  refine r_lstore_n hC 1 [(1, .long (lN (distQ r 0 + (distQ r 1) + (distQ r 2)))), (0, .ref (b 0))] dX6_meanDistance_31 rfl (Nat.le_of_ble_eq_true rfl) rfl 32 rfl ?_
  refine r_lload_n hC 0 dX6_meanDistance_32 rfl 33 rfl ?_
  refine r_l2f hC dX6_meanDistance_33 34 rfl ?_
  refine r_ldcwf hC q3281 dX6_meanDistance_34 37 rfl ?_
  refine r_fdiv hC dX6_meanDistance_37 (mean_n) 38 rfl ?_
  exact r_fret hC (Nat.le_of_ble_eq_true rfl) (Nat.le_of_ble_eq_true rfl) (fun V9 h => hQ _ _ ⟨[(b 0, .inr (5, mF b (va_up i 0 0) j)), (b 1, .inl (1, 111, .inr (.inl r)))], ⟨rfl, rfl⟩, by rw [← hV0, ← hF]; exact h⟩) dX6_meanDistance_38
