/-! ===== the class: State.remember ===== -/
set_option maxRecDepth 100000
def diF (r : Nat → Int64) : Nat → Int32 := fun p => nI (distQ r p)
theorem min_rem {m : Nat} (h : m ≤ 2) : x_min 2 (nI (m + 1)) = nI (remN m) := by
  rcases (show m = 0 ∨ m = 1 ∨ m = 2 by omega) with rfl | rfl | rfl <;> decide
set_option maxHeartbeats 4000000 in
set_option maxRecDepth 100000 in
theorem metX2_remember (l : Launch) (G : xG) (hG : xGood G) (o u : Nat → Nat) (t r : Nat → Int64) (rem : Nat) (cr : Int32) (lo hi : Int64) (ol la : Nat → Int32) (hrem : rem ≤ 2) (hpl : plR r) : xWm l G yX2_remember (Cond.code yX2_remember cX2_remember 2 none) { frames := 2, locals := 60, cells := 0, slots := 0 } [.ref (u 0)] [(u 0, .inr (1, [.ref (o 0), .ref (u 1), .ref (u 2), .ref (u 3), .int (nI rem), .int cr, .long lo, .long hi])), (o 0, .inr (2, [.ref (o 1), .ref (o 2), .ref (o 3), .ref (o 4), .ref (o 5), .ref (o 6), .ref (o 7), .ref (o 8), .ref (o 9), .ref (o 10), .int ((r 0).toInt32)])), (o 3, .inl (0, 3, .inl (plX r))), (o 4, .inl (0, 3, .inl (plY r))), (u 2, .inl (0, 3, .inl ol)), (u 3, .inl (0, 3, .inl la))] (fun v w' => v = none ∧ w' = [(u 0, .inr (1, [.ref (o 0), .ref (u 1), .ref (u 2), .ref (u 3), .int (nI (remN rem)), .int cr, .long lo, .long hi])), (o 0, .inr (2, [.ref (o 1), .ref (o 2), .ref (o 3), .ref (o 4), .ref (o 5), .ref (o 6), .ref (o 7), .ref (o 8), .ref (o 9), .ref (o 10), .int ((r 0).toInt32)])), (o 3, .inl (0, 3, .inl (plX r))), (o 4, .inl (0, 3, .inl (plY r))), (u 2, .inl (0, 3, .inl la)), (u 3, .inl (0, 3, .inl (diF r)))]) (fun _ _ => False) := by
  intro V hV
  refine xMet_ofT RX2 hG rfl (by decide) (Nat.le_of_ble_eq_true rfl) fun C hC hQ hX hl hg _ hTab => ?_
  subst hl hg
  obtain ⟨V0, hV0⟩ : ∃ V0, V0 = V := ⟨_, rfl⟩
  obtain ⟨F, hF⟩ : ∃ F, F = xF [(u 0, .inr (1, [.ref (o 0), .ref (u 1), .ref (u 2), .ref (u 3), .int (nI rem), .int cr, .long lo, .long hi])), (o 0, .inr (2, [.ref (o 1), .ref (o 2), .ref (o 3), .ref (o 4), .ref (o 5), .ref (o 6), .ref (o 7), .ref (o 8), .ref (o 9), .ref (o 10), .int ((r 0).toInt32)])), (o 3, .inl (0, 3, .inl (plX r))), (o 4, .inl (0, 3, .inl (plY r))), (u 2, .inl (0, 3, .inl ol)), (u 3, .inl (0, 3, .inl la))] := ⟨_, rfl⟩
  refine rn.mono (J := xSt F V0 [(u 0, .inr (1, [.ref (o 0), .ref (u 1), .ref (u 2), .ref (u 3), .int (nI rem), .int cr, .long lo, .long hi])), (o 0, .inr (2, [.ref (o 1), .ref (o 2), .ref (o 3), .ref (o 4), .ref (o 5), .ref (o 6), .ref (o 7), .ref (o 8), .ref (o 9), .ref (o 10), .int ((r 0).toInt32)])), (o 3, .inl (0, 3, .inl (plX r))), (o 4, .inl (0, 3, .inl (plY r))), (u 2, .inl (0, 3, .inl ol)), (u 3, .inl (0, 3, .inl la))]) (fun V9 h => by rw [h, hV0, hF]; exact hV.st) ?_
  show rn C (xSt F V0 [(u 0, .inr (1, [.ref (o 0), .ref (u 1), .ref (u 2), .ref (u 3), .int (nI rem), .int cr, .long lo, .long hi])), (o 0, .inr (2, [.ref (o 1), .ref (o 2), .ref (o 3), .ref (o 4), .ref (o 5), .ref (o 6), .ref (o 7), .ref (o 8), .ref (o 9), .ref (o 10), .int ((r 0).toInt32)])), (o 3, .inl (0, 3, .inl (plX r))), (o 4, .inl (0, 3, .inl (plY r))), (u 2, .inl (0, 3, .inl ol)), (u 3, .inl (0, 3, .inl la))]) 0 0 0 [(0, .ref (u 0))] []
  refine r_aload_n hC 0 dX2_remember_0 rfl 1 rfl ?_
  refine r_get (v := .ref (u 3)) hC kX2 3 rfl q294 (fun _ h => h.get 0 rfl) rfl dX2_remember_1 4 rfl ?_
  refine r_iconst hC 0 dX2_remember_4 ic_0 5 rfl ?_
  refine r_aload_n hC 0 dX2_remember_5 rfl 6 rfl ?_
  refine r_get (v := .ref (u 2)) hC kX2 2 rfl q293 (fun _ h => h.get 0 rfl) rfl dX2_remember_6 9 rfl ?_
  refine r_iconst hC 0 dX2_remember_9 ic_0 10 rfl ?_
  refine r_iconst hC 3 dX2_remember_10 ic_3 11 rfl ?_
  refine r_copyI (J := xSt F V0 [(u 0, .inr (1, [.ref (o 0), .ref (u 1), .ref (u 2), .ref (u 3), .int (nI rem), .int cr, .long lo, .long hi])), (o 0, .inr (2, [.ref (o 1), .ref (o 2), .ref (o 3), .ref (o 4), .ref (o 5), .ref (o 6), .ref (o 7), .ref (o 8), .ref (o 9), .ref (o 10), .int ((r 0).toInt32)])), (o 3, .inl (0, 3, .inl (plX r))), (o 4, .inl (0, 3, .inl (plY r))), (u 2, .inl (0, 3, .inl (va_cpy la ol 0 0 3))), (u 3, .inl (0, 3, .inl la))]) hC 0 0 3 q1565 (fun _ h => h.get 5 rfl) (fun _ h => h.get 4 rfl) (Nat.le_of_ble_eq_true rfl) (Nat.le_of_ble_eq_true rfl) (Nat.le_of_ble_eq_true rfl) (Nat.le_of_ble_eq_true rfl) (Nat.le_of_ble_eq_true rfl) (Nat.le_of_ble_eq_true rfl) (Nat.le_of_ble_eq_true rfl) dX2_remember_11 (fun _ h => h.set 4 _ rfl) 14 rfl ?_
  refine r_iconst hC 0 dX2_remember_14 ic_0 15 rfl ?_
  refine r_istore_n hC 1 [(1, .int 0), (0, .ref (u 0))] dX2_remember_15 rfl (Nat.le_of_ble_eq_true rfl) rfl 16 rfl ?_
  refine r_iload_n hC 0 dX2_remember_16 rfl 17 rfl ?_
  refine r_iconst hC 3 dX2_remember_17 ic_3 18 rfl ?_
  refine r_icge hC 41 dX2_remember_18 (by decide) 21 rfl (fun h => absurd h (by decide)) (fun _ => ?_)
  refine r_aload_n hC 1 dX2_remember_21 rfl 22 rfl ?_
  refine r_get (v := .ref (u 3)) hC kX2 3 rfl q294 (fun _ h => h.get 0 rfl) rfl dX2_remember_22 25 rfl ?_
  refine r_iload_n hC 0 dX2_remember_25 rfl 26 rfl ?_
  refine r_aload_n hC 1 dX2_remember_26 rfl 27 rfl ?_
  refine r_get (v := .ref (o 0)) hC kX2 0 rfl q288 (fun _ h => h.get 0 rfl) rfl dX2_remember_27 30 rfl ?_
  refine r_iload_n hC 0 dX2_remember_30 rfl 31 rfl ?_
  refine xCall.r (r := some (.int (nI (distQ r 0)))) (r_cV hC kX3 (o 0) [.int 0] mVX3_distanceOf q1566 (fun _ h => ⟨_, h.get 1 rfl⟩) (fun V9 h9 => (metX3_distanceOf _ _ hG o (fun _ => 0) r 0 (Nat.le_of_ble_eq_true rfl) hpl) V9 (h9.in.sub [1, 2, 3] rfl rfl)) ⟨rfl, rfl⟩ (Nat.le_of_ble_eq_true rfl) (Nat.le_of_ble_eq_true rfl) rfl (Nat.le_of_ble_eq_true rfl) dX2_remember_31) 0 0 34 rfl rfl rfl ?_
  refine r_iast (J := xSt F V0 [(u 0, .inr (1, [.ref (o 0), .ref (u 1), .ref (u 2), .ref (u 3), .int (nI rem), .int cr, .long lo, .long hi])), (o 0, .inr (2, [.ref (o 1), .ref (o 2), .ref (o 3), .ref (o 4), .ref (o 5), .ref (o 6), .ref (o 7), .ref (o 8), .ref (o 9), .ref (o 10), .int ((r 0).toInt32)])), (o 3, .inl (0, 3, .inl (plX r))), (o 4, .inl (0, 3, .inl (plY r))), (u 2, .inl (0, 3, .inl (va_cpy la ol 0 0 3))), (u 3, .inl (0, 3, .inl (va_up la 0 (nI (distQ r 0)))))]) hC 0 (xix_n 0 (Nat.le_of_ble_eq_true rfl) (Nat.le_of_ble_eq_true rfl)) (fun _ h => h.get 5 rfl) dX2_remember_34 (fun _ h => h.set 5 _ rfl) 35 rfl ?_
  generalize hu1 : va_up la 0 (nI (distQ r 0)) = u1
  refine r_iinc hC 1 1 0 [(1, .int 1), (0, .ref (u 0))] dX2_remember_35 rfl (by decide) (Nat.le_of_ble_eq_true rfl) rfl 38 rfl ?_
  refine r_goto hC 16 dX2_remember_38 (by decide) ?_
  refine r_iload_n hC 0 dX2_remember_16 rfl 17 rfl ?_
  refine r_iconst hC 3 dX2_remember_17 ic_3 18 rfl ?_
  refine r_icge hC 41 dX2_remember_18 (by decide) 21 rfl (fun h => absurd h (by decide)) (fun _ => ?_)
  refine r_aload_n hC 1 dX2_remember_21 rfl 22 rfl ?_
  refine r_get (v := .ref (u 3)) hC kX2 3 rfl q294 (fun _ h => h.get 0 rfl) rfl dX2_remember_22 25 rfl ?_
  refine r_iload_n hC 0 dX2_remember_25 rfl 26 rfl ?_
  refine r_aload_n hC 1 dX2_remember_26 rfl 27 rfl ?_
  refine r_get (v := .ref (o 0)) hC kX2 0 rfl q288 (fun _ h => h.get 0 rfl) rfl dX2_remember_27 30 rfl ?_
  refine r_iload_n hC 0 dX2_remember_30 rfl 31 rfl ?_
  refine xCall.r (r := some (.int (nI (distQ r 1)))) (r_cV hC kX3 (o 0) [.int 1] mVX3_distanceOf q1566 (fun _ h => ⟨_, h.get 1 rfl⟩) (fun V9 h9 => (metX3_distanceOf _ _ hG o (fun _ => 0) r 1 (Nat.le_of_ble_eq_true rfl) hpl) V9 (h9.in.sub [1, 2, 3] rfl rfl)) ⟨rfl, rfl⟩ (Nat.le_of_ble_eq_true rfl) (Nat.le_of_ble_eq_true rfl) rfl (Nat.le_of_ble_eq_true rfl) dX2_remember_31) 0 0 34 rfl rfl rfl ?_
  refine r_iast (J := xSt F V0 [(u 0, .inr (1, [.ref (o 0), .ref (u 1), .ref (u 2), .ref (u 3), .int (nI rem), .int cr, .long lo, .long hi])), (o 0, .inr (2, [.ref (o 1), .ref (o 2), .ref (o 3), .ref (o 4), .ref (o 5), .ref (o 6), .ref (o 7), .ref (o 8), .ref (o 9), .ref (o 10), .int ((r 0).toInt32)])), (o 3, .inl (0, 3, .inl (plX r))), (o 4, .inl (0, 3, .inl (plY r))), (u 2, .inl (0, 3, .inl (va_cpy la ol 0 0 3))), (u 3, .inl (0, 3, .inl (va_up u1 1 (nI (distQ r 1)))))]) hC 1 (xix_n 1 (Nat.le_of_ble_eq_true rfl) (Nat.le_of_ble_eq_true rfl)) (fun _ h => h.get 5 rfl) dX2_remember_34 (fun _ h => h.set 5 _ rfl) 35 rfl ?_
  generalize hu2 : va_up u1 1 (nI (distQ r 1)) = u2
  refine r_iinc hC 2 1 0 [(1, .int 2), (0, .ref (u 0))] dX2_remember_35 rfl (by decide) (Nat.le_of_ble_eq_true rfl) rfl 38 rfl ?_
  refine r_goto hC 16 dX2_remember_38 (by decide) ?_
  refine r_iload_n hC 0 dX2_remember_16 rfl 17 rfl ?_
  refine r_iconst hC 3 dX2_remember_17 ic_3 18 rfl ?_
  refine r_icge hC 41 dX2_remember_18 (by decide) 21 rfl (fun h => absurd h (by decide)) (fun _ => ?_)
  refine r_aload_n hC 1 dX2_remember_21 rfl 22 rfl ?_
  refine r_get (v := .ref (u 3)) hC kX2 3 rfl q294 (fun _ h => h.get 0 rfl) rfl dX2_remember_22 25 rfl ?_
  refine r_iload_n hC 0 dX2_remember_25 rfl 26 rfl ?_
  refine r_aload_n hC 1 dX2_remember_26 rfl 27 rfl ?_
  refine r_get (v := .ref (o 0)) hC kX2 0 rfl q288 (fun _ h => h.get 0 rfl) rfl dX2_remember_27 30 rfl ?_
  refine r_iload_n hC 0 dX2_remember_30 rfl 31 rfl ?_
  refine xCall.r (r := some (.int (nI (distQ r 2)))) (r_cV hC kX3 (o 0) [.int 2] mVX3_distanceOf q1566 (fun _ h => ⟨_, h.get 1 rfl⟩) (fun V9 h9 => (metX3_distanceOf _ _ hG o (fun _ => 0) r 2 (Nat.le_of_ble_eq_true rfl) hpl) V9 (h9.in.sub [1, 2, 3] rfl rfl)) ⟨rfl, rfl⟩ (Nat.le_of_ble_eq_true rfl) (Nat.le_of_ble_eq_true rfl) rfl (Nat.le_of_ble_eq_true rfl) dX2_remember_31) 0 0 34 rfl rfl rfl ?_
  refine r_iast (J := xSt F V0 [(u 0, .inr (1, [.ref (o 0), .ref (u 1), .ref (u 2), .ref (u 3), .int (nI rem), .int cr, .long lo, .long hi])), (o 0, .inr (2, [.ref (o 1), .ref (o 2), .ref (o 3), .ref (o 4), .ref (o 5), .ref (o 6), .ref (o 7), .ref (o 8), .ref (o 9), .ref (o 10), .int ((r 0).toInt32)])), (o 3, .inl (0, 3, .inl (plX r))), (o 4, .inl (0, 3, .inl (plY r))), (u 2, .inl (0, 3, .inl (va_cpy la ol 0 0 3))), (u 3, .inl (0, 3, .inl (va_up u2 2 (nI (distQ r 2)))))]) hC 2 (xix_n 2 (Nat.le_of_ble_eq_true rfl) (Nat.le_of_ble_eq_true rfl)) (fun _ h => h.get 5 rfl) dX2_remember_34 (fun _ h => h.set 5 _ rfl) 35 rfl ?_
  generalize hu3 : va_up u2 2 (nI (distQ r 2)) = u3
  refine r_iinc hC 3 1 0 [(1, .int 3), (0, .ref (u 0))] dX2_remember_35 rfl (by decide) (Nat.le_of_ble_eq_true rfl) rfl 38 rfl ?_
  refine r_goto hC 16 dX2_remember_38 (by decide) ?_
  refine r_iload_n hC 0 dX2_remember_16 rfl 17 rfl ?_
  refine r_iconst hC 3 dX2_remember_17 ic_3 18 rfl ?_
  refine r_icge hC 41 dX2_remember_18 (by decide) 21 rfl (fun _ => ?_) (fun h => absurd h (by decide))
  refine r_aload_n hC 1 dX2_remember_41 rfl 42 rfl ?_
  refine r_iconst hC 2 dX2_remember_42 ic_2 43 rfl ?_
  refine r_aload_n hC 1 dX2_remember_43 rfl 44 rfl ?_
  refine r_get (v := .int (nI rem)) hC kX2 4 rfl q295 (fun _ h => h.get 0 rfl) rfl dX2_remember_44 47 rfl ?_
  refine r_iconst hC 1 dX2_remember_47 ic_1 48 rfl ?_
  refine r_iadd hC (nI (rem + 1)) dX2_remember_48  (nI_add rem 1) 49 rfl ?_
  refine xCall.r (r := some (.int (x_min 2 (nI (rem + 1))))) (r_cS hC [.int 2, .int (nI (rem + 1))] mSJ4_min q1567 (fun V9 h9 => (metJ4_min _ _ hG 2 (nI (rem + 1))) V9 xIn.nil) ⟨rfl, rfl⟩ (Nat.le_of_ble_eq_true rfl) (Nat.le_of_ble_eq_true rfl) rfl (Nat.le_of_ble_eq_true rfl) dX2_remember_49) 0 0 52 rfl rfl rfl ?_
  refine r_eqi (y := nI (remN rem)) (min_rem hrem) ?_
  refine r_put (J := xSt F V0 [(u 0, .inr (1, [.ref (o 0), .ref (u 1), .ref (u 2), .ref (u 3), .int (nI (remN rem)), .int cr, .long lo, .long hi])), (o 0, .inr (2, [.ref (o 1), .ref (o 2), .ref (o 3), .ref (o 4), .ref (o 5), .ref (o 6), .ref (o 7), .ref (o 8), .ref (o 9), .ref (o 10), .int ((r 0).toInt32)])), (o 3, .inl (0, 3, .inl (plX r))), (o 4, .inl (0, 3, .inl (plY r))), (u 2, .inl (0, 3, .inl (va_cpy la ol 0 0 3))), (u 3, .inl (0, 3, .inl u3))]) hC kX2 4 rfl q295 rfl (fun _ h => h.get 0 rfl) (Nat.le_of_ble_eq_true rfl) (rfl) (rfl) dX2_remember_52 (fun _ h => h.set 0 _ rfl) 55 rfl ?_
  subst hu3
  subst hu2
  subst hu1
  refine rn_cellI (J := xSt F V0 [(u 0, .inr (1, [.ref (o 0), .ref (u 1), .ref (u 2), .ref (u 3), .int (nI (remN rem)), .int cr, .long lo, .long hi])), (o 0, .inr (2, [.ref (o 1), .ref (o 2), .ref (o 3), .ref (o 4), .ref (o 5), .ref (o 6), .ref (o 7), .ref (o 8), .ref (o 9), .ref (o 10), .int ((r 0).toInt32)])), (o 3, .inl (0, 3, .inl (plX r))), (o 4, .inl (0, 3, .inl (plY r))), (u 2, .inl (0, 3, .inl la)), (u 3, .inl (0, 3, .inl (va_up (va_up (va_up la 0 (nI (distQ r 0))) 1 (nI (distQ r 1))) 2 (nI (distQ r 2)))))]) (fun _ h => h.get 4 rfl) (fun j9 hj9 => cpy_full hj9) (fun _ h => h.set 4 _ rfl) ?_
  refine rn_cellI (J := xSt F V0 [(u 0, .inr (1, [.ref (o 0), .ref (u 1), .ref (u 2), .ref (u 3), .int (nI (remN rem)), .int cr, .long lo, .long hi])), (o 0, .inr (2, [.ref (o 1), .ref (o 2), .ref (o 3), .ref (o 4), .ref (o 5), .ref (o 6), .ref (o 7), .ref (o 8), .ref (o 9), .ref (o 10), .int ((r 0).toInt32)])), (o 3, .inl (0, 3, .inl (plX r))), (o 4, .inl (0, 3, .inl (plY r))), (u 2, .inl (0, 3, .inl la)), (u 3, .inl (0, 3, .inl (diF r)))]) (fun _ h => h.get 5 rfl) (fun j9 hj9 => by
      rcases (show j9 = 0 ∨ j9 = 1 ∨ j9 = 2 by omega) with rfl | rfl | rfl
      · exact (up_ne (by decide)).trans ((up_ne (by decide)).trans (up_same _ _ _))
      · exact (up_ne (by decide)).trans (up_same _ _ _)
      · exact up_same _ _ _) (fun _ h => h.set 5 _ rfl) ?_
  exact r_vret hC (Nat.le_of_ble_eq_true rfl) (Nat.le_of_ble_eq_true rfl) (fun V9 h => hQ _ _ ⟨[(u 0, .inr (1, [.ref (o 0), .ref (u 1), .ref (u 2), .ref (u 3), .int (nI (remN rem)), .int cr, .long lo, .long hi])), (o 0, .inr (2, [.ref (o 1), .ref (o 2), .ref (o 3), .ref (o 4), .ref (o 5), .ref (o 6), .ref (o 7), .ref (o 8), .ref (o 9), .ref (o 10), .int ((r 0).toInt32)])), (o 3, .inl (0, 3, .inl (plX r))), (o 4, .inl (0, 3, .inl (plY r))), (u 2, .inl (0, 3, .inl la)), (u 3, .inl (0, 3, .inl (diF r)))], ⟨rfl, rfl⟩, by rw [← hV0, ← hF]; exact h⟩) dX2_remember_55
