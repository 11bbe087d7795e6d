/-! ===== the class: copies, likeness, the bodies' constructor ===== -/
set_option maxRecDepth 100000
def zI : Nat → Int32 := fun _ => 0
def zJ : Nat → Int64 := fun _ => 0
theorem naz_int {N : Nat} : ∀ cA : ClassId, vp_cell cA (N, .inl zI) = arrV cA N (fun _ => defaultValue .int) := fun _ => rfl
theorem naz_long {N : Nat} : ∀ cA : ClassId, vp_cell cA (N, .inr (.inl zJ)) = arrV cA N (fun _ => defaultValue .long) := fun _ => rfl
theorem naz_byte {N : Nat} : ∀ cA : ClassId, vp_cell cA (N, .inl zI) = arrV cA N (fun _ => defaultValue .byte) := fun _ => rfl
theorem inj32 {x y : Int64} (h1 : -2147483648 ≤ x.toInt ∧ x.toInt ≤ 2147483647) (h2 : -2147483648 ≤ y.toInt ∧ y.toInt ≤ 2147483647) : x.toInt32 = y.toInt32 ↔ x = y := by
  constructor
  · intro h
    have := congrArg Int32.toInt64 h
    rw [i64_of h1.1 h1.2, i64_of h2.1 h2.2] at this
    exact this
  · intro h; rw [h]
section EQS
variable {r s : Nat → Int64} {p q : Nat}
theorem eqMa (h : mOK r) (h2 : mOK s) (hp : p < 3) (hq : q < 3) : maF r p = maF s q ↔ r (6 + 5 * p + 0) = s (6 + 5 * q + 0) := inj32 (by have := mOK_at h hp; omega) (by have := mOK_at h2 hq; omega)
theorem eqX (h : plR r) (h2 : plR s) (hp : p < 3) (hq : q < 3) : plX r p = plX s q ↔ r (6 + 5 * p + 1) = s (6 + 5 * q + 1) := inj32 (by have := (h p hp).1; omega) (by have := (h2 q hq).1; omega)
theorem eqY (h : plR r) (h2 : plR s) (hp : p < 3) (hq : q < 3) : plY r p = plY s q ↔ r (6 + 5 * p + 2) = s (6 + 5 * q + 2) := inj32 (by have := (h p hp).2; omega) (by have := (h2 q hq).2; omega)
end EQS
set_option maxHeartbeats 4000000 in
set_option maxRecDepth 100000 in
theorem metX3_keep (l : Launch) (G : xG) (hG : xGood G) (o : Nat → Nat) (t r : Nat → Int64) (ox oy : Nat → Int32) (opx opy : Nat → Int64) : xWm l G yX3_keep (Cond.code yX3_keep cX3_keep 1 none) { frames := 1, locals := 60, cells := 0, slots := 0 } [.ref (o 0)] [(o 0, .inr (2, [.ref (o 1), .ref (o 2), .ref (o 3), .ref (o 4), .ref (o 5), .ref (o 6), .ref (o 7), .ref (o 8), .ref (o 9), .ref (o 10), .int ((r 0).toInt32)])), (o 3, .inl (0, 3, .inl (plX r))), (o 4, .inl (0, 3, .inl (plY r))), (o 5, .inl (1, 3, .inr (.inl (moX r)))), (o 6, .inl (1, 3, .inr (.inl (moY r)))), (o 7, .inl (0, 3, .inl ox)), (o 8, .inl (0, 3, .inl oy)), (o 9, .inl (1, 3, .inr (.inl opx))), (o 10, .inl (1, 3, .inr (.inl opy)))] (fun v w' => v = none ∧ w' = [(o 0, .inr (2, [.ref (o 1), .ref (o 2), .ref (o 3), .ref (o 4), .ref (o 5), .ref (o 6), .ref (o 7), .ref (o 8), .ref (o 9), .ref (o 10), .int ((r 0).toInt32)])), (o 3, .inl (0, 3, .inl (plX r))), (o 4, .inl (0, 3, .inl (plY r))), (o 5, .inl (1, 3, .inr (.inl (moX r)))), (o 6, .inl (1, 3, .inr (.inl (moY r)))), (o 7, .inl (0, 3, .inl (plX r))), (o 8, .inl (0, 3, .inl (plY r))), (o 9, .inl (1, 3, .inr (.inl (moX r)))), (o 10, .inl (1, 3, .inr (.inl (moY r))))]) (fun _ _ => False) := by
  intro V hV
  refine xMet_ofT RX3 hG rfl (by decide) (Nat.le_of_ble_eq_true rfl) fun C hC hQ hX hl hg _ hTab => ?_
  subst hl hg
  obtain ⟨V0, hV0⟩ : ∃ V0, V0 = V := ⟨_, rfl⟩
  obtain ⟨F, hF⟩ : ∃ F, F = xF [(o 0, .inr (2, [.ref (o 1), .ref (o 2), .ref (o 3), .ref (o 4), .ref (o 5), .ref (o 6), .ref (o 7), .ref (o 8), .ref (o 9), .ref (o 10), .int ((r 0).toInt32)])), (o 3, .inl (0, 3, .inl (plX r))), (o 4, .inl (0, 3, .inl (plY r))), (o 5, .inl (1, 3, .inr (.inl (moX r)))), (o 6, .inl (1, 3, .inr (.inl (moY r)))), (o 7, .inl (0, 3, .inl ox)), (o 8, .inl (0, 3, .inl oy)), (o 9, .inl (1, 3, .inr (.inl opx))), (o 10, .inl (1, 3, .inr (.inl opy)))] := ⟨_, rfl⟩
  refine rn.mono (J := xSt F V0 [(o 0, .inr (2, [.ref (o 1), .ref (o 2), .ref (o 3), .ref (o 4), .ref (o 5), .ref (o 6), .ref (o 7), .ref (o 8), .ref (o 9), .ref (o 10), .int ((r 0).toInt32)])), (o 3, .inl (0, 3, .inl (plX r))), (o 4, .inl (0, 3, .inl (plY r))), (o 5, .inl (1, 3, .inr (.inl (moX r)))), (o 6, .inl (1, 3, .inr (.inl (moY r)))), (o 7, .inl (0, 3, .inl ox)), (o 8, .inl (0, 3, .inl oy)), (o 9, .inl (1, 3, .inr (.inl opx))), (o 10, .inl (1, 3, .inr (.inl opy)))]) (fun V9 h => by rw [h, hV0, hF]; exact hV.st) ?_
  show rn C (xSt F V0 [(o 0, .inr (2, [.ref (o 1), .ref (o 2), .ref (o 3), .ref (o 4), .ref (o 5), .ref (o 6), .ref (o 7), .ref (o 8), .ref (o 9), .ref (o 10), .int ((r 0).toInt32)])), (o 3, .inl (0, 3, .inl (plX r))), (o 4, .inl (0, 3, .inl (plY r))), (o 5, .inl (1, 3, .inr (.inl (moX r)))), (o 6, .inl (1, 3, .inr (.inl (moY r)))), (o 7, .inl (0, 3, .inl ox)), (o 8, .inl (0, 3, .inl oy)), (o 9, .inl (1, 3, .inr (.inl opx))), (o 10, .inl (1, 3, .inr (.inl opy)))]) 0 0 0 [(0, .ref (o 0))] []
  refine r_aload_n hC 0 dX3_keep_0 rfl 1 rfl ?_
  refine r_get (v := .ref (o 3)) hC kX3 2 rfl q180 (fun _ h => h.get 0 rfl) rfl dX3_keep_1 4 rfl ?_
  refine r_iconst hC 0 dX3_keep_4 ic_0 5 rfl ?_
  refine r_aload_n hC 0 dX3_keep_5 rfl 6 rfl ?_
  refine r_get (v := .ref (o 7)) hC kX3 6 rfl q194 (fun _ h => h.get 0 rfl) rfl dX3_keep_6 9 rfl ?_
  refine r_iconst hC 0 dX3_keep_9 ic_0 10 rfl ?_
  refine r_iconst hC 3 dX3_keep_10 ic_3 11 rfl ?_
  refine r_copyI (J := xSt F V0 [(o 0, .inr (2, [.ref (o 1), .ref (o 2), .ref (o 3), .ref (o 4), .ref (o 5), .ref (o 6), .ref (o 7), .ref (o 8), .ref (o 9), .ref (o 10), .int ((r 0).toInt32)])), (o 3, .inl (0, 3, .inl (plX r))), (o 4, .inl (0, 3, .inl (plY r))), (o 5, .inl (1, 3, .inr (.inl (moX r)))), (o 6, .inl (1, 3, .inr (.inl (moY r)))), (o 7, .inl (0, 3, .inl (va_cpy (plX r) ox 0 0 3))), (o 8, .inl (0, 3, .inl oy)), (o 9, .inl (1, 3, .inr (.inl opx))), (o 10, .inl (1, 3, .inr (.inl opy)))]) hC 0 0 3 q670 (fun _ h => h.get 1 rfl) (fun _ h => h.get 5 rfl) (Nat.le_of_ble_eq_true rfl) (Nat.le_of_ble_eq_true rfl) (Nat.le_of_ble_eq_true rfl) (Nat.le_of_ble_eq_true rfl) (Nat.le_of_ble_eq_true rfl) (Nat.le_of_ble_eq_true rfl) (Nat.le_of_ble_eq_true rfl) dX3_keep_11 (fun _ h => h.set 5 _ rfl) 14 rfl ?_
  refine r_aload_n hC 0 dX3_keep_14 rfl 15 rfl ?_
  refine r_get (v := .ref (o 4)) hC kX3 3 rfl q184 (fun _ h => h.get 0 rfl) rfl dX3_keep_15 18 rfl ?_
  refine r_iconst hC 0 dX3_keep_18 ic_0 19 rfl ?_
  refine r_aload_n hC 0 dX3_keep_19 rfl 20 rfl ?_
  refine r_get (v := .ref (o 8)) hC kX3 7 rfl q195 (fun _ h => h.get 0 rfl) rfl dX3_keep_20 23 rfl ?_
  refine r_iconst hC 0 dX3_keep_23 ic_0 24 rfl ?_
  refine r_iconst hC 3 dX3_keep_24 ic_3 25 rfl ?_
  refine r_copyI (J := xSt F V0 [(o 0, .inr (2, [.ref (o 1), .ref (o 2), .ref (o 3), .ref (o 4), .ref (o 5), .ref (o 6), .ref (o 7), .ref (o 8), .ref (o 9), .ref (o 10), .int ((r 0).toInt32)])), (o 3, .inl (0, 3, .inl (plX r))), (o 4, .inl (0, 3, .inl (plY r))), (o 5, .inl (1, 3, .inr (.inl (moX r)))), (o 6, .inl (1, 3, .inr (.inl (moY r)))), (o 7, .inl (0, 3, .inl (va_cpy (plX r) ox 0 0 3))), (o 8, .inl (0, 3, .inl (va_cpy (plY r) oy 0 0 3))), (o 9, .inl (1, 3, .inr (.inl opx))), (o 10, .inl (1, 3, .inr (.inl opy)))]) hC 0 0 3 q670 (fun _ h => h.get 2 rfl) (fun _ h => h.get 6 rfl) (Nat.le_of_ble_eq_true rfl) (Nat.le_of_ble_eq_true rfl) (Nat.le_of_ble_eq_true rfl) (Nat.le_of_ble_eq_true rfl) (Nat.le_of_ble_eq_true rfl) (Nat.le_of_ble_eq_true rfl) (Nat.le_of_ble_eq_true rfl) dX3_keep_25 (fun _ h => h.set 6 _ rfl) 28 rfl ?_
  refine r_aload_n hC 0 dX3_keep_28 rfl 29 rfl ?_
  refine r_get (v := .ref (o 5)) hC kX3 4 rfl q188 (fun _ h => h.get 0 rfl) rfl dX3_keep_29 32 rfl ?_
  refine r_iconst hC 0 dX3_keep_32 ic_0 33 rfl ?_
  refine r_aload_n hC 0 dX3_keep_33 rfl 34 rfl ?_
  refine r_get (v := .ref (o 9)) hC kX3 8 rfl q196 (fun _ h => h.get 0 rfl) rfl dX3_keep_34 37 rfl ?_
  refine r_iconst hC 0 dX3_keep_37 ic_0 38 rfl ?_
  refine r_iconst hC 3 dX3_keep_38 ic_3 39 rfl ?_
  refine r_copyL (J := xSt F V0 [(o 0, .inr (2, [.ref (o 1), .ref (o 2), .ref (o 3), .ref (o 4), .ref (o 5), .ref (o 6), .ref (o 7), .ref (o 8), .ref (o 9), .ref (o 10), .int ((r 0).toInt32)])), (o 3, .inl (0, 3, .inl (plX r))), (o 4, .inl (0, 3, .inl (plY r))), (o 5, .inl (1, 3, .inr (.inl (moX r)))), (o 6, .inl (1, 3, .inr (.inl (moY r)))), (o 7, .inl (0, 3, .inl (va_cpy (plX r) ox 0 0 3))), (o 8, .inl (0, 3, .inl (va_cpy (plY r) oy 0 0 3))), (o 9, .inl (1, 3, .inr (.inl (va_cpy (moX r) opx 0 0 3)))), (o 10, .inl (1, 3, .inr (.inl opy)))]) hC 0 0 3 q670 (fun _ h => h.get 3 rfl) (fun _ h => h.get 7 rfl) (Nat.le_of_ble_eq_true rfl) (Nat.le_of_ble_eq_true rfl) (Nat.le_of_ble_eq_true rfl) (Nat.le_of_ble_eq_true rfl) (Nat.le_of_ble_eq_true rfl) (Nat.le_of_ble_eq_true rfl) (Nat.le_of_ble_eq_true rfl) dX3_keep_39 (fun _ h => h.set 7 _ rfl) 42 rfl ?_
  refine r_aload_n hC 0 dX3_keep_42 rfl 43 rfl ?_
  refine r_get (v := .ref (o 6)) hC kX3 5 rfl q191 (fun _ h => h.get 0 rfl) rfl dX3_keep_43 46 rfl ?_
  refine r_iconst hC 0 dX3_keep_46 ic_0 47 rfl ?_
  refine r_aload_n hC 0 dX3_keep_47 rfl 48 rfl ?_
  refine r_get (v := .ref (o 10)) hC kX3 9 rfl q197 (fun _ h => h.get 0 rfl) rfl dX3_keep_48 51 rfl ?_
  refine r_iconst hC 0 dX3_keep_51 ic_0 52 rfl ?_
  refine r_iconst hC 3 dX3_keep_52 ic_3 53 rfl ?_
  refine r_copyL (J := xSt F V0 [(o 0, .inr (2, [.ref (o 1), .ref (o 2), .ref (o 3), .ref (o 4), .ref (o 5), .ref (o 6), .ref (o 7), .ref (o 8), .ref (o 9), .ref (o 10), .int ((r 0).toInt32)])), (o 3, .inl (0, 3, .inl (plX r))), (o 4, .inl (0, 3, .inl (plY r))), (o 5, .inl (1, 3, .inr (.inl (moX r)))), (o 6, .inl (1, 3, .inr (.inl (moY r)))), (o 7, .inl (0, 3, .inl (va_cpy (plX r) ox 0 0 3))), (o 8, .inl (0, 3, .inl (va_cpy (plY r) oy 0 0 3))), (o 9, .inl (1, 3, .inr (.inl (va_cpy (moX r) opx 0 0 3)))), (o 10, .inl (1, 3, .inr (.inl (va_cpy (moY r) opy 0 0 3))))]) hC 0 0 3 q670 (fun _ h => h.get 4 rfl) (fun _ h => h.get 8 rfl) (Nat.le_of_ble_eq_true rfl) (Nat.le_of_ble_eq_true rfl) (Nat.le_of_ble_eq_true rfl) (Nat.le_of_ble_eq_true rfl) (Nat.le_of_ble_eq_true rfl) (Nat.le_of_ble_eq_true rfl) (Nat.le_of_ble_eq_true rfl) dX3_keep_53 (fun _ h => h.set 8 _ rfl) 56 rfl ?_
  refine rn_cellI (J := xSt F V0 [(o 0, .inr (2, [.ref (o 1), .ref (o 2), .ref (o 3), .ref (o 4), .ref (o 5), .ref (o 6), .ref (o 7), .ref (o 8), .ref (o 9), .ref (o 10), .int ((r 0).toInt32)])), (o 3, .inl (0, 3, .inl (plX r))), (o 4, .inl (0, 3, .inl (plY r))), (o 5, .inl (1, 3, .inr (.inl (moX r)))), (o 6, .inl (1, 3, .inr (.inl (moY r)))), (o 7, .inl (0, 3, .inl (plX r))), (o 8, .inl (0, 3, .inl (va_cpy (plY r) oy 0 0 3))), (o 9, .inl (1, 3, .inr (.inl (va_cpy (moX r) opx 0 0 3)))), (o 10, .inl (1, 3, .inr (.inl (va_cpy (moY r) opy 0 0 3))))]) (fun _ h => h.get 5 rfl) (fun j9 hj9 => cpy_full hj9) (fun _ h => h.set 5 _ rfl) ?_
  refine rn_cellI (J := xSt F V0 [(o 0, .inr (2, [.ref (o 1), .ref (o 2), .ref (o 3), .ref (o 4), .ref (o 5), .ref (o 6), .ref (o 7), .ref (o 8), .ref (o 9), .ref (o 10), .int ((r 0).toInt32)])), (o 3, .inl (0, 3, .inl (plX r))), (o 4, .inl (0, 3, .inl (plY r))), (o 5, .inl (1, 3, .inr (.inl (moX r)))), (o 6, .inl (1, 3, .inr (.inl (moY r)))), (o 7, .inl (0, 3, .inl (plX r))), (o 8, .inl (0, 3, .inl (plY r))), (o 9, .inl (1, 3, .inr (.inl (va_cpy (moX r) opx 0 0 3)))), (o 10, .inl (1, 3, .inr (.inl (va_cpy (moY r) opy 0 0 3))))]) (fun _ h => h.get 6 rfl) (fun j9 hj9 => cpy_full hj9) (fun _ h => h.set 6 _ rfl) ?_
  refine rn_cellJ (J := xSt F V0 [(o 0, .inr (2, [.ref (o 1), .ref (o 2), .ref (o 3), .ref (o 4), .ref (o 5), .ref (o 6), .ref (o 7), .ref (o 8), .ref (o 9), .ref (o 10), .int ((r 0).toInt32)])), (o 3, .inl (0, 3, .inl (plX r))), (o 4, .inl (0, 3, .inl (plY r))), (o 5, .inl (1, 3, .inr (.inl (moX r)))), (o 6, .inl (1, 3, .inr (.inl (moY r)))), (o 7, .inl (0, 3, .inl (plX r))), (o 8, .inl (0, 3, .inl (plY r))), (o 9, .inl (1, 3, .inr (.inl (moX r)))), (o 10, .inl (1, 3, .inr (.inl (va_cpy (moY r) opy 0 0 3))))]) (fun _ h => h.get 7 rfl) (fun j9 hj9 => cpy_full hj9) (fun _ h => h.set 7 _ rfl) ?_
  refine rn_cellJ (J := xSt F V0 [(o 0, .inr (2, [.ref (o 1), .ref (o 2), .ref (o 3), .ref (o 4), .ref (o 5), .ref (o 6), .ref (o 7), .ref (o 8), .ref (o 9), .ref (o 10), .int ((r 0).toInt32)])), (o 3, .inl (0, 3, .inl (plX r))), (o 4, .inl (0, 3, .inl (plY r))), (o 5, .inl (1, 3, .inr (.inl (moX r)))), (o 6, .inl (1, 3, .inr (.inl (moY r)))), (o 7, .inl (0, 3, .inl (plX r))), (o 8, .inl (0, 3, .inl (plY r))), (o 9, .inl (1, 3, .inr (.inl (moX r)))), (o 10, .inl (1, 3, .inr (.inl (moY r))))]) (fun _ h => h.get 8 rfl) (fun j9 hj9 => cpy_full hj9) (fun _ h => h.set 8 _ rfl) ?_
  exact r_vret hC (Nat.le_of_ble_eq_true rfl) (Nat.le_of_ble_eq_true rfl) (fun V9 h => hQ _ _ ⟨[(o 0, .inr (2, [.ref (o 1), .ref (o 2), .ref (o 3), .ref (o 4), .ref (o 5), .ref (o 6), .ref (o 7), .ref (o 8), .ref (o 9), .ref (o 10), .int ((r 0).toInt32)])), (o 3, .inl (0, 3, .inl (plX r))), (o 4, .inl (0, 3, .inl (plY r))), (o 5, .inl (1, 3, .inr (.inl (moX r)))), (o 6, .inl (1, 3, .inr (.inl (moY r)))), (o 7, .inl (0, 3, .inl (plX r))), (o 8, .inl (0, 3, .inl (plY r))), (o 9, .inl (1, 3, .inr (.inl (moX r)))), (o 10, .inl (1, 3, .inr (.inl (moY r))))], ⟨rfl, rfl⟩, by rw [← hV0, ← hF]; exact h⟩) dX3_keep_56
set_option maxHeartbeats 4000000 in
set_option maxRecDepth 100000 in
theorem metX3_layBack (l : Launch) (G : xG) (hG : xGood G) (o : Nat → Nat) (t r : Nat → Int64) (ox oy : Nat → Int32) (opx opy : Nat → Int64) (fx fy : Nat → Int32) (gx gy : Nat → Int64) : xWm l G yX3_layBack (Cond.code yX3_layBack cX3_layBack 1 none) { frames := 1, locals := 60, cells := 0, slots := 0 } [.ref (o 0)] [(o 0, .inr (2, [.ref (o 1), .ref (o 2), .ref (o 3), .ref (o 4), .ref (o 5), .ref (o 6), .ref (o 7), .ref (o 8), .ref (o 9), .ref (o 10), .int ((r 0).toInt32)])), (o 3, .inl (0, 3, .inl fx)), (o 4, .inl (0, 3, .inl fy)), (o 5, .inl (1, 3, .inr (.inl gx))), (o 6, .inl (1, 3, .inr (.inl gy))), (o 7, .inl (0, 3, .inl ox)), (o 8, .inl (0, 3, .inl oy)), (o 9, .inl (1, 3, .inr (.inl opx))), (o 10, .inl (1, 3, .inr (.inl opy)))] (fun v w' => v = none ∧ w' = [(o 0, .inr (2, [.ref (o 1), .ref (o 2), .ref (o 3), .ref (o 4), .ref (o 5), .ref (o 6), .ref (o 7), .ref (o 8), .ref (o 9), .ref (o 10), .int ((r 0).toInt32)])), (o 3, .inl (0, 3, .inl ox)), (o 4, .inl (0, 3, .inl oy)), (o 5, .inl (1, 3, .inr (.inl opx))), (o 6, .inl (1, 3, .inr (.inl opy))), (o 7, .inl (0, 3, .inl ox)), (o 8, .inl (0, 3, .inl oy)), (o 9, .inl (1, 3, .inr (.inl opx))), (o 10, .inl (1, 3, .inr (.inl opy)))]) (fun _ _ => False) := by
  intro V hV
  refine xMet_ofT RX3 hG rfl (by decide) (Nat.le_of_ble_eq_true rfl) fun C hC hQ hX hl hg _ hTab => ?_
  subst hl hg
  obtain ⟨V0, hV0⟩ : ∃ V0, V0 = V := ⟨_, rfl⟩
  obtain ⟨F, hF⟩ : ∃ F, F = xF [(o 0, .inr (2, [.ref (o 1), .ref (o 2), .ref (o 3), .ref (o 4), .ref (o 5), .ref (o 6), .ref (o 7), .ref (o 8), .ref (o 9), .ref (o 10), .int ((r 0).toInt32)])), (o 3, .inl (0, 3, .inl fx)), (o 4, .inl (0, 3, .inl fy)), (o 5, .inl (1, 3, .inr (.inl gx))), (o 6, .inl (1, 3, .inr (.inl gy))), (o 7, .inl (0, 3, .inl ox)), (o 8, .inl (0, 3, .inl oy)), (o 9, .inl (1, 3, .inr (.inl opx))), (o 10, .inl (1, 3, .inr (.inl opy)))] := ⟨_, rfl⟩
  refine rn.mono (J := xSt F V0 [(o 0, .inr (2, [.ref (o 1), .ref (o 2), .ref (o 3), .ref (o 4), .ref (o 5), .ref (o 6), .ref (o 7), .ref (o 8), .ref (o 9), .ref (o 10), .int ((r 0).toInt32)])), (o 3, .inl (0, 3, .inl fx)), (o 4, .inl (0, 3, .inl fy)), (o 5, .inl (1, 3, .inr (.inl gx))), (o 6, .inl (1, 3, .inr (.inl gy))), (o 7, .inl (0, 3, .inl ox)), (o 8, .inl (0, 3, .inl oy)), (o 9, .inl (1, 3, .inr (.inl opx))), (o 10, .inl (1, 3, .inr (.inl opy)))]) (fun V9 h => by rw [h, hV0, hF]; exact hV.st) ?_
  show rn C (xSt F V0 [(o 0, .inr (2, [.ref (o 1), .ref (o 2), .ref (o 3), .ref (o 4), .ref (o 5), .ref (o 6), .ref (o 7), .ref (o 8), .ref (o 9), .ref (o 10), .int ((r 0).toInt32)])), (o 3, .inl (0, 3, .inl fx)), (o 4, .inl (0, 3, .inl fy)), (o 5, .inl (1, 3, .inr (.inl gx))), (o 6, .inl (1, 3, .inr (.inl gy))), (o 7, .inl (0, 3, .inl ox)), (o 8, .inl (0, 3, .inl oy)), (o 9, .inl (1, 3, .inr (.inl opx))), (o 10, .inl (1, 3, .inr (.inl opy)))]) 0 0 0 [(0, .ref (o 0))] []
  refine r_aload_n hC 0 dX3_layBack_0 rfl 1 rfl ?_
  refine r_get (v := .ref (o 7)) hC kX3 6 rfl q194 (fun _ h => h.get 0 rfl) rfl dX3_layBack_1 4 rfl ?_
  refine r_iconst hC 0 dX3_layBack_4 ic_0 5 rfl ?_
  refine r_aload_n hC 0 dX3_layBack_5 rfl 6 rfl ?_
  refine r_get (v := .ref (o 3)) hC kX3 2 rfl q180 (fun _ h => h.get 0 rfl) rfl dX3_layBack_6 9 rfl ?_
  refine r_iconst hC 0 dX3_layBack_9 ic_0 10 rfl ?_
  refine r_iconst hC 3 dX3_layBack_10 ic_3 11 rfl ?_
  refine r_copyI (J := xSt F V0 [(o 0, .inr (2, [.ref (o 1), .ref (o 2), .ref (o 3), .ref (o 4), .ref (o 5), .ref (o 6), .ref (o 7), .ref (o 8), .ref (o 9), .ref (o 10), .int ((r 0).toInt32)])), (o 3, .inl (0, 3, .inl (va_cpy ox fx 0 0 3))), (o 4, .inl (0, 3, .inl fy)), (o 5, .inl (1, 3, .inr (.inl gx))), (o 6, .inl (1, 3, .inr (.inl gy))), (o 7, .inl (0, 3, .inl ox)), (o 8, .inl (0, 3, .inl oy)), (o 9, .inl (1, 3, .inr (.inl opx))), (o 10, .inl (1, 3, .inr (.inl opy)))]) hC 0 0 3 q670 (fun _ h => h.get 5 rfl) (fun _ h => h.get 1 rfl) (Nat.le_of_ble_eq_true rfl) (Nat.le_of_ble_eq_true rfl) (Nat.le_of_ble_eq_true rfl) (Nat.le_of_ble_eq_true rfl) (Nat.le_of_ble_eq_true rfl) (Nat.le_of_ble_eq_true rfl) (Nat.le_of_ble_eq_true rfl) dX3_layBack_11 (fun _ h => h.set 1 _ rfl) 14 rfl ?_
  refine r_aload_n hC 0 dX3_layBack_14 rfl 15 rfl ?_
  refine r_get (v := .ref (o 8)) hC kX3 7 rfl q195 (fun _ h => h.get 0 rfl) rfl dX3_layBack_15 18 rfl ?_
  refine r_iconst hC 0 dX3_layBack_18 ic_0 19 rfl ?_
  refine r_aload_n hC 0 dX3_layBack_19 rfl 20 rfl ?_
  refine r_get (v := .ref (o 4)) hC kX3 3 rfl q184 (fun _ h => h.get 0 rfl) rfl dX3_layBack_20 23 rfl ?_
  refine r_iconst hC 0 dX3_layBack_23 ic_0 24 rfl ?_
  refine r_iconst hC 3 dX3_layBack_24 ic_3 25 rfl ?_
  refine r_copyI (J := xSt F V0 [(o 0, .inr (2, [.ref (o 1), .ref (o 2), .ref (o 3), .ref (o 4), .ref (o 5), .ref (o 6), .ref (o 7), .ref (o 8), .ref (o 9), .ref (o 10), .int ((r 0).toInt32)])), (o 3, .inl (0, 3, .inl (va_cpy ox fx 0 0 3))), (o 4, .inl (0, 3, .inl (va_cpy oy fy 0 0 3))), (o 5, .inl (1, 3, .inr (.inl gx))), (o 6, .inl (1, 3, .inr (.inl gy))), (o 7, .inl (0, 3, .inl ox)), (o 8, .inl (0, 3, .inl oy)), (o 9, .inl (1, 3, .inr (.inl opx))), (o 10, .inl (1, 3, .inr (.inl opy)))]) hC 0 0 3 q670 (fun _ h => h.get 6 rfl) (fun _ h => h.get 2 rfl) (Nat.le_of_ble_eq_true rfl) (Nat.le_of_ble_eq_true rfl) (Nat.le_of_ble_eq_true rfl) (Nat.le_of_ble_eq_true rfl) (Nat.le_of_ble_eq_true rfl) (Nat.le_of_ble_eq_true rfl) (Nat.le_of_ble_eq_true rfl) dX3_layBack_25 (fun _ h => h.set 2 _ rfl) 28 rfl ?_
  refine r_aload_n hC 0 dX3_layBack_28 rfl 29 rfl ?_
  refine r_get (v := .ref (o 9)) hC kX3 8 rfl q196 (fun _ h => h.get 0 rfl) rfl dX3_layBack_29 32 rfl ?_
  refine r_iconst hC 0 dX3_layBack_32 ic_0 33 rfl ?_
  refine r_aload_n hC 0 dX3_layBack_33 rfl 34 rfl ?_
  refine r_get (v := .ref (o 5)) hC kX3 4 rfl q188 (fun _ h => h.get 0 rfl) rfl dX3_layBack_34 37 rfl ?_
  refine r_iconst hC 0 dX3_layBack_37 ic_0 38 rfl ?_
  refine r_iconst hC 3 dX3_layBack_38 ic_3 39 rfl ?_
  refine r_copyL (J := xSt F V0 [(o 0, .inr (2, [.ref (o 1), .ref (o 2), .ref (o 3), .ref (o 4), .ref (o 5), .ref (o 6), .ref (o 7), .ref (o 8), .ref (o 9), .ref (o 10), .int ((r 0).toInt32)])), (o 3, .inl (0, 3, .inl (va_cpy ox fx 0 0 3))), (o 4, .inl (0, 3, .inl (va_cpy oy fy 0 0 3))), (o 5, .inl (1, 3, .inr (.inl (va_cpy opx gx 0 0 3)))), (o 6, .inl (1, 3, .inr (.inl gy))), (o 7, .inl (0, 3, .inl ox)), (o 8, .inl (0, 3, .inl oy)), (o 9, .inl (1, 3, .inr (.inl opx))), (o 10, .inl (1, 3, .inr (.inl opy)))]) hC 0 0 3 q670 (fun _ h => h.get 7 rfl) (fun _ h => h.get 3 rfl) (Nat.le_of_ble_eq_true rfl) (Nat.le_of_ble_eq_true rfl) (Nat.le_of_ble_eq_true rfl) (Nat.le_of_ble_eq_true rfl) (Nat.le_of_ble_eq_true rfl) (Nat.le_of_ble_eq_true rfl) (Nat.le_of_ble_eq_true rfl) dX3_layBack_39 (fun _ h => h.set 3 _ rfl) 42 rfl ?_
  refine r_aload_n hC 0 dX3_layBack_42 rfl 43 rfl ?_
  refine r_get (v := .ref (o 10)) hC kX3 9 rfl q197 (fun _ h => h.get 0 rfl) rfl dX3_layBack_43 46 rfl ?_
  refine r_iconst hC 0 dX3_layBack_46 ic_0 47 rfl ?_
  refine r_aload_n hC 0 dX3_layBack_47 rfl 48 rfl ?_
  refine r_get (v := .ref (o 6)) hC kX3 5 rfl q191 (fun _ h => h.get 0 rfl) rfl dX3_layBack_48 51 rfl ?_
  refine r_iconst hC 0 dX3_layBack_51 ic_0 52 rfl ?_
  refine r_iconst hC 3 dX3_layBack_52 ic_3 53 rfl ?_
  refine r_copyL (J := xSt F V0 [(o 0, .inr (2, [.ref (o 1), .ref (o 2), .ref (o 3), .ref (o 4), .ref (o 5), .ref (o 6), .ref (o 7), .ref (o 8), .ref (o 9), .ref (o 10), .int ((r 0).toInt32)])), (o 3, .inl (0, 3, .inl (va_cpy ox fx 0 0 3))), (o 4, .inl (0, 3, .inl (va_cpy oy fy 0 0 3))), (o 5, .inl (1, 3, .inr (.inl (va_cpy opx gx 0 0 3)))), (o 6, .inl (1, 3, .inr (.inl (va_cpy opy gy 0 0 3)))), (o 7, .inl (0, 3, .inl ox)), (o 8, .inl (0, 3, .inl oy)), (o 9, .inl (1, 3, .inr (.inl opx))), (o 10, .inl (1, 3, .inr (.inl opy)))]) hC 0 0 3 q670 (fun _ h => h.get 8 rfl) (fun _ h => h.get 4 rfl) (Nat.le_of_ble_eq_true rfl) (Nat.le_of_ble_eq_true rfl) (Nat.le_of_ble_eq_true rfl) (Nat.le_of_ble_eq_true rfl) (Nat.le_of_ble_eq_true rfl) (Nat.le_of_ble_eq_true rfl) (Nat.le_of_ble_eq_true rfl) dX3_layBack_53 (fun _ h => h.set 4 _ rfl) 56 rfl ?_
  refine rn_cellI (J := xSt F V0 [(o 0, .inr (2, [.ref (o 1), .ref (o 2), .ref (o 3), .ref (o 4), .ref (o 5), .ref (o 6), .ref (o 7), .ref (o 8), .ref (o 9), .ref (o 10), .int ((r 0).toInt32)])), (o 3, .inl (0, 3, .inl ox)), (o 4, .inl (0, 3, .inl (va_cpy oy fy 0 0 3))), (o 5, .inl (1, 3, .inr (.inl (va_cpy opx gx 0 0 3)))), (o 6, .inl (1, 3, .inr (.inl (va_cpy opy gy 0 0 3)))), (o 7, .inl (0, 3, .inl ox)), (o 8, .inl (0, 3, .inl oy)), (o 9, .inl (1, 3, .inr (.inl opx))), (o 10, .inl (1, 3, .inr (.inl opy)))]) (fun _ h => h.get 1 rfl) (fun j9 hj9 => cpy_full hj9) (fun _ h => h.set 1 _ rfl) ?_
  refine rn_cellI (J := xSt F V0 [(o 0, .inr (2, [.ref (o 1), .ref (o 2), .ref (o 3), .ref (o 4), .ref (o 5), .ref (o 6), .ref (o 7), .ref (o 8), .ref (o 9), .ref (o 10), .int ((r 0).toInt32)])), (o 3, .inl (0, 3, .inl ox)), (o 4, .inl (0, 3, .inl oy)), (o 5, .inl (1, 3, .inr (.inl (va_cpy opx gx 0 0 3)))), (o 6, .inl (1, 3, .inr (.inl (va_cpy opy gy 0 0 3)))), (o 7, .inl (0, 3, .inl ox)), (o 8, .inl (0, 3, .inl oy)), (o 9, .inl (1, 3, .inr (.inl opx))), (o 10, .inl (1, 3, .inr (.inl opy)))]) (fun _ h => h.get 2 rfl) (fun j9 hj9 => cpy_full hj9) (fun _ h => h.set 2 _ rfl) ?_
  refine rn_cellJ (J := xSt F V0 [(o 0, .inr (2, [.ref (o 1), .ref (o 2), .ref (o 3), .ref (o 4), .ref (o 5), .ref (o 6), .ref (o 7), .ref (o 8), .ref (o 9), .ref (o 10), .int ((r 0).toInt32)])), (o 3, .inl (0, 3, .inl ox)), (o 4, .inl (0, 3, .inl oy)), (o 5, .inl (1, 3, .inr (.inl opx))), (o 6, .inl (1, 3, .inr (.inl (va_cpy opy gy 0 0 3)))), (o 7, .inl (0, 3, .inl ox)), (o 8, .inl (0, 3, .inl oy)), (o 9, .inl (1, 3, .inr (.inl opx))), (o 10, .inl (1, 3, .inr (.inl opy)))]) (fun _ h => h.get 3 rfl) (fun j9 hj9 => cpy_full hj9) (fun _ h => h.set 3 _ rfl) ?_
  refine rn_cellJ (J := xSt F V0 [(o 0, .inr (2, [.ref (o 1), .ref (o 2), .ref (o 3), .ref (o 4), .ref (o 5), .ref (o 6), .ref (o 7), .ref (o 8), .ref (o 9), .ref (o 10), .int ((r 0).toInt32)])), (o 3, .inl (0, 3, .inl ox)), (o 4, .inl (0, 3, .inl oy)), (o 5, .inl (1, 3, .inr (.inl opx))), (o 6, .inl (1, 3, .inr (.inl opy))), (o 7, .inl (0, 3, .inl ox)), (o 8, .inl (0, 3, .inl oy)), (o 9, .inl (1, 3, .inr (.inl opx))), (o 10, .inl (1, 3, .inr (.inl opy)))]) (fun _ h => h.get 4 rfl) (fun j9 hj9 => cpy_full hj9) (fun _ h => h.set 4 _ rfl) ?_
  exact r_vret hC (Nat.le_of_ble_eq_true rfl) (Nat.le_of_ble_eq_true rfl) (fun V9 h => hQ _ _ ⟨[(o 0, .inr (2, [.ref (o 1), .ref (o 2), .ref (o 3), .ref (o 4), .ref (o 5), .ref (o 6), .ref (o 7), .ref (o 8), .ref (o 9), .ref (o 10), .int ((r 0).toInt32)])), (o 3, .inl (0, 3, .inl ox)), (o 4, .inl (0, 3, .inl oy)), (o 5, .inl (1, 3, .inr (.inl opx))), (o 6, .inl (1, 3, .inr (.inl opy))), (o 7, .inl (0, 3, .inl ox)), (o 8, .inl (0, 3, .inl oy)), (o 9, .inl (1, 3, .inr (.inl opx))), (o 10, .inl (1, 3, .inr (.inl opy)))], ⟨rfl, rfl⟩, by rw [← hV0, ← hF]; exact h⟩) dX3_layBack_56
set_option maxHeartbeats 4000000 in
set_option maxRecDepth 100000 in
theorem metX3_become (l : Launch) (G : xG) (hG : xGood G) (o u : Nat → Nat) (t r tu ru : Nat → Int64) : xWm l G yX3_become (Cond.code yX3_become cX3_become 2 none) { frames := 1, locals := 60, cells := 0, slots := 0 } [.ref (o 0), .ref (u 0)] [(o 0, .inr (2, [.ref (o 1), .ref (o 2), .ref (o 3), .ref (o 4), .ref (o 5), .ref (o 6), .ref (o 7), .ref (o 8), .ref (o 9), .ref (o 10), .int ((r 0).toInt32)])), (o 1, .inl (0, 6, .inl (seF t r))), (o 2, .inl (0, 3, .inl (maF r))), (o 3, .inl (0, 3, .inl (plX r))), (o 4, .inl (0, 3, .inl (plY r))), (o 5, .inl (1, 3, .inr (.inl (moX r)))), (o 6, .inl (1, 3, .inr (.inl (moY r)))), (u 0, .inr (2, [.ref (u 1), .ref (u 2), .ref (u 3), .ref (u 4), .ref (u 5), .ref (u 6), .ref (u 7), .ref (u 8), .ref (u 9), .ref (u 10), .int ((ru 0).toInt32)])), (u 1, .inl (0, 6, .inl (seF tu ru))), (u 2, .inl (0, 3, .inl (maF ru))), (u 3, .inl (0, 3, .inl (plX ru))), (u 4, .inl (0, 3, .inl (plY ru))), (u 5, .inl (1, 3, .inr (.inl (moX ru)))), (u 6, .inl (1, 3, .inr (.inl (moY ru))))] (fun v w' => v = none ∧ w' = [(o 0, .inr (2, [.ref (o 1), .ref (o 2), .ref (o 3), .ref (o 4), .ref (o 5), .ref (o 6), .ref (o 7), .ref (o 8), .ref (o 9), .ref (o 10), .int ((ru 0).toInt32)])), (o 1, .inl (0, 6, .inl (seF tu ru))), (o 2, .inl (0, 3, .inl (maF ru))), (o 3, .inl (0, 3, .inl (plX ru))), (o 4, .inl (0, 3, .inl (plY ru))), (o 5, .inl (1, 3, .inr (.inl (moX ru)))), (o 6, .inl (1, 3, .inr (.inl (moY ru)))), (u 0, .inr (2, [.ref (u 1), .ref (u 2), .ref (u 3), .ref (u 4), .ref (u 5), .ref (u 6), .ref (u 7), .ref (u 8), .ref (u 9), .ref (u 10), .int ((ru 0).toInt32)])), (u 1, .inl (0, 6, .inl (seF tu ru))), (u 2, .inl (0, 3, .inl (maF ru))), (u 3, .inl (0, 3, .inl (plX ru))), (u 4, .inl (0, 3, .inl (plY ru))), (u 5, .inl (1, 3, .inr (.inl (moX ru)))), (u 6, .inl (1, 3, .inr (.inl (moY ru))))]) (fun _ _ => False) := by
  intro V hV
  refine xMet_ofT RX3 hG rfl (by decide) (Nat.le_of_ble_eq_true rfl) fun C hC hQ hX hl hg _ hTab => ?_
  subst hl hg
  obtain ⟨V0, hV0⟩ : ∃ V0, V0 = V := ⟨_, rfl⟩
  obtain ⟨F, hF⟩ : ∃ F, F = xF [(o 0, .inr (2, [.ref (o 1), .ref (o 2), .ref (o 3), .ref (o 4), .ref (o 5), .ref (o 6), .ref (o 7), .ref (o 8), .ref (o 9), .ref (o 10), .int ((r 0).toInt32)])), (o 1, .inl (0, 6, .inl (seF t r))), (o 2, .inl (0, 3, .inl (maF r))), (o 3, .inl (0, 3, .inl (plX r))), (o 4, .inl (0, 3, .inl (plY r))), (o 5, .inl (1, 3, .inr (.inl (moX r)))), (o 6, .inl (1, 3, .inr (.inl (moY r)))), (u 0, .inr (2, [.ref (u 1), .ref (u 2), .ref (u 3), .ref (u 4), .ref (u 5), .ref (u 6), .ref (u 7), .ref (u 8), .ref (u 9), .ref (u 10), .int ((ru 0).toInt32)])), (u 1, .inl (0, 6, .inl (seF tu ru))), (u 2, .inl (0, 3, .inl (maF ru))), (u 3, .inl (0, 3, .inl (plX ru))), (u 4, .inl (0, 3, .inl (plY ru))), (u 5, .inl (1, 3, .inr (.inl (moX ru)))), (u 6, .inl (1, 3, .inr (.inl (moY ru))))] := ⟨_, rfl⟩
  refine rn.mono (J := xSt F V0 [(o 0, .inr (2, [.ref (o 1), .ref (o 2), .ref (o 3), .ref (o 4), .ref (o 5), .ref (o 6), .ref (o 7), .ref (o 8), .ref (o 9), .ref (o 10), .int ((r 0).toInt32)])), (o 1, .inl (0, 6, .inl (seF t r))), (o 2, .inl (0, 3, .inl (maF r))), (o 3, .inl (0, 3, .inl (plX r))), (o 4, .inl (0, 3, .inl (plY r))), (o 5, .inl (1, 3, .inr (.inl (moX r)))), (o 6, .inl (1, 3, .inr (.inl (moY r)))), (u 0, .inr (2, [.ref (u 1), .ref (u 2), .ref (u 3), .ref (u 4), .ref (u 5), .ref (u 6), .ref (u 7), .ref (u 8), .ref (u 9), .ref (u 10), .int ((ru 0).toInt32)])), (u 1, .inl (0, 6, .inl (seF tu ru))), (u 2, .inl (0, 3, .inl (maF ru))), (u 3, .inl (0, 3, .inl (plX ru))), (u 4, .inl (0, 3, .inl (plY ru))), (u 5, .inl (1, 3, .inr (.inl (moX ru)))), (u 6, .inl (1, 3, .inr (.inl (moY ru))))]) (fun V9 h => by rw [h, hV0, hF]; exact hV.st) ?_
  show rn C (xSt F V0 [(o 0, .inr (2, [.ref (o 1), .ref (o 2), .ref (o 3), .ref (o 4), .ref (o 5), .ref (o 6), .ref (o 7), .ref (o 8), .ref (o 9), .ref (o 10), .int ((r 0).toInt32)])), (o 1, .inl (0, 6, .inl (seF t r))), (o 2, .inl (0, 3, .inl (maF r))), (o 3, .inl (0, 3, .inl (plX r))), (o 4, .inl (0, 3, .inl (plY r))), (o 5, .inl (1, 3, .inr (.inl (moX r)))), (o 6, .inl (1, 3, .inr (.inl (moY r)))), (u 0, .inr (2, [.ref (u 1), .ref (u 2), .ref (u 3), .ref (u 4), .ref (u 5), .ref (u 6), .ref (u 7), .ref (u 8), .ref (u 9), .ref (u 10), .int ((ru 0).toInt32)])), (u 1, .inl (0, 6, .inl (seF tu ru))), (u 2, .inl (0, 3, .inl (maF ru))), (u 3, .inl (0, 3, .inl (plX ru))), (u 4, .inl (0, 3, .inl (plY ru))), (u 5, .inl (1, 3, .inr (.inl (moX ru)))), (u 6, .inl (1, 3, .inr (.inl (moY ru))))]) 0 0 0 [(0, .ref (o 0)), (1, .ref (u 0))] []
  refine r_aload_n hC 1 dX3_become_0 rfl 1 rfl ?_
  refine r_get (v := .ref (u 1)) hC kX3 0 rfl q173 (fun _ h => h.get 7 rfl) rfl dX3_become_1 4 rfl ?_
  refine r_iconst hC 0 dX3_become_4 ic_0 5 rfl ?_
  refine r_aload_n hC 0 dX3_become_5 rfl 6 rfl ?_
  refine r_get (v := .ref (o 1)) hC kX3 0 rfl q173 (fun _ h => h.get 0 rfl) rfl dX3_become_6 9 rfl ?_
  refine r_iconst hC 0 dX3_become_9 ic_0 10 rfl ?_
  refine r_bipush hC 6 dX3_become_10 bp_6 12 rfl ?_
  refine r_copyI (J := xSt F V0 [(o 0, .inr (2, [.ref (o 1), .ref (o 2), .ref (o 3), .ref (o 4), .ref (o 5), .ref (o 6), .ref (o 7), .ref (o 8), .ref (o 9), .ref (o 10), .int ((r 0).toInt32)])), (o 1, .inl (0, 6, .inl (va_cpy (seF tu ru) (seF t r) 0 0 6))), (o 2, .inl (0, 3, .inl (maF r))), (o 3, .inl (0, 3, .inl (plX r))), (o 4, .inl (0, 3, .inl (plY r))), (o 5, .inl (1, 3, .inr (.inl (moX r)))), (o 6, .inl (1, 3, .inr (.inl (moY r)))), (u 0, .inr (2, [.ref (u 1), .ref (u 2), .ref (u 3), .ref (u 4), .ref (u 5), .ref (u 6), .ref (u 7), .ref (u 8), .ref (u 9), .ref (u 10), .int ((ru 0).toInt32)])), (u 1, .inl (0, 6, .inl (seF tu ru))), (u 2, .inl (0, 3, .inl (maF ru))), (u 3, .inl (0, 3, .inl (plX ru))), (u 4, .inl (0, 3, .inl (plY ru))), (u 5, .inl (1, 3, .inr (.inl (moX ru)))), (u 6, .inl (1, 3, .inr (.inl (moY ru))))]) hC 0 0 6 q670 (fun _ h => h.get 8 rfl) (fun _ h => h.get 1 rfl) (Nat.le_of_ble_eq_true rfl) (Nat.le_of_ble_eq_true rfl) (Nat.le_of_ble_eq_true rfl) (Nat.le_of_ble_eq_true rfl) (Nat.le_of_ble_eq_true rfl) (Nat.le_of_ble_eq_true rfl) (Nat.le_of_ble_eq_true rfl) dX3_become_12 (fun _ h => h.set 1 _ rfl) 15 rfl ?_
  refine r_aload_n hC 1 dX3_become_15 rfl 16 rfl ?_
  refine r_get (v := .ref (u 2)) hC kX3 1 rfl q177 (fun _ h => h.get 7 rfl) rfl dX3_become_16 19 rfl ?_
  refine r_iconst hC 0 dX3_become_19 ic_0 20 rfl ?_
  refine r_aload_n hC 0 dX3_become_20 rfl 21 rfl ?_
  refine r_get (v := .ref (o 2)) hC kX3 1 rfl q177 (fun _ h => h.get 0 rfl) rfl dX3_become_21 24 rfl ?_
  refine r_iconst hC 0 dX3_become_24 ic_0 25 rfl ?_
  refine r_iconst hC 3 dX3_become_25 ic_3 26 rfl ?_
  refine r_copyI (J := xSt F V0 [(o 0, .inr (2, [.ref (o 1), .ref (o 2), .ref (o 3), .ref (o 4), .ref (o 5), .ref (o 6), .ref (o 7), .ref (o 8), .ref (o 9), .ref (o 10), .int ((r 0).toInt32)])), (o 1, .inl (0, 6, .inl (va_cpy (seF tu ru) (seF t r) 0 0 6))), (o 2, .inl (0, 3, .inl (va_cpy (maF ru) (maF r) 0 0 3))), (o 3, .inl (0, 3, .inl (plX r))), (o 4, .inl (0, 3, .inl (plY r))), (o 5, .inl (1, 3, .inr (.inl (moX r)))), (o 6, .inl (1, 3, .inr (.inl (moY r)))), (u 0, .inr (2, [.ref (u 1), .ref (u 2), .ref (u 3), .ref (u 4), .ref (u 5), .ref (u 6), .ref (u 7), .ref (u 8), .ref (u 9), .ref (u 10), .int ((ru 0).toInt32)])), (u 1, .inl (0, 6, .inl (seF tu ru))), (u 2, .inl (0, 3, .inl (maF ru))), (u 3, .inl (0, 3, .inl (plX ru))), (u 4, .inl (0, 3, .inl (plY ru))), (u 5, .inl (1, 3, .inr (.inl (moX ru)))), (u 6, .inl (1, 3, .inr (.inl (moY ru))))]) hC 0 0 3 q670 (fun _ h => h.get 9 rfl) (fun _ h => h.get 2 rfl) (Nat.le_of_ble_eq_true rfl) (Nat.le_of_ble_eq_true rfl) (Nat.le_of_ble_eq_true rfl) (Nat.le_of_ble_eq_true rfl) (Nat.le_of_ble_eq_true rfl) (Nat.le_of_ble_eq_true rfl) (Nat.le_of_ble_eq_true rfl) dX3_become_26 (fun _ h => h.set 2 _ rfl) 29 rfl ?_
  refine r_aload_n hC 1 dX3_become_29 rfl 30 rfl ?_
  refine r_get (v := .ref (u 3)) hC kX3 2 rfl q180 (fun _ h => h.get 7 rfl) rfl dX3_become_30 33 rfl ?_
  refine r_iconst hC 0 dX3_become_33 ic_0 34 rfl ?_
  refine r_aload_n hC 0 dX3_become_34 rfl 35 rfl ?_
  refine r_get (v := .ref (o 3)) hC kX3 2 rfl q180 (fun _ h => h.get 0 rfl) rfl dX3_become_35 38 rfl ?_
  refine r_iconst hC 0 dX3_become_38 ic_0 39 rfl ?_
  refine r_iconst hC 3 dX3_become_39 ic_3 40 rfl ?_
  refine r_copyI (J := xSt F V0 [(o 0, .inr (2, [.ref (o 1), .ref (o 2), .ref (o 3), .ref (o 4), .ref (o 5), .ref (o 6), .ref (o 7), .ref (o 8), .ref (o 9), .ref (o 10), .int ((r 0).toInt32)])), (o 1, .inl (0, 6, .inl (va_cpy (seF tu ru) (seF t r) 0 0 6))), (o 2, .inl (0, 3, .inl (va_cpy (maF ru) (maF r) 0 0 3))), (o 3, .inl (0, 3, .inl (va_cpy (plX ru) (plX r) 0 0 3))), (o 4, .inl (0, 3, .inl (plY r))), (o 5, .inl (1, 3, .inr (.inl (moX r)))), (o 6, .inl (1, 3, .inr (.inl (moY r)))), (u 0, .inr (2, [.ref (u 1), .ref (u 2), .ref (u 3), .ref (u 4), .ref (u 5), .ref (u 6), .ref (u 7), .ref (u 8), .ref (u 9), .ref (u 10), .int ((ru 0).toInt32)])), (u 1, .inl (0, 6, .inl (seF tu ru))), (u 2, .inl (0, 3, .inl (maF ru))), (u 3, .inl (0, 3, .inl (plX ru))), (u 4, .inl (0, 3, .inl (plY ru))), (u 5, .inl (1, 3, .inr (.inl (moX ru)))), (u 6, .inl (1, 3, .inr (.inl (moY ru))))]) hC 0 0 3 q670 (fun _ h => h.get 10 rfl) (fun _ h => h.get 3 rfl) (Nat.le_of_ble_eq_true rfl) (Nat.le_of_ble_eq_true rfl) (Nat.le_of_ble_eq_true rfl) (Nat.le_of_ble_eq_true rfl) (Nat.le_of_ble_eq_true rfl) (Nat.le_of_ble_eq_true rfl) (Nat.le_of_ble_eq_true rfl) dX3_become_40 (fun _ h => h.set 3 _ rfl) 43 rfl ?_
  refine r_aload_n hC 1 dX3_become_43 rfl 44 rfl ?_
  refine r_get (v := .ref (u 4)) hC kX3 3 rfl q184 (fun _ h => h.get 7 rfl) rfl dX3_become_44 47 rfl ?_
  refine r_iconst hC 0 dX3_become_47 ic_0 48 rfl ?_
  refine r_aload_n hC 0 dX3_become_48 rfl 49 rfl ?_
  refine r_get (v := .ref (o 4)) hC kX3 3 rfl q184 (fun _ h => h.get 0 rfl) rfl dX3_become_49 52 rfl ?_
  refine r_iconst hC 0 dX3_become_52 ic_0 53 rfl ?_
  refine r_iconst hC 3 dX3_become_53 ic_3 54 rfl ?_
  refine r_copyI (J := xSt F V0 [(o 0, .inr (2, [.ref (o 1), .ref (o 2), .ref (o 3), .ref (o 4), .ref (o 5), .ref (o 6), .ref (o 7), .ref (o 8), .ref (o 9), .ref (o 10), .int ((r 0).toInt32)])), (o 1, .inl (0, 6, .inl (va_cpy (seF tu ru) (seF t r) 0 0 6))), (o 2, .inl (0, 3, .inl (va_cpy (maF ru) (maF r) 0 0 3))), (o 3, .inl (0, 3, .inl (va_cpy (plX ru) (plX r) 0 0 3))), (o 4, .inl (0, 3, .inl (va_cpy (plY ru) (plY r) 0 0 3))), (o 5, .inl (1, 3, .inr (.inl (moX r)))), (o 6, .inl (1, 3, .inr (.inl (moY r)))), (u 0, .inr (2, [.ref (u 1), .ref (u 2), .ref (u 3), .ref (u 4), .ref (u 5), .ref (u 6), .ref (u 7), .ref (u 8), .ref (u 9), .ref (u 10), .int ((ru 0).toInt32)])), (u 1, .inl (0, 6, .inl (seF tu ru))), (u 2, .inl (0, 3, .inl (maF ru))), (u 3, .inl (0, 3, .inl (plX ru))), (u 4, .inl (0, 3, .inl (plY ru))), (u 5, .inl (1, 3, .inr (.inl (moX ru)))), (u 6, .inl (1, 3, .inr (.inl (moY ru))))]) hC 0 0 3 q670 (fun _ h => h.get 11 rfl) (fun _ h => h.get 4 rfl) (Nat.le_of_ble_eq_true rfl) (Nat.le_of_ble_eq_true rfl) (Nat.le_of_ble_eq_true rfl) (Nat.le_of_ble_eq_true rfl) (Nat.le_of_ble_eq_true rfl) (Nat.le_of_ble_eq_true rfl) (Nat.le_of_ble_eq_true rfl) dX3_become_54 (fun _ h => h.set 4 _ rfl) 57 rfl ?_
  refine r_aload_n hC 1 dX3_become_57 rfl 58 rfl ?_
  refine r_get (v := .ref (u 5)) hC kX3 4 rfl q188 (fun _ h => h.get 7 rfl) rfl dX3_become_58 61 rfl ?_
  refine r_iconst hC 0 dX3_become_61 ic_0 62 rfl ?_
  refine r_aload_n hC 0 dX3_become_62 rfl 63 rfl ?_
  refine r_get (v := .ref (o 5)) hC kX3 4 rfl q188 (fun _ h => h.get 0 rfl) rfl dX3_become_63 66 rfl ?_
  refine r_iconst hC 0 dX3_become_66 ic_0 67 rfl ?_
  refine r_iconst hC 3 dX3_become_67 ic_3 68 rfl ?_
  refine r_copyL (J := xSt F V0 [(o 0, .inr (2, [.ref (o 1), .ref (o 2), .ref (o 3), .ref (o 4), .ref (o 5), .ref (o 6), .ref (o 7), .ref (o 8), .ref (o 9), .ref (o 10), .int ((r 0).toInt32)])), (o 1, .inl (0, 6, .inl (va_cpy (seF tu ru) (seF t r) 0 0 6))), (o 2, .inl (0, 3, .inl (va_cpy (maF ru) (maF r) 0 0 3))), (o 3, .inl (0, 3, .inl (va_cpy (plX ru) (plX r) 0 0 3))), (o 4, .inl (0, 3, .inl (va_cpy (plY ru) (plY r) 0 0 3))), (o 5, .inl (1, 3, .inr (.inl (va_cpy (moX ru) (moX r) 0 0 3)))), (o 6, .inl (1, 3, .inr (.inl (moY r)))), (u 0, .inr (2, [.ref (u 1), .ref (u 2), .ref (u 3), .ref (u 4), .ref (u 5), .ref (u 6), .ref (u 7), .ref (u 8), .ref (u 9), .ref (u 10), .int ((ru 0).toInt32)])), (u 1, .inl (0, 6, .inl (seF tu ru))), (u 2, .inl (0, 3, .inl (maF ru))), (u 3, .inl (0, 3, .inl (plX ru))), (u 4, .inl (0, 3, .inl (plY ru))), (u 5, .inl (1, 3, .inr (.inl (moX ru)))), (u 6, .inl (1, 3, .inr (.inl (moY ru))))]) hC 0 0 3 q670 (fun _ h => h.get 12 rfl) (fun _ h => h.get 5 rfl) (Nat.le_of_ble_eq_true rfl) (Nat.le_of_ble_eq_true rfl) (Nat.le_of_ble_eq_true rfl) (Nat.le_of_ble_eq_true rfl) (Nat.le_of_ble_eq_true rfl) (Nat.le_of_ble_eq_true rfl) (Nat.le_of_ble_eq_true rfl) dX3_become_68 (fun _ h => h.set 5 _ rfl) 71 rfl ?_
  refine r_aload_n hC 1 dX3_become_71 rfl 72 rfl ?_
  refine r_get (v := .ref (u 6)) hC kX3 5 rfl q191 (fun _ h => h.get 7 rfl) rfl dX3_become_72 75 rfl ?_
  refine r_iconst hC 0 dX3_become_75 ic_0 76 rfl ?_
  refine r_aload_n hC 0 dX3_become_76 rfl 77 rfl ?_
  refine r_get (v := .ref (o 6)) hC kX3 5 rfl q191 (fun _ h => h.get 0 rfl) rfl dX3_become_77 80 rfl ?_
  refine r_iconst hC 0 dX3_become_80 ic_0 81 rfl ?_
  refine r_iconst hC 3 dX3_become_81 ic_3 82 rfl ?_
  refine r_copyL (J := xSt F V0 [(o 0, .inr (2, [.ref (o 1), .ref (o 2), .ref (o 3), .ref (o 4), .ref (o 5), .ref (o 6), .ref (o 7), .ref (o 8), .ref (o 9), .ref (o 10), .int ((r 0).toInt32)])), (o 1, .inl (0, 6, .inl (va_cpy (seF tu ru) (seF t r) 0 0 6))), (o 2, .inl (0, 3, .inl (va_cpy (maF ru) (maF r) 0 0 3))), (o 3, .inl (0, 3, .inl (va_cpy (plX ru) (plX r) 0 0 3))), (o 4, .inl (0, 3, .inl (va_cpy (plY ru) (plY r) 0 0 3))), (o 5, .inl (1, 3, .inr (.inl (va_cpy (moX ru) (moX r) 0 0 3)))), (o 6, .inl (1, 3, .inr (.inl (va_cpy (moY ru) (moY r) 0 0 3)))), (u 0, .inr (2, [.ref (u 1), .ref (u 2), .ref (u 3), .ref (u 4), .ref (u 5), .ref (u 6), .ref (u 7), .ref (u 8), .ref (u 9), .ref (u 10), .int ((ru 0).toInt32)])), (u 1, .inl (0, 6, .inl (seF tu ru))), (u 2, .inl (0, 3, .inl (maF ru))), (u 3, .inl (0, 3, .inl (plX ru))), (u 4, .inl (0, 3, .inl (plY ru))), (u 5, .inl (1, 3, .inr (.inl (moX ru)))), (u 6, .inl (1, 3, .inr (.inl (moY ru))))]) hC 0 0 3 q670 (fun _ h => h.get 13 rfl) (fun _ h => h.get 6 rfl) (Nat.le_of_ble_eq_true rfl) (Nat.le_of_ble_eq_true rfl) (Nat.le_of_ble_eq_true rfl) (Nat.le_of_ble_eq_true rfl) (Nat.le_of_ble_eq_true rfl) (Nat.le_of_ble_eq_true rfl) (Nat.le_of_ble_eq_true rfl) dX3_become_82 (fun _ h => h.set 6 _ rfl) 85 rfl ?_
  refine r_aload_n hC 0 dX3_become_85 rfl 86 rfl ?_
  refine r_aload_n hC 1 dX3_become_86 rfl 87 rfl ?_
  refine r_get (v := .int ((ru 0).toInt32)) hC kX3 10 rfl q198 (fun _ h => h.get 7 rfl) rfl dX3_become_87 90 rfl ?_
  refine r_put (J := xSt F V0 [(o 0, .inr (2, [.ref (o 1), .ref (o 2), .ref (o 3), .ref (o 4), .ref (o 5), .ref (o 6), .ref (o 7), .ref (o 8), .ref (o 9), .ref (o 10), .int ((ru 0).toInt32)])), (o 1, .inl (0, 6, .inl (va_cpy (seF tu ru) (seF t r) 0 0 6))), (o 2, .inl (0, 3, .inl (va_cpy (maF ru) (maF r) 0 0 3))), (o 3, .inl (0, 3, .inl (va_cpy (plX ru) (plX r) 0 0 3))), (o 4, .inl (0, 3, .inl (va_cpy (plY ru) (plY r) 0 0 3))), (o 5, .inl (1, 3, .inr (.inl (va_cpy (moX ru) (moX r) 0 0 3)))), (o 6, .inl (1, 3, .inr (.inl (va_cpy (moY ru) (moY r) 0 0 3)))), (u 0, .inr (2, [.ref (u 1), .ref (u 2), .ref (u 3), .ref (u 4), .ref (u 5), .ref (u 6), .ref (u 7), .ref (u 8), .ref (u 9), .ref (u 10), .int ((ru 0).toInt32)])), (u 1, .inl (0, 6, .inl (seF tu ru))), (u 2, .inl (0, 3, .inl (maF ru))), (u 3, .inl (0, 3, .inl (plX ru))), (u 4, .inl (0, 3, .inl (plY ru))), (u 5, .inl (1, 3, .inr (.inl (moX ru)))), (u 6, .inl (1, 3, .inr (.inl (moY ru))))]) hC kX3 10 rfl q198 rfl (fun _ h => h.get 0 rfl) (Nat.le_of_ble_eq_true rfl) (rfl) (rfl) dX3_become_90 (fun _ h => h.set 0 _ rfl) 93 rfl ?_
  refine rn_cellI (J := xSt F V0 [(o 0, .inr (2, [.ref (o 1), .ref (o 2), .ref (o 3), .ref (o 4), .ref (o 5), .ref (o 6), .ref (o 7), .ref (o 8), .ref (o 9), .ref (o 10), .int ((ru 0).toInt32)])), (o 1, .inl (0, 6, .inl (seF tu ru))), (o 2, .inl (0, 3, .inl (va_cpy (maF ru) (maF r) 0 0 3))), (o 3, .inl (0, 3, .inl (va_cpy (plX ru) (plX r) 0 0 3))), (o 4, .inl (0, 3, .inl (va_cpy (plY ru) (plY r) 0 0 3))), (o 5, .inl (1, 3, .inr (.inl (va_cpy (moX ru) (moX r) 0 0 3)))), (o 6, .inl (1, 3, .inr (.inl (va_cpy (moY ru) (moY r) 0 0 3)))), (u 0, .inr (2, [.ref (u 1), .ref (u 2), .ref (u 3), .ref (u 4), .ref (u 5), .ref (u 6), .ref (u 7), .ref (u 8), .ref (u 9), .ref (u 10), .int ((ru 0).toInt32)])), (u 1, .inl (0, 6, .inl (seF tu ru))), (u 2, .inl (0, 3, .inl (maF ru))), (u 3, .inl (0, 3, .inl (plX ru))), (u 4, .inl (0, 3, .inl (plY ru))), (u 5, .inl (1, 3, .inr (.inl (moX ru)))), (u 6, .inl (1, 3, .inr (.inl (moY ru))))]) (fun _ h => h.get 1 rfl) (fun j9 hj9 => cpy_full hj9) (fun _ h => h.set 1 _ rfl) ?_
  refine rn_cellI (J := xSt F V0 [(o 0, .inr (2, [.ref (o 1), .ref (o 2), .ref (o 3), .ref (o 4), .ref (o 5), .ref (o 6), .ref (o 7), .ref (o 8), .ref (o 9), .ref (o 10), .int ((ru 0).toInt32)])), (o 1, .inl (0, 6, .inl (seF tu ru))), (o 2, .inl (0, 3, .inl (maF ru))), (o 3, .inl (0, 3, .inl (va_cpy (plX ru) (plX r) 0 0 3))), (o 4, .inl (0, 3, .inl (va_cpy (plY ru) (plY r) 0 0 3))), (o 5, .inl (1, 3, .inr (.inl (va_cpy (moX ru) (moX r) 0 0 3)))), (o 6, .inl (1, 3, .inr (.inl (va_cpy (moY ru) (moY r) 0 0 3)))), (u 0, .inr (2, [.ref (u 1), .ref (u 2), .ref (u 3), .ref (u 4), .ref (u 5), .ref (u 6), .ref (u 7), .ref (u 8), .ref (u 9), .ref (u 10), .int ((ru 0).toInt32)])), (u 1, .inl (0, 6, .inl (seF tu ru))), (u 2, .inl (0, 3, .inl (maF ru))), (u 3, .inl (0, 3, .inl (plX ru))), (u 4, .inl (0, 3, .inl (plY ru))), (u 5, .inl (1, 3, .inr (.inl (moX ru)))), (u 6, .inl (1, 3, .inr (.inl (moY ru))))]) (fun _ h => h.get 2 rfl) (fun j9 hj9 => cpy_full hj9) (fun _ h => h.set 2 _ rfl) ?_
  refine rn_cellI (J := xSt F V0 [(o 0, .inr (2, [.ref (o 1), .ref (o 2), .ref (o 3), .ref (o 4), .ref (o 5), .ref (o 6), .ref (o 7), .ref (o 8), .ref (o 9), .ref (o 10), .int ((ru 0).toInt32)])), (o 1, .inl (0, 6, .inl (seF tu ru))), (o 2, .inl (0, 3, .inl (maF ru))), (o 3, .inl (0, 3, .inl (plX ru))), (o 4, .inl (0, 3, .inl (va_cpy (plY ru) (plY r) 0 0 3))), (o 5, .inl (1, 3, .inr (.inl (va_cpy (moX ru) (moX r) 0 0 3)))), (o 6, .inl (1, 3, .inr (.inl (va_cpy (moY ru) (moY r) 0 0 3)))), (u 0, .inr (2, [.ref (u 1), .ref (u 2), .ref (u 3), .ref (u 4), .ref (u 5), .ref (u 6), .ref (u 7), .ref (u 8), .ref (u 9), .ref (u 10), .int ((ru 0).toInt32)])), (u 1, .inl (0, 6, .inl (seF tu ru))), (u 2, .inl (0, 3, .inl (maF ru))), (u 3, .inl (0, 3, .inl (plX ru))), (u 4, .inl (0, 3, .inl (plY ru))), (u 5, .inl (1, 3, .inr (.inl (moX ru)))), (u 6, .inl (1, 3, .inr (.inl (moY ru))))]) (fun _ h => h.get 3 rfl) (fun j9 hj9 => cpy_full hj9) (fun _ h => h.set 3 _ rfl) ?_
  refine rn_cellI (J := xSt F V0 [(o 0, .inr (2, [.ref (o 1), .ref (o 2), .ref (o 3), .ref (o 4), .ref (o 5), .ref (o 6), .ref (o 7), .ref (o 8), .ref (o 9), .ref (o 10), .int ((ru 0).toInt32)])), (o 1, .inl (0, 6, .inl (seF tu ru))), (o 2, .inl (0, 3, .inl (maF ru))), (o 3, .inl (0, 3, .inl (plX ru))), (o 4, .inl (0, 3, .inl (plY ru))), (o 5, .inl (1, 3, .inr (.inl (va_cpy (moX ru) (moX r) 0 0 3)))), (o 6, .inl (1, 3, .inr (.inl (va_cpy (moY ru) (moY r) 0 0 3)))), (u 0, .inr (2, [.ref (u 1), .ref (u 2), .ref (u 3), .ref (u 4), .ref (u 5), .ref (u 6), .ref (u 7), .ref (u 8), .ref (u 9), .ref (u 10), .int ((ru 0).toInt32)])), (u 1, .inl (0, 6, .inl (seF tu ru))), (u 2, .inl (0, 3, .inl (maF ru))), (u 3, .inl (0, 3, .inl (plX ru))), (u 4, .inl (0, 3, .inl (plY ru))), (u 5, .inl (1, 3, .inr (.inl (moX ru)))), (u 6, .inl (1, 3, .inr (.inl (moY ru))))]) (fun _ h => h.get 4 rfl) (fun j9 hj9 => cpy_full hj9) (fun _ h => h.set 4 _ rfl) ?_
  refine rn_cellJ (J := xSt F V0 [(o 0, .inr (2, [.ref (o 1), .ref (o 2), .ref (o 3), .ref (o 4), .ref (o 5), .ref (o 6), .ref (o 7), .ref (o 8), .ref (o 9), .ref (o 10), .int ((ru 0).toInt32)])), (o 1, .inl (0, 6, .inl (seF tu ru))), (o 2, .inl (0, 3, .inl (maF ru))), (o 3, .inl (0, 3, .inl (plX ru))), (o 4, .inl (0, 3, .inl (plY ru))), (o 5, .inl (1, 3, .inr (.inl (moX ru)))), (o 6, .inl (1, 3, .inr (.inl (va_cpy (moY ru) (moY r) 0 0 3)))), (u 0, .inr (2, [.ref (u 1), .ref (u 2), .ref (u 3), .ref (u 4), .ref (u 5), .ref (u 6), .ref (u 7), .ref (u 8), .ref (u 9), .ref (u 10), .int ((ru 0).toInt32)])), (u 1, .inl (0, 6, .inl (seF tu ru))), (u 2, .inl (0, 3, .inl (maF ru))), (u 3, .inl (0, 3, .inl (plX ru))), (u 4, .inl (0, 3, .inl (plY ru))), (u 5, .inl (1, 3, .inr (.inl (moX ru)))), (u 6, .inl (1, 3, .inr (.inl (moY ru))))]) (fun _ h => h.get 5 rfl) (fun j9 hj9 => cpy_full hj9) (fun _ h => h.set 5 _ rfl) ?_
  refine rn_cellJ (J := xSt F V0 [(o 0, .inr (2, [.ref (o 1), .ref (o 2), .ref (o 3), .ref (o 4), .ref (o 5), .ref (o 6), .ref (o 7), .ref (o 8), .ref (o 9), .ref (o 10), .int ((ru 0).toInt32)])), (o 1, .inl (0, 6, .inl (seF tu ru))), (o 2, .inl (0, 3, .inl (maF ru))), (o 3, .inl (0, 3, .inl (plX ru))), (o 4, .inl (0, 3, .inl (plY ru))), (o 5, .inl (1, 3, .inr (.inl (moX ru)))), (o 6, .inl (1, 3, .inr (.inl (moY ru)))), (u 0, .inr (2, [.ref (u 1), .ref (u 2), .ref (u 3), .ref (u 4), .ref (u 5), .ref (u 6), .ref (u 7), .ref (u 8), .ref (u 9), .ref (u 10), .int ((ru 0).toInt32)])), (u 1, .inl (0, 6, .inl (seF tu ru))), (u 2, .inl (0, 3, .inl (maF ru))), (u 3, .inl (0, 3, .inl (plX ru))), (u 4, .inl (0, 3, .inl (plY ru))), (u 5, .inl (1, 3, .inr (.inl (moX ru)))), (u 6, .inl (1, 3, .inr (.inl (moY ru))))]) (fun _ h => h.get 6 rfl) (fun j9 hj9 => cpy_full hj9) (fun _ h => h.set 6 _ rfl) ?_
  exact r_vret hC (Nat.le_of_ble_eq_true rfl) (Nat.le_of_ble_eq_true rfl) (fun V9 h => hQ _ _ ⟨[(o 0, .inr (2, [.ref (o 1), .ref (o 2), .ref (o 3), .ref (o 4), .ref (o 5), .ref (o 6), .ref (o 7), .ref (o 8), .ref (o 9), .ref (o 10), .int ((ru 0).toInt32)])), (o 1, .inl (0, 6, .inl (seF tu ru))), (o 2, .inl (0, 3, .inl (maF ru))), (o 3, .inl (0, 3, .inl (plX ru))), (o 4, .inl (0, 3, .inl (plY ru))), (o 5, .inl (1, 3, .inr (.inl (moX ru)))), (o 6, .inl (1, 3, .inr (.inl (moY ru)))), (u 0, .inr (2, [.ref (u 1), .ref (u 2), .ref (u 3), .ref (u 4), .ref (u 5), .ref (u 6), .ref (u 7), .ref (u 8), .ref (u 9), .ref (u 10), .int ((ru 0).toInt32)])), (u 1, .inl (0, 6, .inl (seF tu ru))), (u 2, .inl (0, 3, .inl (maF ru))), (u 3, .inl (0, 3, .inl (plX ru))), (u 4, .inl (0, 3, .inl (plY ru))), (u 5, .inl (1, 3, .inr (.inl (moX ru)))), (u 6, .inl (1, 3, .inr (.inl (moY ru))))], ⟨rfl, rfl⟩, by rw [← hV0, ← hF]; exact h⟩) dX3_become_93
set_option maxHeartbeats 4000000 in
set_option maxRecDepth 100000 in
theorem metX3_isAt (l : Launch) (G : xG) (hG : xGood G) (o u : Nat → Nat) (t r tu ru : Nat → Int64) (p q : Nat) (hp : p < 3) (hq : q < 3) (hpl : plR r) (hm : mOK r) (hpl2 : plR ru) (hm2 : mOK ru) : xRm l G yX3_isAt (Cond.code yX3_isAt cX3_isAt 4 (some .boolean)) { frames := 0, locals := 0, cells := 0, slots := 0 } [.ref (o 0), .int (nI p), .ref (u 0), .int (nI q)] [(o 0, .inr (2, [.ref (o 1), .ref (o 2), .ref (o 3), .ref (o 4), .ref (o 5), .ref (o 6), .ref (o 7), .ref (o 8), .ref (o 9), .ref (o 10), .int ((r 0).toInt32)])), (o 2, .inl (0, 3, .inl (maF r))), (o 3, .inl (0, 3, .inl (plX r))), (o 4, .inl (0, 3, .inl (plY r))), (o 5, .inl (1, 3, .inr (.inl (moX r)))), (o 6, .inl (1, 3, .inr (.inl (moY r)))), (u 0, .inr (2, [.ref (u 1), .ref (u 2), .ref (u 3), .ref (u 4), .ref (u 5), .ref (u 6), .ref (u 7), .ref (u 8), .ref (u 9), .ref (u 10), .int ((ru 0).toInt32)])), (u 2, .inl (0, 3, .inl (maF ru))), (u 3, .inl (0, 3, .inl (plX ru))), (u 4, .inl (0, 3, .inl (plY ru))), (u 5, .inl (1, 3, .inr (.inl (moX ru)))), (u 6, .inl (1, 3, .inr (.inl (moY ru))))] (some (.int (bI (likeQ r ru p q)))) := by
  intro V hV
  refine xMet_ofT RX3 hG rfl (by decide) (Nat.le_of_ble_eq_true rfl) fun C hC hQ hX hl hg _ hTab => ?_
  subst hl hg
  refine rn.mono (J := xRo [(o 0, .inr (2, [.ref (o 1), .ref (o 2), .ref (o 3), .ref (o 4), .ref (o 5), .ref (o 6), .ref (o 7), .ref (o 8), .ref (o 9), .ref (o 10), .int ((r 0).toInt32)])), (o 2, .inl (0, 3, .inl (maF r))), (o 3, .inl (0, 3, .inl (plX r))), (o 4, .inl (0, 3, .inl (plY r))), (o 5, .inl (1, 3, .inr (.inl (moX r)))), (o 6, .inl (1, 3, .inr (.inl (moY r)))), (u 0, .inr (2, [.ref (u 1), .ref (u 2), .ref (u 3), .ref (u 4), .ref (u 5), .ref (u 6), .ref (u 7), .ref (u 8), .ref (u 9), .ref (u 10), .int ((ru 0).toInt32)])), (u 2, .inl (0, 3, .inl (maF ru))), (u 3, .inl (0, 3, .inl (plX ru))), (u 4, .inl (0, 3, .inl (plY ru))), (u 5, .inl (1, 3, .inr (.inl (moX ru)))), (u 6, .inl (1, 3, .inr (.inl (moY ru))))] V) (fun V9 h => ⟨h, hV⟩) ?_
  show rn C (xRo [(o 0, .inr (2, [.ref (o 1), .ref (o 2), .ref (o 3), .ref (o 4), .ref (o 5), .ref (o 6), .ref (o 7), .ref (o 8), .ref (o 9), .ref (o 10), .int ((r 0).toInt32)])), (o 2, .inl (0, 3, .inl (maF r))), (o 3, .inl (0, 3, .inl (plX r))), (o 4, .inl (0, 3, .inl (plY r))), (o 5, .inl (1, 3, .inr (.inl (moX r)))), (o 6, .inl (1, 3, .inr (.inl (moY r)))), (u 0, .inr (2, [.ref (u 1), .ref (u 2), .ref (u 3), .ref (u 4), .ref (u 5), .ref (u 6), .ref (u 7), .ref (u 8), .ref (u 9), .ref (u 10), .int ((ru 0).toInt32)])), (u 2, .inl (0, 3, .inl (maF ru))), (u 3, .inl (0, 3, .inl (plX ru))), (u 4, .inl (0, 3, .inl (plY ru))), (u 5, .inl (1, 3, .inr (.inl (moX ru)))), (u 6, .inl (1, 3, .inr (.inl (moY ru))))] V) 0 0 0 [(0, .ref (o 0)), (1, .int (nI p)), (2, .ref (u 0)), (3, .int (nI q))] []
  refine r_aload_n hC 0 dX3_isAt_0 rfl 1 rfl ?_
  refine r_get (v := .ref (o 2)) hC kX3 1 rfl q177 (fun _ h => h.get 0 rfl) rfl dX3_isAt_1 4 rfl ?_
  refine r_iload_n hC 1 dX3_isAt_4 rfl 5 rfl ?_
  refine r_iald hC p (xix_n p (by omega) (Nat.le_of_ble_eq_true rfl)) (fun _ h => h.get 1 rfl) (maF r p) (rfl) dX3_isAt_5 6 rfl ?_
  refine r_aload_n hC 2 dX3_isAt_6 rfl 7 rfl ?_
  refine r_get (v := .ref (u 2)) hC kX3 1 rfl q177 (fun _ h => h.get 6 rfl) rfl dX3_isAt_7 10 rfl ?_
  refine r_iload_n hC 3 dX3_isAt_10 rfl 11 rfl ?_
  refine r_iald hC q (xix_n q (by omega) (Nat.le_of_ble_eq_true rfl)) (fun _ h => h.get 7 rfl) (maF ru q) (rfl) dX3_isAt_11 12 rfl ?_
  refine r_icne hC 81 dX3_isAt_12 (by decide) 15 rfl (fun c1 => ?_) (fun c1 => ?_)
  · skip
    refine r_iconst hC 0 dX3_isAt_81 ic_0 82 rfl ?_
    exact r_zret hC (by decide) (Nat.le_of_ble_eq_true rfl) (Nat.le_of_ble_eq_true rfl) (fun V9 h => hQ _ _ ⟨by rw [likeQ, decide_eq_false (fun h => c1 ((eqMa hm hm2 hp hq).mpr h))]; simp [bI], h.1⟩) dX3_isAt_82
  · skip
    refine r_aload_n hC 0 dX3_isAt_15 rfl 16 rfl ?_
    refine r_get (v := .ref (o 3)) hC kX3 2 rfl q180 (fun _ h => h.get 0 rfl) rfl dX3_isAt_16 19 rfl ?_
    refine r_iload_n hC 1 dX3_isAt_19 rfl 20 rfl ?_
    refine r_iald hC p (xix_n p (by omega) (Nat.le_of_ble_eq_true rfl)) (fun _ h => h.get 2 rfl) (plX r p) (rfl) dX3_isAt_20 21 rfl ?_
    refine r_aload_n hC 2 dX3_isAt_21 rfl 22 rfl ?_
    refine r_get (v := .ref (u 3)) hC kX3 2 rfl q180 (fun _ h => h.get 6 rfl) rfl dX3_isAt_22 25 rfl ?_
    refine r_iload_n hC 3 dX3_isAt_25 rfl 26 rfl ?_
    refine r_iald hC q (xix_n q (by omega) (Nat.le_of_ble_eq_true rfl)) (fun _ h => h.get 8 rfl) (plX ru q) (rfl) dX3_isAt_26 27 rfl ?_
    refine r_icne hC 81 dX3_isAt_27 (by decide) 30 rfl (fun c2 => ?_) (fun c2 => ?_)
    · skip
      refine r_iconst hC 0 dX3_isAt_81 ic_0 82 rfl ?_
      exact r_zret hC (by decide) (Nat.le_of_ble_eq_true rfl) (Nat.le_of_ble_eq_true rfl) (fun V9 h => hQ _ _ ⟨by rw [likeQ, decide_eq_true ((eqMa hm hm2 hp hq).mp c1), decide_eq_false (fun h => c2 ((eqX hpl hpl2 hp hq).mpr h))]; simp [bI], h.1⟩) dX3_isAt_82
    · skip
      refine r_aload_n hC 0 dX3_isAt_30 rfl 31 rfl ?_
      refine r_get (v := .ref (o 4)) hC kX3 3 rfl q184 (fun _ h => h.get 0 rfl) rfl dX3_isAt_31 34 rfl ?_
      refine r_iload_n hC 1 dX3_isAt_34 rfl 35 rfl ?_
      refine r_iald hC p (xix_n p (by omega) (Nat.le_of_ble_eq_true rfl)) (fun _ h => h.get 3 rfl) (plY r p) (rfl) dX3_isAt_35 36 rfl ?_
      refine r_aload_n hC 2 dX3_isAt_36 rfl 37 rfl ?_
      refine r_get (v := .ref (u 4)) hC kX3 3 rfl q184 (fun _ h => h.get 6 rfl) rfl dX3_isAt_37 40 rfl ?_
      refine r_iload_n hC 3 dX3_isAt_40 rfl 41 rfl ?_
      refine r_iald hC q (xix_n q (by omega) (Nat.le_of_ble_eq_true rfl)) (fun _ h => h.get 9 rfl) (plY ru q) (rfl) dX3_isAt_41 42 rfl ?_
      refine r_icne hC 81 dX3_isAt_42 (by decide) 45 rfl (fun c3 => ?_) (fun c3 => ?_)
      · skip
        refine r_iconst hC 0 dX3_isAt_81 ic_0 82 rfl ?_
        exact r_zret hC (by decide) (Nat.le_of_ble_eq_true rfl) (Nat.le_of_ble_eq_true rfl) (fun V9 h => hQ _ _ ⟨by rw [likeQ, decide_eq_true ((eqMa hm hm2 hp hq).mp c1), decide_eq_true ((eqX hpl hpl2 hp hq).mp c2), decide_eq_false (fun h => c3 ((eqY hpl hpl2 hp hq).mpr h))]; simp [bI], h.1⟩) dX3_isAt_82
      · skip
        refine r_aload_n hC 0 dX3_isAt_45 rfl 46 rfl ?_
        refine r_get (v := .ref (o 5)) hC kX3 4 rfl q188 (fun _ h => h.get 0 rfl) rfl dX3_isAt_46 49 rfl ?_
        refine r_iload_n hC 1 dX3_isAt_49 rfl 50 rfl ?_
        refine r_lald hC p (xix_n p (by omega) (Nat.le_of_ble_eq_true rfl)) (fun _ h => h.get 4 rfl) (moX r p) (rfl) dX3_isAt_50 51 rfl ?_
        refine r_eql (y := r (6 + 5 * p + 3)) (rfl) ?_
        refine r_aload_n hC 2 dX3_isAt_51 rfl 52 rfl ?_
        refine r_get (v := .ref (u 5)) hC kX3 4 rfl q188 (fun _ h => h.get 6 rfl) rfl dX3_isAt_52 55 rfl ?_
        refine r_iload_n hC 3 dX3_isAt_55 rfl 56 rfl ?_
        refine r_lald hC q (xix_n q (by omega) (Nat.le_of_ble_eq_true rfl)) (fun _ h => h.get 10 rfl) (moX ru q) (rfl) dX3_isAt_56 57 rfl ?_
        refine r_eql (y := ru (6 + 5 * q + 3)) (rfl) ?_
        refine r_lcne hC 81 dX3_isAt_57 dX3_isAt_58 (by decide) 61 rfl (fun c4 => ?_) (fun c4 => ?_)
        · skip
          refine r_iconst hC 0 dX3_isAt_81 ic_0 82 rfl ?_
          exact r_zret hC (by decide) (Nat.le_of_ble_eq_true rfl) (Nat.le_of_ble_eq_true rfl) (fun V9 h => hQ _ _ ⟨by rw [likeQ, decide_eq_true ((eqMa hm hm2 hp hq).mp c1), decide_eq_true ((eqX hpl hpl2 hp hq).mp c2), decide_eq_true ((eqY hpl hpl2 hp hq).mp c3), decide_eq_false c4]; simp [bI], h.1⟩) dX3_isAt_82
        · skip
          refine r_aload_n hC 0 dX3_isAt_61 rfl 62 rfl ?_
          refine r_get (v := .ref (o 6)) hC kX3 5 rfl q191 (fun _ h => h.get 0 rfl) rfl dX3_isAt_62 65 rfl ?_
          refine r_iload_n hC 1 dX3_isAt_65 rfl 66 rfl ?_
          refine r_lald hC p (xix_n p (by omega) (Nat.le_of_ble_eq_true rfl)) (fun _ h => h.get 5 rfl) (moY r p) (rfl) dX3_isAt_66 67 rfl ?_
          refine r_eql (y := r (6 + 5 * p + 4)) (rfl) ?_
          refine r_aload_n hC 2 dX3_isAt_67 rfl 68 rfl ?_
          refine r_get (v := .ref (u 6)) hC kX3 5 rfl q191 (fun _ h => h.get 6 rfl) rfl dX3_isAt_68 71 rfl ?_
          refine r_iload_n hC 3 dX3_isAt_71 rfl 72 rfl ?_
          refine r_lald hC q (xix_n q (by omega) (Nat.le_of_ble_eq_true rfl)) (fun _ h => h.get 11 rfl) (moY ru q) (rfl) dX3_isAt_72 73 rfl ?_
          refine r_eql (y := ru (6 + 5 * q + 4)) (rfl) ?_
          refine r_lcne hC 81 dX3_isAt_73 dX3_isAt_74 (by decide) 77 rfl (fun c5 => ?_) (fun c5 => ?_)
          · skip
            refine r_iconst hC 0 dX3_isAt_81 ic_0 82 rfl ?_
            exact r_zret hC (by decide) (Nat.le_of_ble_eq_true rfl) (Nat.le_of_ble_eq_true rfl) (fun V9 h => hQ _ _ ⟨by rw [likeQ, decide_eq_true ((eqMa hm hm2 hp hq).mp c1), decide_eq_true ((eqX hpl hpl2 hp hq).mp c2), decide_eq_true ((eqY hpl hpl2 hp hq).mp c3), decide_eq_true c4, decide_eq_false c5]; simp [bI], h.1⟩) dX3_isAt_82
          · skip
            refine r_iconst hC 1 dX3_isAt_77 ic_1 78 rfl ?_
            refine r_goto hC 82 dX3_isAt_78 (by decide) ?_
            exact r_zret hC (by decide) (Nat.le_of_ble_eq_true rfl) (Nat.le_of_ble_eq_true rfl) (fun V9 h => hQ _ _ ⟨by rw [likeQ, decide_eq_true ((eqMa hm hm2 hp hq).mp c1), decide_eq_true ((eqX hpl hpl2 hp hq).mp c2), decide_eq_true ((eqY hpl hpl2 hp hq).mp c3), decide_eq_true c4, decide_eq_true c5]; simp [bI], h.1⟩) dX3_isAt_82
set_option maxHeartbeats 4000000 in
set_option maxRecDepth 100000 in
theorem metX3_areAt01 (l : Launch) (G : xG) (hG : xGood G) (o u : Nat → Nat) (t r tu ru : Nat → Int64) (hpl : plR r) (hm : mOK r) (hpl2 : plR ru) (hm2 : mOK ru) : xRm l G yX3_areAt (Cond.code yX3_areAt cX3_areAt 4 (some .boolean)) { frames := 1, locals := 23, cells := 0, slots := 0 } [.ref (o 0), .ref (u 0), .int 0, .int 1] [(o 0, .inr (2, [.ref (o 1), .ref (o 2), .ref (o 3), .ref (o 4), .ref (o 5), .ref (o 6), .ref (o 7), .ref (o 8), .ref (o 9), .ref (o 10), .int ((r 0).toInt32)])), (o 2, .inl (0, 3, .inl (maF r))), (o 3, .inl (0, 3, .inl (plX r))), (o 4, .inl (0, 3, .inl (plY r))), (o 5, .inl (1, 3, .inr (.inl (moX r)))), (o 6, .inl (1, 3, .inr (.inl (moY r)))), (u 0, .inr (2, [.ref (u 1), .ref (u 2), .ref (u 3), .ref (u 4), .ref (u 5), .ref (u 6), .ref (u 7), .ref (u 8), .ref (u 9), .ref (u 10), .int ((ru 0).toInt32)])), (u 2, .inl (0, 3, .inl (maF ru))), (u 3, .inl (0, 3, .inl (plX ru))), (u 4, .inl (0, 3, .inl (plY ru))), (u 5, .inl (1, 3, .inr (.inl (moX ru)))), (u 6, .inl (1, 3, .inr (.inl (moY ru))))] (some (.int (bI (trioQ r ru 0 1 2)))) := by
  intro V hV
  refine xMet_ofT RX3 hG rfl (by decide) (Nat.le_of_ble_eq_true rfl) fun C hC hQ hX hl hg _ hTab => ?_
  subst hl hg
  refine rn.mono (J := xRo [(o 0, .inr (2, [.ref (o 1), .ref (o 2), .ref (o 3), .ref (o 4), .ref (o 5), .ref (o 6), .ref (o 7), .ref (o 8), .ref (o 9), .ref (o 10), .int ((r 0).toInt32)])), (o 2, .inl (0, 3, .inl (maF r))), (o 3, .inl (0, 3, .inl (plX r))), (o 4, .inl (0, 3, .inl (plY r))), (o 5, .inl (1, 3, .inr (.inl (moX r)))), (o 6, .inl (1, 3, .inr (.inl (moY r)))), (u 0, .inr (2, [.ref (u 1), .ref (u 2), .ref (u 3), .ref (u 4), .ref (u 5), .ref (u 6), .ref (u 7), .ref (u 8), .ref (u 9), .ref (u 10), .int ((ru 0).toInt32)])), (u 2, .inl (0, 3, .inl (maF ru))), (u 3, .inl (0, 3, .inl (plX ru))), (u 4, .inl (0, 3, .inl (plY ru))), (u 5, .inl (1, 3, .inr (.inl (moX ru)))), (u 6, .inl (1, 3, .inr (.inl (moY ru))))] V) (fun V9 h => ⟨h, hV⟩) ?_
  show rn C (xRo [(o 0, .inr (2, [.ref (o 1), .ref (o 2), .ref (o 3), .ref (o 4), .ref (o 5), .ref (o 6), .ref (o 7), .ref (o 8), .ref (o 9), .ref (o 10), .int ((r 0).toInt32)])), (o 2, .inl (0, 3, .inl (maF r))), (o 3, .inl (0, 3, .inl (plX r))), (o 4, .inl (0, 3, .inl (plY r))), (o 5, .inl (1, 3, .inr (.inl (moX r)))), (o 6, .inl (1, 3, .inr (.inl (moY r)))), (u 0, .inr (2, [.ref (u 1), .ref (u 2), .ref (u 3), .ref (u 4), .ref (u 5), .ref (u 6), .ref (u 7), .ref (u 8), .ref (u 9), .ref (u 10), .int ((ru 0).toInt32)])), (u 2, .inl (0, 3, .inl (maF ru))), (u 3, .inl (0, 3, .inl (plX ru))), (u 4, .inl (0, 3, .inl (plY ru))), (u 5, .inl (1, 3, .inr (.inl (moX ru)))), (u 6, .inl (1, 3, .inr (.inl (moY ru))))] V) 0 0 0 [(0, .ref (o 0)), (1, .ref (u 0)), (2, .int 0), (3, .int 1)] []
  refine r_aload_n hC 0 dX3_areAt_0 rfl 1 rfl ?_
  refine r_iconst hC 0 dX3_areAt_1 ic_0 2 rfl ?_
  refine r_aload_n hC 1 dX3_areAt_2 rfl 3 rfl ?_
  refine r_iload_n hC 2 dX3_areAt_3 rfl 4 rfl ?_
  rcases Bool.eq_false_or_eq_true (likeQ r ru 0 0) with hk1 | hk1
  · skip
    refine xCall.r (r := some (.int 1)) (r_cV hC kX3 (o 0) [.int 0, .ref (u 0), .int 0] mVX3_isAt q1735 (fun _ h => ⟨_, h.get 0 rfl⟩) (fun V9 h9 => (xRm_v (metX3_isAt _ _ hG o u (fun _ => 0) r (fun _ => 0) ru 0 0 (Nat.le_of_ble_eq_true rfl) (Nat.le_of_ble_eq_true rfl) hpl hm hpl2 hm2) (show _ = some (Value.int 1) by rw [hk1]; rfl)) V9 (h9.in.sub [0, 1, 2, 3, 4, 5, 6, 7, 8, 9, 10, 11] rfl rfl)) ⟨rfl, rfl⟩ (Nat.le_of_ble_eq_true rfl) (Nat.le_of_ble_eq_true rfl) rfl (Nat.le_of_ble_eq_true rfl) dX3_areAt_4) 0 0 7 rfl rfl rfl ?_
    refine r_ifeq hC 38 dX3_areAt_7 (by decide) 10 rfl (fun h => absurd h (by decide)) (fun _ => ?_)
    refine r_aload_n hC 0 dX3_areAt_10 rfl 11 rfl ?_
    refine r_iconst hC 1 dX3_areAt_11 ic_1 12 rfl ?_
    refine r_aload_n hC 1 dX3_areAt_12 rfl 13 rfl ?_
    refine r_iload_n hC 3 dX3_areAt_13 rfl 14 rfl ?_
    rcases Bool.eq_false_or_eq_true (likeQ r ru 1 1) with hk2 | hk2
    · skip
      refine xCall.r (r := some (.int 1)) (r_cV hC kX3 (o 0) [.int 1, .ref (u 0), .int 1] mVX3_isAt q1735 (fun _ h => ⟨_, h.get 0 rfl⟩) (fun V9 h9 => (xRm_v (metX3_isAt _ _ hG o u (fun _ => 0) r (fun _ => 0) ru 1 1 (Nat.le_of_ble_eq_true rfl) (Nat.le_of_ble_eq_true rfl) hpl hm hpl2 hm2) (show _ = some (Value.int 1) by rw [hk2]; rfl)) V9 (h9.in.sub [0, 1, 2, 3, 4, 5, 6, 7, 8, 9, 10, 11] rfl rfl)) ⟨rfl, rfl⟩ (Nat.le_of_ble_eq_true rfl) (Nat.le_of_ble_eq_true rfl) rfl (Nat.le_of_ble_eq_true rfl) dX3_areAt_14) 0 0 17 rfl rfl rfl ?_
      refine r_ifeq hC 38 dX3_areAt_17 (by decide) 20 rfl (fun h => absurd h (by decide)) (fun _ => ?_)
      refine r_aload_n hC 0 dX3_areAt_20 rfl 21 rfl ?_
      refine r_iconst hC 2 dX3_areAt_21 ic_2 22 rfl ?_
      refine r_aload_n hC 1 dX3_areAt_22 rfl 23 rfl ?_
      refine r_iconst hC 3 dX3_areAt_23 ic_3 24 rfl ?_
      refine r_iload_n hC 2 dX3_areAt_24 rfl 25 rfl ?_
      refine r_isub hC 3 dX3_areAt_25  (by decide) 26 rfl ?_
      refine r_iload_n hC 3 dX3_areAt_26 rfl 27 rfl ?_
      refine r_isub hC 2 dX3_areAt_27  (by decide) 28 rfl ?_
      rcases Bool.eq_false_or_eq_true (likeQ r ru 2 2) with hk3 | hk3
      · skip
        refine xCall.r (r := some (.int 1)) (r_cV hC kX3 (o 0) [.int 2, .ref (u 0), .int 2] mVX3_isAt q1735 (fun _ h => ⟨_, h.get 0 rfl⟩) (fun V9 h9 => (xRm_v (metX3_isAt _ _ hG o u (fun _ => 0) r (fun _ => 0) ru 2 2 (Nat.le_of_ble_eq_true rfl) (Nat.le_of_ble_eq_true rfl) hpl hm hpl2 hm2) (show _ = some (Value.int 1) by rw [hk3]; rfl)) V9 (h9.in.sub [0, 1, 2, 3, 4, 5, 6, 7, 8, 9, 10, 11] rfl rfl)) ⟨rfl, rfl⟩ (Nat.le_of_ble_eq_true rfl) (Nat.le_of_ble_eq_true rfl) rfl (Nat.le_of_ble_eq_true rfl) dX3_areAt_28) 0 0 31 rfl rfl rfl ?_
        refine r_ifeq hC 38 dX3_areAt_31 (by decide) 34 rfl (fun h => absurd h (by decide)) (fun _ => ?_)
        refine r_iconst hC 1 dX3_areAt_34 ic_1 35 rfl ?_
        refine r_goto hC 39 dX3_areAt_35 (by decide) ?_
        exact r_zret hC (by decide) (Nat.le_of_ble_eq_true rfl) (Nat.le_of_ble_eq_true rfl) (fun V9 h => hQ _ _ ⟨by rw [trioQ, hk1, hk2, hk3]; simp [bI], h.1⟩) dX3_areAt_39
      · skip
        refine xCall.r (r := some (.int 0)) (r_cV hC kX3 (o 0) [.int 2, .ref (u 0), .int 2] mVX3_isAt q1735 (fun _ h => ⟨_, h.get 0 rfl⟩) (fun V9 h9 => (xRm_v (metX3_isAt _ _ hG o u (fun _ => 0) r (fun _ => 0) ru 2 2 (Nat.le_of_ble_eq_true rfl) (Nat.le_of_ble_eq_true rfl) hpl hm hpl2 hm2) (show _ = some (Value.int 0) by rw [hk3]; rfl)) V9 (h9.in.sub [0, 1, 2, 3, 4, 5, 6, 7, 8, 9, 10, 11] rfl rfl)) ⟨rfl, rfl⟩ (Nat.le_of_ble_eq_true rfl) (Nat.le_of_ble_eq_true rfl) rfl (Nat.le_of_ble_eq_true rfl) dX3_areAt_28) 0 0 31 rfl rfl rfl ?_
        refine r_ifeq hC 38 dX3_areAt_31 (by decide) 34 rfl (fun _ => ?_) (fun h => absurd h (by decide))
        refine r_iconst hC 0 dX3_areAt_38 ic_0 39 rfl ?_
        exact r_zret hC (by decide) (Nat.le_of_ble_eq_true rfl) (Nat.le_of_ble_eq_true rfl) (fun V9 h => hQ _ _ ⟨by rw [trioQ, hk1, hk2, hk3]; simp [bI], h.1⟩) dX3_areAt_39
    · skip
      refine xCall.r (r := some (.int 0)) (r_cV hC kX3 (o 0) [.int 1, .ref (u 0), .int 1] mVX3_isAt q1735 (fun _ h => ⟨_, h.get 0 rfl⟩) (fun V9 h9 => (xRm_v (metX3_isAt _ _ hG o u (fun _ => 0) r (fun _ => 0) ru 1 1 (Nat.le_of_ble_eq_true rfl) (Nat.le_of_ble_eq_true rfl) hpl hm hpl2 hm2) (show _ = some (Value.int 0) by rw [hk2]; rfl)) V9 (h9.in.sub [0, 1, 2, 3, 4, 5, 6, 7, 8, 9, 10, 11] rfl rfl)) ⟨rfl, rfl⟩ (Nat.le_of_ble_eq_true rfl) (Nat.le_of_ble_eq_true rfl) rfl (Nat.le_of_ble_eq_true rfl) dX3_areAt_14) 0 0 17 rfl rfl rfl ?_
      refine r_ifeq hC 38 dX3_areAt_17 (by decide) 20 rfl (fun _ => ?_) (fun h => absurd h (by decide))
      refine r_iconst hC 0 dX3_areAt_38 ic_0 39 rfl ?_
      exact r_zret hC (by decide) (Nat.le_of_ble_eq_true rfl) (Nat.le_of_ble_eq_true rfl) (fun V9 h => hQ _ _ ⟨by rw [trioQ, hk1, hk2]; simp [bI], h.1⟩) dX3_areAt_39
  · skip
    refine xCall.r (r := some (.int 0)) (r_cV hC kX3 (o 0) [.int 0, .ref (u 0), .int 0] mVX3_isAt q1735 (fun _ h => ⟨_, h.get 0 rfl⟩) (fun V9 h9 => (xRm_v (metX3_isAt _ _ hG o u (fun _ => 0) r (fun _ => 0) ru 0 0 (Nat.le_of_ble_eq_true rfl) (Nat.le_of_ble_eq_true rfl) hpl hm hpl2 hm2) (show _ = some (Value.int 0) by rw [hk1]; rfl)) V9 (h9.in.sub [0, 1, 2, 3, 4, 5, 6, 7, 8, 9, 10, 11] rfl rfl)) ⟨rfl, rfl⟩ (Nat.le_of_ble_eq_true rfl) (Nat.le_of_ble_eq_true rfl) rfl (Nat.le_of_ble_eq_true rfl) dX3_areAt_4) 0 0 7 rfl rfl rfl ?_
    refine r_ifeq hC 38 dX3_areAt_7 (by decide) 10 rfl (fun _ => ?_) (fun h => absurd h (by decide))
    refine r_iconst hC 0 dX3_areAt_38 ic_0 39 rfl ?_
    exact r_zret hC (by decide) (Nat.le_of_ble_eq_true rfl) (Nat.le_of_ble_eq_true rfl) (fun V9 h => hQ _ _ ⟨by rw [trioQ, hk1]; simp [bI], h.1⟩) dX3_areAt_39
set_option maxHeartbeats 4000000 in
set_option maxRecDepth 100000 in
theorem metX3_areAt02 (l : Launch) (G : xG) (hG : xGood G) (o u : Nat → Nat) (t r tu ru : Nat → Int64) (hpl : plR r) (hm : mOK r) (hpl2 : plR ru) (hm2 : mOK ru) : xRm l G yX3_areAt (Cond.code yX3_areAt cX3_areAt 4 (some .boolean)) { frames := 1, locals := 23, cells := 0, slots := 0 } [.ref (o 0), .ref (u 0), .int 0, .int 2] [(o 0, .inr (2, [.ref (o 1), .ref (o 2), .ref (o 3), .ref (o 4), .ref (o 5), .ref (o 6), .ref (o 7), .ref (o 8), .ref (o 9), .ref (o 10), .int ((r 0).toInt32)])), (o 2, .inl (0, 3, .inl (maF r))), (o 3, .inl (0, 3, .inl (plX r))), (o 4, .inl (0, 3, .inl (plY r))), (o 5, .inl (1, 3, .inr (.inl (moX r)))), (o 6, .inl (1, 3, .inr (.inl (moY r)))), (u 0, .inr (2, [.ref (u 1), .ref (u 2), .ref (u 3), .ref (u 4), .ref (u 5), .ref (u 6), .ref (u 7), .ref (u 8), .ref (u 9), .ref (u 10), .int ((ru 0).toInt32)])), (u 2, .inl (0, 3, .inl (maF ru))), (u 3, .inl (0, 3, .inl (plX ru))), (u 4, .inl (0, 3, .inl (plY ru))), (u 5, .inl (1, 3, .inr (.inl (moX ru)))), (u 6, .inl (1, 3, .inr (.inl (moY ru))))] (some (.int (bI (trioQ r ru 0 2 1)))) := by
  intro V hV
  refine xMet_ofT RX3 hG rfl (by decide) (Nat.le_of_ble_eq_true rfl) fun C hC hQ hX hl hg _ hTab => ?_
  subst hl hg
  refine rn.mono (J := xRo [(o 0, .inr (2, [.ref (o 1), .ref (o 2), .ref (o 3), .ref (o 4), .ref (o 5), .ref (o 6), .ref (o 7), .ref (o 8), .ref (o 9), .ref (o 10), .int ((r 0).toInt32)])), (o 2, .inl (0, 3, .inl (maF r))), (o 3, .inl (0, 3, .inl (plX r))), (o 4, .inl (0, 3, .inl (plY r))), (o 5, .inl (1, 3, .inr (.inl (moX r)))), (o 6, .inl (1, 3, .inr (.inl (moY r)))), (u 0, .inr (2, [.ref (u 1), .ref (u 2), .ref (u 3), .ref (u 4), .ref (u 5), .ref (u 6), .ref (u 7), .ref (u 8), .ref (u 9), .ref (u 10), .int ((ru 0).toInt32)])), (u 2, .inl (0, 3, .inl (maF ru))), (u 3, .inl (0, 3, .inl (plX ru))), (u 4, .inl (0, 3, .inl (plY ru))), (u 5, .inl (1, 3, .inr (.inl (moX ru)))), (u 6, .inl (1, 3, .inr (.inl (moY ru))))] V) (fun V9 h => ⟨h, hV⟩) ?_
  show rn C (xRo [(o 0, .inr (2, [.ref (o 1), .ref (o 2), .ref (o 3), .ref (o 4), .ref (o 5), .ref (o 6), .ref (o 7), .ref (o 8), .ref (o 9), .ref (o 10), .int ((r 0).toInt32)])), (o 2, .inl (0, 3, .inl (maF r))), (o 3, .inl (0, 3, .inl (plX r))), (o 4, .inl (0, 3, .inl (plY r))), (o 5, .inl (1, 3, .inr (.inl (moX r)))), (o 6, .inl (1, 3, .inr (.inl (moY r)))), (u 0, .inr (2, [.ref (u 1), .ref (u 2), .ref (u 3), .ref (u 4), .ref (u 5), .ref (u 6), .ref (u 7), .ref (u 8), .ref (u 9), .ref (u 10), .int ((ru 0).toInt32)])), (u 2, .inl (0, 3, .inl (maF ru))), (u 3, .inl (0, 3, .inl (plX ru))), (u 4, .inl (0, 3, .inl (plY ru))), (u 5, .inl (1, 3, .inr (.inl (moX ru)))), (u 6, .inl (1, 3, .inr (.inl (moY ru))))] V) 0 0 0 [(0, .ref (o 0)), (1, .ref (u 0)), (2, .int 0), (3, .int 2)] []
  refine r_aload_n hC 0 dX3_areAt_0 rfl 1 rfl ?_
  refine r_iconst hC 0 dX3_areAt_1 ic_0 2 rfl ?_
  refine r_aload_n hC 1 dX3_areAt_2 rfl 3 rfl ?_
  refine r_iload_n hC 2 dX3_areAt_3 rfl 4 rfl ?_
  rcases Bool.eq_false_or_eq_true (likeQ r ru 0 0) with hk1 | hk1
  · skip
    refine xCall.r (r := some (.int 1)) (r_cV hC kX3 (o 0) [.int 0, .ref (u 0), .int 0] mVX3_isAt q1735 (fun _ h => ⟨_, h.get 0 rfl⟩) (fun V9 h9 => (xRm_v (metX3_isAt _ _ hG o u (fun _ => 0) r (fun _ => 0) ru 0 0 (Nat.le_of_ble_eq_true rfl) (Nat.le_of_ble_eq_true rfl) hpl hm hpl2 hm2) (show _ = some (Value.int 1) by rw [hk1]; rfl)) V9 (h9.in.sub [0, 1, 2, 3, 4, 5, 6, 7, 8, 9, 10, 11] rfl rfl)) ⟨rfl, rfl⟩ (Nat.le_of_ble_eq_true rfl) (Nat.le_of_ble_eq_true rfl) rfl (Nat.le_of_ble_eq_true rfl) dX3_areAt_4) 0 0 7 rfl rfl rfl ?_
    refine r_ifeq hC 38 dX3_areAt_7 (by decide) 10 rfl (fun h => absurd h (by decide)) (fun _ => ?_)
    refine r_aload_n hC 0 dX3_areAt_10 rfl 11 rfl ?_
    refine r_iconst hC 1 dX3_areAt_11 ic_1 12 rfl ?_
    refine r_aload_n hC 1 dX3_areAt_12 rfl 13 rfl ?_
    refine r_iload_n hC 3 dX3_areAt_13 rfl 14 rfl ?_
    rcases Bool.eq_false_or_eq_true (likeQ r ru 1 2) with hk2 | hk2
    · skip
      refine xCall.r (r := some (.int 1)) (r_cV hC kX3 (o 0) [.int 1, .ref (u 0), .int 2] mVX3_isAt q1735 (fun _ h => ⟨_, h.get 0 rfl⟩) (fun V9 h9 => (xRm_v (metX3_isAt _ _ hG o u (fun _ => 0) r (fun _ => 0) ru 1 2 (Nat.le_of_ble_eq_true rfl) (Nat.le_of_ble_eq_true rfl) hpl hm hpl2 hm2) (show _ = some (Value.int 1) by rw [hk2]; rfl)) V9 (h9.in.sub [0, 1, 2, 3, 4, 5, 6, 7, 8, 9, 10, 11] rfl rfl)) ⟨rfl, rfl⟩ (Nat.le_of_ble_eq_true rfl) (Nat.le_of_ble_eq_true rfl) rfl (Nat.le_of_ble_eq_true rfl) dX3_areAt_14) 0 0 17 rfl rfl rfl ?_
      refine r_ifeq hC 38 dX3_areAt_17 (by decide) 20 rfl (fun h => absurd h (by decide)) (fun _ => ?_)
      refine r_aload_n hC 0 dX3_areAt_20 rfl 21 rfl ?_
      refine r_iconst hC 2 dX3_areAt_21 ic_2 22 rfl ?_
      refine r_aload_n hC 1 dX3_areAt_22 rfl 23 rfl ?_
      refine r_iconst hC 3 dX3_areAt_23 ic_3 24 rfl ?_
      refine r_iload_n hC 2 dX3_areAt_24 rfl 25 rfl ?_
      refine r_isub hC 3 dX3_areAt_25  (by decide) 26 rfl ?_
      refine r_iload_n hC 3 dX3_areAt_26 rfl 27 rfl ?_
      refine r_isub hC 1 dX3_areAt_27  (by decide) 28 rfl ?_
      rcases Bool.eq_false_or_eq_true (likeQ r ru 2 1) with hk3 | hk3
      · skip
        refine xCall.r (r := some (.int 1)) (r_cV hC kX3 (o 0) [.int 2, .ref (u 0), .int 1] mVX3_isAt q1735 (fun _ h => ⟨_, h.get 0 rfl⟩) (fun V9 h9 => (xRm_v (metX3_isAt _ _ hG o u (fun _ => 0) r (fun _ => 0) ru 2 1 (Nat.le_of_ble_eq_true rfl) (Nat.le_of_ble_eq_true rfl) hpl hm hpl2 hm2) (show _ = some (Value.int 1) by rw [hk3]; rfl)) V9 (h9.in.sub [0, 1, 2, 3, 4, 5, 6, 7, 8, 9, 10, 11] rfl rfl)) ⟨rfl, rfl⟩ (Nat.le_of_ble_eq_true rfl) (Nat.le_of_ble_eq_true rfl) rfl (Nat.le_of_ble_eq_true rfl) dX3_areAt_28) 0 0 31 rfl rfl rfl ?_
        refine r_ifeq hC 38 dX3_areAt_31 (by decide) 34 rfl (fun h => absurd h (by decide)) (fun _ => ?_)
        refine r_iconst hC 1 dX3_areAt_34 ic_1 35 rfl ?_
        refine r_goto hC 39 dX3_areAt_35 (by decide) ?_
        exact r_zret hC (by decide) (Nat.le_of_ble_eq_true rfl) (Nat.le_of_ble_eq_true rfl) (fun V9 h => hQ _ _ ⟨by rw [trioQ, hk1, hk2, hk3]; simp [bI], h.1⟩) dX3_areAt_39
      · skip
        refine xCall.r (r := some (.int 0)) (r_cV hC kX3 (o 0) [.int 2, .ref (u 0), .int 1] mVX3_isAt q1735 (fun _ h => ⟨_, h.get 0 rfl⟩) (fun V9 h9 => (xRm_v (metX3_isAt _ _ hG o u (fun _ => 0) r (fun _ => 0) ru 2 1 (Nat.le_of_ble_eq_true rfl) (Nat.le_of_ble_eq_true rfl) hpl hm hpl2 hm2) (show _ = some (Value.int 0) by rw [hk3]; rfl)) V9 (h9.in.sub [0, 1, 2, 3, 4, 5, 6, 7, 8, 9, 10, 11] rfl rfl)) ⟨rfl, rfl⟩ (Nat.le_of_ble_eq_true rfl) (Nat.le_of_ble_eq_true rfl) rfl (Nat.le_of_ble_eq_true rfl) dX3_areAt_28) 0 0 31 rfl rfl rfl ?_
        refine r_ifeq hC 38 dX3_areAt_31 (by decide) 34 rfl (fun _ => ?_) (fun h => absurd h (by decide))
        refine r_iconst hC 0 dX3_areAt_38 ic_0 39 rfl ?_
        exact r_zret hC (by decide) (Nat.le_of_ble_eq_true rfl) (Nat.le_of_ble_eq_true rfl) (fun V9 h => hQ _ _ ⟨by rw [trioQ, hk1, hk2, hk3]; simp [bI], h.1⟩) dX3_areAt_39
    · skip
      refine xCall.r (r := some (.int 0)) (r_cV hC kX3 (o 0) [.int 1, .ref (u 0), .int 2] mVX3_isAt q1735 (fun _ h => ⟨_, h.get 0 rfl⟩) (fun V9 h9 => (xRm_v (metX3_isAt _ _ hG o u (fun _ => 0) r (fun _ => 0) ru 1 2 (Nat.le_of_ble_eq_true rfl) (Nat.le_of_ble_eq_true rfl) hpl hm hpl2 hm2) (show _ = some (Value.int 0) by rw [hk2]; rfl)) V9 (h9.in.sub [0, 1, 2, 3, 4, 5, 6, 7, 8, 9, 10, 11] rfl rfl)) ⟨rfl, rfl⟩ (Nat.le_of_ble_eq_true rfl) (Nat.le_of_ble_eq_true rfl) rfl (Nat.le_of_ble_eq_true rfl) dX3_areAt_14) 0 0 17 rfl rfl rfl ?_
      refine r_ifeq hC 38 dX3_areAt_17 (by decide) 20 rfl (fun _ => ?_) (fun h => absurd h (by decide))
      refine r_iconst hC 0 dX3_areAt_38 ic_0 39 rfl ?_
      exact r_zret hC (by decide) (Nat.le_of_ble_eq_true rfl) (Nat.le_of_ble_eq_true rfl) (fun V9 h => hQ _ _ ⟨by rw [trioQ, hk1, hk2]; simp [bI], h.1⟩) dX3_areAt_39
  · skip
    refine xCall.r (r := some (.int 0)) (r_cV hC kX3 (o 0) [.int 0, .ref (u 0), .int 0] mVX3_isAt q1735 (fun _ h => ⟨_, h.get 0 rfl⟩) (fun V9 h9 => (xRm_v (metX3_isAt _ _ hG o u (fun _ => 0) r (fun _ => 0) ru 0 0 (Nat.le_of_ble_eq_true rfl) (Nat.le_of_ble_eq_true rfl) hpl hm hpl2 hm2) (show _ = some (Value.int 0) by rw [hk1]; rfl)) V9 (h9.in.sub [0, 1, 2, 3, 4, 5, 6, 7, 8, 9, 10, 11] rfl rfl)) ⟨rfl, rfl⟩ (Nat.le_of_ble_eq_true rfl) (Nat.le_of_ble_eq_true rfl) rfl (Nat.le_of_ble_eq_true rfl) dX3_areAt_4) 0 0 7 rfl rfl rfl ?_
    refine r_ifeq hC 38 dX3_areAt_7 (by decide) 10 rfl (fun _ => ?_) (fun h => absurd h (by decide))
    refine r_iconst hC 0 dX3_areAt_38 ic_0 39 rfl ?_
    exact r_zret hC (by decide) (Nat.le_of_ble_eq_true rfl) (Nat.le_of_ble_eq_true rfl) (fun V9 h => hQ _ _ ⟨by rw [trioQ, hk1]; simp [bI], h.1⟩) dX3_areAt_39
set_option maxHeartbeats 4000000 in
set_option maxRecDepth 100000 in
theorem metX3_areAt10 (l : Launch) (G : xG) (hG : xGood G) (o u : Nat → Nat) (t r tu ru : Nat → Int64) (hpl : plR r) (hm : mOK r) (hpl2 : plR ru) (hm2 : mOK ru) : xRm l G yX3_areAt (Cond.code yX3_areAt cX3_areAt 4 (some .boolean)) { frames := 1, locals := 23, cells := 0, slots := 0 } [.ref (o 0), .ref (u 0), .int 1, .int 0] [(o 0, .inr (2, [.ref (o 1), .ref (o 2), .ref (o 3), .ref (o 4), .ref (o 5), .ref (o 6), .ref (o 7), .ref (o 8), .ref (o 9), .ref (o 10), .int ((r 0).toInt32)])), (o 2, .inl (0, 3, .inl (maF r))), (o 3, .inl (0, 3, .inl (plX r))), (o 4, .inl (0, 3, .inl (plY r))), (o 5, .inl (1, 3, .inr (.inl (moX r)))), (o 6, .inl (1, 3, .inr (.inl (moY r)))), (u 0, .inr (2, [.ref (u 1), .ref (u 2), .ref (u 3), .ref (u 4), .ref (u 5), .ref (u 6), .ref (u 7), .ref (u 8), .ref (u 9), .ref (u 10), .int ((ru 0).toInt32)])), (u 2, .inl (0, 3, .inl (maF ru))), (u 3, .inl (0, 3, .inl (plX ru))), (u 4, .inl (0, 3, .inl (plY ru))), (u 5, .inl (1, 3, .inr (.inl (moX ru)))), (u 6, .inl (1, 3, .inr (.inl (moY ru))))] (some (.int (bI (trioQ r ru 1 0 2)))) := by
  intro V hV
  refine xMet_ofT RX3 hG rfl (by decide) (Nat.le_of_ble_eq_true rfl) fun C hC hQ hX hl hg _ hTab => ?_
  subst hl hg
  refine rn.mono (J := xRo [(o 0, .inr (2, [.ref (o 1), .ref (o 2), .ref (o 3), .ref (o 4), .ref (o 5), .ref (o 6), .ref (o 7), .ref (o 8), .ref (o 9), .ref (o 10), .int ((r 0).toInt32)])), (o 2, .inl (0, 3, .inl (maF r))), (o 3, .inl (0, 3, .inl (plX r))), (o 4, .inl (0, 3, .inl (plY r))), (o 5, .inl (1, 3, .inr (.inl (moX r)))), (o 6, .inl (1, 3, .inr (.inl (moY r)))), (u 0, .inr (2, [.ref (u 1), .ref (u 2), .ref (u 3), .ref (u 4), .ref (u 5), .ref (u 6), .ref (u 7), .ref (u 8), .ref (u 9), .ref (u 10), .int ((ru 0).toInt32)])), (u 2, .inl (0, 3, .inl (maF ru))), (u 3, .inl (0, 3, .inl (plX ru))), (u 4, .inl (0, 3, .inl (plY ru))), (u 5, .inl (1, 3, .inr (.inl (moX ru)))), (u 6, .inl (1, 3, .inr (.inl (moY ru))))] V) (fun V9 h => ⟨h, hV⟩) ?_
  show rn C (xRo [(o 0, .inr (2, [.ref (o 1), .ref (o 2), .ref (o 3), .ref (o 4), .ref (o 5), .ref (o 6), .ref (o 7), .ref (o 8), .ref (o 9), .ref (o 10), .int ((r 0).toInt32)])), (o 2, .inl (0, 3, .inl (maF r))), (o 3, .inl (0, 3, .inl (plX r))), (o 4, .inl (0, 3, .inl (plY r))), (o 5, .inl (1, 3, .inr (.inl (moX r)))), (o 6, .inl (1, 3, .inr (.inl (moY r)))), (u 0, .inr (2, [.ref (u 1), .ref (u 2), .ref (u 3), .ref (u 4), .ref (u 5), .ref (u 6), .ref (u 7), .ref (u 8), .ref (u 9), .ref (u 10), .int ((ru 0).toInt32)])), (u 2, .inl (0, 3, .inl (maF ru))), (u 3, .inl (0, 3, .inl (plX ru))), (u 4, .inl (0, 3, .inl (plY ru))), (u 5, .inl (1, 3, .inr (.inl (moX ru)))), (u 6, .inl (1, 3, .inr (.inl (moY ru))))] V) 0 0 0 [(0, .ref (o 0)), (1, .ref (u 0)), (2, .int 1), (3, .int 0)] []
  refine r_aload_n hC 0 dX3_areAt_0 rfl 1 rfl ?_
  refine r_iconst hC 0 dX3_areAt_1 ic_0 2 rfl ?_
  refine r_aload_n hC 1 dX3_areAt_2 rfl 3 rfl ?_
  refine r_iload_n hC 2 dX3_areAt_3 rfl 4 rfl ?_
  rcases Bool.eq_false_or_eq_true (likeQ r ru 0 1) with hk1 | hk1
  · skip
    refine xCall.r (r := some (.int 1)) (r_cV hC kX3 (o 0) [.int 0, .ref (u 0), .int 1] mVX3_isAt q1735 (fun _ h => ⟨_, h.get 0 rfl⟩) (fun V9 h9 => (xRm_v (metX3_isAt _ _ hG o u (fun _ => 0) r (fun _ => 0) ru 0 1 (Nat.le_of_ble_eq_true rfl) (Nat.le_of_ble_eq_true rfl) hpl hm hpl2 hm2) (show _ = some (Value.int 1) by rw [hk1]; rfl)) V9 (h9.in.sub [0, 1, 2, 3, 4, 5, 6, 7, 8, 9, 10, 11] rfl rfl)) ⟨rfl, rfl⟩ (Nat.le_of_ble_eq_true rfl) (Nat.le_of_ble_eq_true rfl) rfl (Nat.le_of_ble_eq_true rfl) dX3_areAt_4) 0 0 7 rfl rfl rfl ?_
    refine r_ifeq hC 38 dX3_areAt_7 (by decide) 10 rfl (fun h => absurd h (by decide)) (fun _ => ?_)
    refine r_aload_n hC 0 dX3_areAt_10 rfl 11 rfl ?_
    refine r_iconst hC 1 dX3_areAt_11 ic_1 12 rfl ?_
    refine r_aload_n hC 1 dX3_areAt_12 rfl 13 rfl ?_
    refine r_iload_n hC 3 dX3_areAt_13 rfl 14 rfl ?_
    rcases Bool.eq_false_or_eq_true (likeQ r ru 1 0) with hk2 | hk2
    · skip
      refine xCall.r (r := some (.int 1)) (r_cV hC kX3 (o 0) [.int 1, .ref (u 0), .int 0] mVX3_isAt q1735 (fun _ h => ⟨_, h.get 0 rfl⟩) (fun V9 h9 => (xRm_v (metX3_isAt _ _ hG o u (fun _ => 0) r (fun _ => 0) ru 1 0 (Nat.le_of_ble_eq_true rfl) (Nat.le_of_ble_eq_true rfl) hpl hm hpl2 hm2) (show _ = some (Value.int 1) by rw [hk2]; rfl)) V9 (h9.in.sub [0, 1, 2, 3, 4, 5, 6, 7, 8, 9, 10, 11] rfl rfl)) ⟨rfl, rfl⟩ (Nat.le_of_ble_eq_true rfl) (Nat.le_of_ble_eq_true rfl) rfl (Nat.le_of_ble_eq_true rfl) dX3_areAt_14) 0 0 17 rfl rfl rfl ?_
      refine r_ifeq hC 38 dX3_areAt_17 (by decide) 20 rfl (fun h => absurd h (by decide)) (fun _ => ?_)
      refine r_aload_n hC 0 dX3_areAt_20 rfl 21 rfl ?_
      refine r_iconst hC 2 dX3_areAt_21 ic_2 22 rfl ?_
      refine r_aload_n hC 1 dX3_areAt_22 rfl 23 rfl ?_
      refine r_iconst hC 3 dX3_areAt_23 ic_3 24 rfl ?_
      refine r_iload_n hC 2 dX3_areAt_24 rfl 25 rfl ?_
      refine r_isub hC 2 dX3_areAt_25  (by decide) 26 rfl ?_
      refine r_iload_n hC 3 dX3_areAt_26 rfl 27 rfl ?_
      refine r_isub hC 2 dX3_areAt_27  (by decide) 28 rfl ?_
      rcases Bool.eq_false_or_eq_true (likeQ r ru 2 2) with hk3 | hk3
      · skip
        refine xCall.r (r := some (.int 1)) (r_cV hC kX3 (o 0) [.int 2, .ref (u 0), .int 2] mVX3_isAt q1735 (fun _ h => ⟨_, h.get 0 rfl⟩) (fun V9 h9 => (xRm_v (metX3_isAt _ _ hG o u (fun _ => 0) r (fun _ => 0) ru 2 2 (Nat.le_of_ble_eq_true rfl) (Nat.le_of_ble_eq_true rfl) hpl hm hpl2 hm2) (show _ = some (Value.int 1) by rw [hk3]; rfl)) V9 (h9.in.sub [0, 1, 2, 3, 4, 5, 6, 7, 8, 9, 10, 11] rfl rfl)) ⟨rfl, rfl⟩ (Nat.le_of_ble_eq_true rfl) (Nat.le_of_ble_eq_true rfl) rfl (Nat.le_of_ble_eq_true rfl) dX3_areAt_28) 0 0 31 rfl rfl rfl ?_
        refine r_ifeq hC 38 dX3_areAt_31 (by decide) 34 rfl (fun h => absurd h (by decide)) (fun _ => ?_)
        refine r_iconst hC 1 dX3_areAt_34 ic_1 35 rfl ?_
        refine r_goto hC 39 dX3_areAt_35 (by decide) ?_
        exact r_zret hC (by decide) (Nat.le_of_ble_eq_true rfl) (Nat.le_of_ble_eq_true rfl) (fun V9 h => hQ _ _ ⟨by rw [trioQ, hk1, hk2, hk3]; simp [bI], h.1⟩) dX3_areAt_39
      · skip
        refine xCall.r (r := some (.int 0)) (r_cV hC kX3 (o 0) [.int 2, .ref (u 0), .int 2] mVX3_isAt q1735 (fun _ h => ⟨_, h.get 0 rfl⟩) (fun V9 h9 => (xRm_v (metX3_isAt _ _ hG o u (fun _ => 0) r (fun _ => 0) ru 2 2 (Nat.le_of_ble_eq_true rfl) (Nat.le_of_ble_eq_true rfl) hpl hm hpl2 hm2) (show _ = some (Value.int 0) by rw [hk3]; rfl)) V9 (h9.in.sub [0, 1, 2, 3, 4, 5, 6, 7, 8, 9, 10, 11] rfl rfl)) ⟨rfl, rfl⟩ (Nat.le_of_ble_eq_true rfl) (Nat.le_of_ble_eq_true rfl) rfl (Nat.le_of_ble_eq_true rfl) dX3_areAt_28) 0 0 31 rfl rfl rfl ?_
        refine r_ifeq hC 38 dX3_areAt_31 (by decide) 34 rfl (fun _ => ?_) (fun h => absurd h (by decide))
        refine r_iconst hC 0 dX3_areAt_38 ic_0 39 rfl ?_
        exact r_zret hC (by decide) (Nat.le_of_ble_eq_true rfl) (Nat.le_of_ble_eq_true rfl) (fun V9 h => hQ _ _ ⟨by rw [trioQ, hk1, hk2, hk3]; simp [bI], h.1⟩) dX3_areAt_39
    · skip
      refine xCall.r (r := some (.int 0)) (r_cV hC kX3 (o 0) [.int 1, .ref (u 0), .int 0] mVX3_isAt q1735 (fun _ h => ⟨_, h.get 0 rfl⟩) (fun V9 h9 => (xRm_v (metX3_isAt _ _ hG o u (fun _ => 0) r (fun _ => 0) ru 1 0 (Nat.le_of_ble_eq_true rfl) (Nat.le_of_ble_eq_true rfl) hpl hm hpl2 hm2) (show _ = some (Value.int 0) by rw [hk2]; rfl)) V9 (h9.in.sub [0, 1, 2, 3, 4, 5, 6, 7, 8, 9, 10, 11] rfl rfl)) ⟨rfl, rfl⟩ (Nat.le_of_ble_eq_true rfl) (Nat.le_of_ble_eq_true rfl) rfl (Nat.le_of_ble_eq_true rfl) dX3_areAt_14) 0 0 17 rfl rfl rfl ?_
      refine r_ifeq hC 38 dX3_areAt_17 (by decide) 20 rfl (fun _ => ?_) (fun h => absurd h (by decide))
      refine r_iconst hC 0 dX3_areAt_38 ic_0 39 rfl ?_
      exact r_zret hC (by decide) (Nat.le_of_ble_eq_true rfl) (Nat.le_of_ble_eq_true rfl) (fun V9 h => hQ _ _ ⟨by rw [trioQ, hk1, hk2]; simp [bI], h.1⟩) dX3_areAt_39
  · skip
    refine xCall.r (r := some (.int 0)) (r_cV hC kX3 (o 0) [.int 0, .ref (u 0), .int 1] mVX3_isAt q1735 (fun _ h => ⟨_, h.get 0 rfl⟩) (fun V9 h9 => (xRm_v (metX3_isAt _ _ hG o u (fun _ => 0) r (fun _ => 0) ru 0 1 (Nat.le_of_ble_eq_true rfl) (Nat.le_of_ble_eq_true rfl) hpl hm hpl2 hm2) (show _ = some (Value.int 0) by rw [hk1]; rfl)) V9 (h9.in.sub [0, 1, 2, 3, 4, 5, 6, 7, 8, 9, 10, 11] rfl rfl)) ⟨rfl, rfl⟩ (Nat.le_of_ble_eq_true rfl) (Nat.le_of_ble_eq_true rfl) rfl (Nat.le_of_ble_eq_true rfl) dX3_areAt_4) 0 0 7 rfl rfl rfl ?_
    refine r_ifeq hC 38 dX3_areAt_7 (by decide) 10 rfl (fun _ => ?_) (fun h => absurd h (by decide))
    refine r_iconst hC 0 dX3_areAt_38 ic_0 39 rfl ?_
    exact r_zret hC (by decide) (Nat.le_of_ble_eq_true rfl) (Nat.le_of_ble_eq_true rfl) (fun V9 h => hQ _ _ ⟨by rw [trioQ, hk1]; simp [bI], h.1⟩) dX3_areAt_39
set_option maxHeartbeats 4000000 in
set_option maxRecDepth 100000 in
theorem metX3_areAt12 (l : Launch) (G : xG) (hG : xGood G) (o u : Nat → Nat) (t r tu ru : Nat → Int64) (hpl : plR r) (hm : mOK r) (hpl2 : plR ru) (hm2 : mOK ru) : xRm l G yX3_areAt (Cond.code yX3_areAt cX3_areAt 4 (some .boolean)) { frames := 1, locals := 23, cells := 0, slots := 0 } [.ref (o 0), .ref (u 0), .int 1, .int 2] [(o 0, .inr (2, [.ref (o 1), .ref (o 2), .ref (o 3), .ref (o 4), .ref (o 5), .ref (o 6), .ref (o 7), .ref (o 8), .ref (o 9), .ref (o 10), .int ((r 0).toInt32)])), (o 2, .inl (0, 3, .inl (maF r))), (o 3, .inl (0, 3, .inl (plX r))), (o 4, .inl (0, 3, .inl (plY r))), (o 5, .inl (1, 3, .inr (.inl (moX r)))), (o 6, .inl (1, 3, .inr (.inl (moY r)))), (u 0, .inr (2, [.ref (u 1), .ref (u 2), .ref (u 3), .ref (u 4), .ref (u 5), .ref (u 6), .ref (u 7), .ref (u 8), .ref (u 9), .ref (u 10), .int ((ru 0).toInt32)])), (u 2, .inl (0, 3, .inl (maF ru))), (u 3, .inl (0, 3, .inl (plX ru))), (u 4, .inl (0, 3, .inl (plY ru))), (u 5, .inl (1, 3, .inr (.inl (moX ru)))), (u 6, .inl (1, 3, .inr (.inl (moY ru))))] (some (.int (bI (trioQ r ru 1 2 0)))) := by
  intro V hV
  refine xMet_ofT RX3 hG rfl (by decide) (Nat.le_of_ble_eq_true rfl) fun C hC hQ hX hl hg _ hTab => ?_
  subst hl hg
  refine rn.mono (J := xRo [(o 0, .inr (2, [.ref (o 1), .ref (o 2), .ref (o 3), .ref (o 4), .ref (o 5), .ref (o 6), .ref (o 7), .ref (o 8), .ref (o 9), .ref (o 10), .int ((r 0).toInt32)])), (o 2, .inl (0, 3, .inl (maF r))), (o 3, .inl (0, 3, .inl (plX r))), (o 4, .inl (0, 3, .inl (plY r))), (o 5, .inl (1, 3, .inr (.inl (moX r)))), (o 6, .inl (1, 3, .inr (.inl (moY r)))), (u 0, .inr (2, [.ref (u 1), .ref (u 2), .ref (u 3), .ref (u 4), .ref (u 5), .ref (u 6), .ref (u 7), .ref (u 8), .ref (u 9), .ref (u 10), .int ((ru 0).toInt32)])), (u 2, .inl (0, 3, .inl (maF ru))), (u 3, .inl (0, 3, .inl (plX ru))), (u 4, .inl (0, 3, .inl (plY ru))), (u 5, .inl (1, 3, .inr (.inl (moX ru)))), (u 6, .inl (1, 3, .inr (.inl (moY ru))))] V) (fun V9 h => ⟨h, hV⟩) ?_
  show rn C (xRo [(o 0, .inr (2, [.ref (o 1), .ref (o 2), .ref (o 3), .ref (o 4), .ref (o 5), .ref (o 6), .ref (o 7), .ref (o 8), .ref (o 9), .ref (o 10), .int ((r 0).toInt32)])), (o 2, .inl (0, 3, .inl (maF r))), (o 3, .inl (0, 3, .inl (plX r))), (o 4, .inl (0, 3, .inl (plY r))), (o 5, .inl (1, 3, .inr (.inl (moX r)))), (o 6, .inl (1, 3, .inr (.inl (moY r)))), (u 0, .inr (2, [.ref (u 1), .ref (u 2), .ref (u 3), .ref (u 4), .ref (u 5), .ref (u 6), .ref (u 7), .ref (u 8), .ref (u 9), .ref (u 10), .int ((ru 0).toInt32)])), (u 2, .inl (0, 3, .inl (maF ru))), (u 3, .inl (0, 3, .inl (plX ru))), (u 4, .inl (0, 3, .inl (plY ru))), (u 5, .inl (1, 3, .inr (.inl (moX ru)))), (u 6, .inl (1, 3, .inr (.inl (moY ru))))] V) 0 0 0 [(0, .ref (o 0)), (1, .ref (u 0)), (2, .int 1), (3, .int 2)] []
  refine r_aload_n hC 0 dX3_areAt_0 rfl 1 rfl ?_
  refine r_iconst hC 0 dX3_areAt_1 ic_0 2 rfl ?_
  refine r_aload_n hC 1 dX3_areAt_2 rfl 3 rfl ?_
  refine r_iload_n hC 2 dX3_areAt_3 rfl 4 rfl ?_
  rcases Bool.eq_false_or_eq_true (likeQ r ru 0 1) with hk1 | hk1
  · skip
    refine xCall.r (r := some (.int 1)) (r_cV hC kX3 (o 0) [.int 0, .ref (u 0), .int 1] mVX3_isAt q1735 (fun _ h => ⟨_, h.get 0 rfl⟩) (fun V9 h9 => (xRm_v (metX3_isAt _ _ hG o u (fun _ => 0) r (fun _ => 0) ru 0 1 (Nat.le_of_ble_eq_true rfl) (Nat.le_of_ble_eq_true rfl) hpl hm hpl2 hm2) (show _ = some (Value.int 1) by rw [hk1]; rfl)) V9 (h9.in.sub [0, 1, 2, 3, 4, 5, 6, 7, 8, 9, 10, 11] rfl rfl)) ⟨rfl, rfl⟩ (Nat.le_of_ble_eq_true rfl) (Nat.le_of_ble_eq_true rfl) rfl (Nat.le_of_ble_eq_true rfl) dX3_areAt_4) 0 0 7 rfl rfl rfl ?_
    refine r_ifeq hC 38 dX3_areAt_7 (by decide) 10 rfl (fun h => absurd h (by decide)) (fun _ => ?_)
    refine r_aload_n hC 0 dX3_areAt_10 rfl 11 rfl ?_
    refine r_iconst hC 1 dX3_areAt_11 ic_1 12 rfl ?_
    refine r_aload_n hC 1 dX3_areAt_12 rfl 13 rfl ?_
    refine r_iload_n hC 3 dX3_areAt_13 rfl 14 rfl ?_
    rcases Bool.eq_false_or_eq_true (likeQ r ru 1 2) with hk2 | hk2
    · skip
      refine xCall.r (r := some (.int 1)) (r_cV hC kX3 (o 0) [.int 1, .ref (u 0), .int 2] mVX3_isAt q1735 (fun _ h => ⟨_, h.get 0 rfl⟩) (fun V9 h9 => (xRm_v (metX3_isAt _ _ hG o u (fun _ => 0) r (fun _ => 0) ru 1 2 (Nat.le_of_ble_eq_true rfl) (Nat.le_of_ble_eq_true rfl) hpl hm hpl2 hm2) (show _ = some (Value.int 1) by rw [hk2]; rfl)) V9 (h9.in.sub [0, 1, 2, 3, 4, 5, 6, 7, 8, 9, 10, 11] rfl rfl)) ⟨rfl, rfl⟩ (Nat.le_of_ble_eq_true rfl) (Nat.le_of_ble_eq_true rfl) rfl (Nat.le_of_ble_eq_true rfl) dX3_areAt_14) 0 0 17 rfl rfl rfl ?_
      refine r_ifeq hC 38 dX3_areAt_17 (by decide) 20 rfl (fun h => absurd h (by decide)) (fun _ => ?_)
      refine r_aload_n hC 0 dX3_areAt_20 rfl 21 rfl ?_
      refine r_iconst hC 2 dX3_areAt_21 ic_2 22 rfl ?_
      refine r_aload_n hC 1 dX3_areAt_22 rfl 23 rfl ?_
      refine r_iconst hC 3 dX3_areAt_23 ic_3 24 rfl ?_
      refine r_iload_n hC 2 dX3_areAt_24 rfl 25 rfl ?_
      refine r_isub hC 2 dX3_areAt_25  (by decide) 26 rfl ?_
      refine r_iload_n hC 3 dX3_areAt_26 rfl 27 rfl ?_
      refine r_isub hC 0 dX3_areAt_27  (by decide) 28 rfl ?_
      rcases Bool.eq_false_or_eq_true (likeQ r ru 2 0) with hk3 | hk3
      · skip
        refine xCall.r (r := some (.int 1)) (r_cV hC kX3 (o 0) [.int 2, .ref (u 0), .int 0] mVX3_isAt q1735 (fun _ h => ⟨_, h.get 0 rfl⟩) (fun V9 h9 => (xRm_v (metX3_isAt _ _ hG o u (fun _ => 0) r (fun _ => 0) ru 2 0 (Nat.le_of_ble_eq_true rfl) (Nat.le_of_ble_eq_true rfl) hpl hm hpl2 hm2) (show _ = some (Value.int 1) by rw [hk3]; rfl)) V9 (h9.in.sub [0, 1, 2, 3, 4, 5, 6, 7, 8, 9, 10, 11] rfl rfl)) ⟨rfl, rfl⟩ (Nat.le_of_ble_eq_true rfl) (Nat.le_of_ble_eq_true rfl) rfl (Nat.le_of_ble_eq_true rfl) dX3_areAt_28) 0 0 31 rfl rfl rfl ?_
        refine r_ifeq hC 38 dX3_areAt_31 (by decide) 34 rfl (fun h => absurd h (by decide)) (fun _ => ?_)
        refine r_iconst hC 1 dX3_areAt_34 ic_1 35 rfl ?_
        refine r_goto hC 39 dX3_areAt_35 (by decide) ?_
        exact r_zret hC (by decide) (Nat.le_of_ble_eq_true rfl) (Nat.le_of_ble_eq_true rfl) (fun V9 h => hQ _ _ ⟨by rw [trioQ, hk1, hk2, hk3]; simp [bI], h.1⟩) dX3_areAt_39
      · skip
        refine xCall.r (r := some (.int 0)) (r_cV hC kX3 (o 0) [.int 2, .ref (u 0), .int 0] mVX3_isAt q1735 (fun _ h => ⟨_, h.get 0 rfl⟩) (fun V9 h9 => (xRm_v (metX3_isAt _ _ hG o u (fun _ => 0) r (fun _ => 0) ru 2 0 (Nat.le_of_ble_eq_true rfl) (Nat.le_of_ble_eq_true rfl) hpl hm hpl2 hm2) (show _ = some (Value.int 0) by rw [hk3]; rfl)) V9 (h9.in.sub [0, 1, 2, 3, 4, 5, 6, 7, 8, 9, 10, 11] rfl rfl)) ⟨rfl, rfl⟩ (Nat.le_of_ble_eq_true rfl) (Nat.le_of_ble_eq_true rfl) rfl (Nat.le_of_ble_eq_true rfl) dX3_areAt_28) 0 0 31 rfl rfl rfl ?_
        refine r_ifeq hC 38 dX3_areAt_31 (by decide) 34 rfl (fun _ => ?_) (fun h => absurd h (by decide))
        refine r_iconst hC 0 dX3_areAt_38 ic_0 39 rfl ?_
        exact r_zret hC (by decide) (Nat.le_of_ble_eq_true rfl) (Nat.le_of_ble_eq_true rfl) (fun V9 h => hQ _ _ ⟨by rw [trioQ, hk1, hk2, hk3]; simp [bI], h.1⟩) dX3_areAt_39
    · skip
      refine xCall.r (r := some (.int 0)) (r_cV hC kX3 (o 0) [.int 1, .ref (u 0), .int 2] mVX3_isAt q1735 (fun _ h => ⟨_, h.get 0 rfl⟩) (fun V9 h9 => (xRm_v (metX3_isAt _ _ hG o u (fun _ => 0) r (fun _ => 0) ru 1 2 (Nat.le_of_ble_eq_true rfl) (Nat.le_of_ble_eq_true rfl) hpl hm hpl2 hm2) (show _ = some (Value.int 0) by rw [hk2]; rfl)) V9 (h9.in.sub [0, 1, 2, 3, 4, 5, 6, 7, 8, 9, 10, 11] rfl rfl)) ⟨rfl, rfl⟩ (Nat.le_of_ble_eq_true rfl) (Nat.le_of_ble_eq_true rfl) rfl (Nat.le_of_ble_eq_true rfl) dX3_areAt_14) 0 0 17 rfl rfl rfl ?_
      refine r_ifeq hC 38 dX3_areAt_17 (by decide) 20 rfl (fun _ => ?_) (fun h => absurd h (by decide))
      refine r_iconst hC 0 dX3_areAt_38 ic_0 39 rfl ?_
      exact r_zret hC (by decide) (Nat.le_of_ble_eq_true rfl) (Nat.le_of_ble_eq_true rfl) (fun V9 h => hQ _ _ ⟨by rw [trioQ, hk1, hk2]; simp [bI], h.1⟩) dX3_areAt_39
  · skip
    refine xCall.r (r := some (.int 0)) (r_cV hC kX3 (o 0) [.int 0, .ref (u 0), .int 1] mVX3_isAt q1735 (fun _ h => ⟨_, h.get 0 rfl⟩) (fun V9 h9 => (xRm_v (metX3_isAt _ _ hG o u (fun _ => 0) r (fun _ => 0) ru 0 1 (Nat.le_of_ble_eq_true rfl) (Nat.le_of_ble_eq_true rfl) hpl hm hpl2 hm2) (show _ = some (Value.int 0) by rw [hk1]; rfl)) V9 (h9.in.sub [0, 1, 2, 3, 4, 5, 6, 7, 8, 9, 10, 11] rfl rfl)) ⟨rfl, rfl⟩ (Nat.le_of_ble_eq_true rfl) (Nat.le_of_ble_eq_true rfl) rfl (Nat.le_of_ble_eq_true rfl) dX3_areAt_4) 0 0 7 rfl rfl rfl ?_
    refine r_ifeq hC 38 dX3_areAt_7 (by decide) 10 rfl (fun _ => ?_) (fun h => absurd h (by decide))
    refine r_iconst hC 0 dX3_areAt_38 ic_0 39 rfl ?_
    exact r_zret hC (by decide) (Nat.le_of_ble_eq_true rfl) (Nat.le_of_ble_eq_true rfl) (fun V9 h => hQ _ _ ⟨by rw [trioQ, hk1]; simp [bI], h.1⟩) dX3_areAt_39
set_option maxHeartbeats 4000000 in
set_option maxRecDepth 100000 in
theorem metX3_areAt20 (l : Launch) (G : xG) (hG : xGood G) (o u : Nat → Nat) (t r tu ru : Nat → Int64) (hpl : plR r) (hm : mOK r) (hpl2 : plR ru) (hm2 : mOK ru) : xRm l G yX3_areAt (Cond.code yX3_areAt cX3_areAt 4 (some .boolean)) { frames := 1, locals := 23, cells := 0, slots := 0 } [.ref (o 0), .ref (u 0), .int 2, .int 0] [(o 0, .inr (2, [.ref (o 1), .ref (o 2), .ref (o 3), .ref (o 4), .ref (o 5), .ref (o 6), .ref (o 7), .ref (o 8), .ref (o 9), .ref (o 10), .int ((r 0).toInt32)])), (o 2, .inl (0, 3, .inl (maF r))), (o 3, .inl (0, 3, .inl (plX r))), (o 4, .inl (0, 3, .inl (plY r))), (o 5, .inl (1, 3, .inr (.inl (moX r)))), (o 6, .inl (1, 3, .inr (.inl (moY r)))), (u 0, .inr (2, [.ref (u 1), .ref (u 2), .ref (u 3), .ref (u 4), .ref (u 5), .ref (u 6), .ref (u 7), .ref (u 8), .ref (u 9), .ref (u 10), .int ((ru 0).toInt32)])), (u 2, .inl (0, 3, .inl (maF ru))), (u 3, .inl (0, 3, .inl (plX ru))), (u 4, .inl (0, 3, .inl (plY ru))), (u 5, .inl (1, 3, .inr (.inl (moX ru)))), (u 6, .inl (1, 3, .inr (.inl (moY ru))))] (some (.int (bI (trioQ r ru 2 0 1)))) := by
  intro V hV
  refine xMet_ofT RX3 hG rfl (by decide) (Nat.le_of_ble_eq_true rfl) fun C hC hQ hX hl hg _ hTab => ?_
  subst hl hg
  refine rn.mono (J := xRo [(o 0, .inr (2, [.ref (o 1), .ref (o 2), .ref (o 3), .ref (o 4), .ref (o 5), .ref (o 6), .ref (o 7), .ref (o 8), .ref (o 9), .ref (o 10), .int ((r 0).toInt32)])), (o 2, .inl (0, 3, .inl (maF r))), (o 3, .inl (0, 3, .inl (plX r))), (o 4, .inl (0, 3, .inl (plY r))), (o 5, .inl (1, 3, .inr (.inl (moX r)))), (o 6, .inl (1, 3, .inr (.inl (moY r)))), (u 0, .inr (2, [.ref (u 1), .ref (u 2), .ref (u 3), .ref (u 4), .ref (u 5), .ref (u 6), .ref (u 7), .ref (u 8), .ref (u 9), .ref (u 10), .int ((ru 0).toInt32)])), (u 2, .inl (0, 3, .inl (maF ru))), (u 3, .inl (0, 3, .inl (plX ru))), (u 4, .inl (0, 3, .inl (plY ru))), (u 5, .inl (1, 3, .inr (.inl (moX ru)))), (u 6, .inl (1, 3, .inr (.inl (moY ru))))] V) (fun V9 h => ⟨h, hV⟩) ?_
  show rn C (xRo [(o 0, .inr (2, [.ref (o 1), .ref (o 2), .ref (o 3), .ref (o 4), .ref (o 5), .ref (o 6), .ref (o 7), .ref (o 8), .ref (o 9), .ref (o 10), .int ((r 0).toInt32)])), (o 2, .inl (0, 3, .inl (maF r))), (o 3, .inl (0, 3, .inl (plX r))), (o 4, .inl (0, 3, .inl (plY r))), (o 5, .inl (1, 3, .inr (.inl (moX r)))), (o 6, .inl (1, 3, .inr (.inl (moY r)))), (u 0, .inr (2, [.ref (u 1), .ref (u 2), .ref (u 3), .ref (u 4), .ref (u 5), .ref (u 6), .ref (u 7), .ref (u 8), .ref (u 9), .ref (u 10), .int ((ru 0).toInt32)])), (u 2, .inl (0, 3, .inl (maF ru))), (u 3, .inl (0, 3, .inl (plX ru))), (u 4, .inl (0, 3, .inl (plY ru))), (u 5, .inl (1, 3, .inr (.inl (moX ru)))), (u 6, .inl (1, 3, .inr (.inl (moY ru))))] V) 0 0 0 [(0, .ref (o 0)), (1, .ref (u 0)), (2, .int 2), (3, .int 0)] []
  refine r_aload_n hC 0 dX3_areAt_0 rfl 1 rfl ?_
  refine r_iconst hC 0 dX3_areAt_1 ic_0 2 rfl ?_
  refine r_aload_n hC 1 dX3_areAt_2 rfl 3 rfl ?_
  refine r_iload_n hC 2 dX3_areAt_3 rfl 4 rfl ?_
  rcases Bool.eq_false_or_eq_true (likeQ r ru 0 2) with hk1 | hk1
  · skip
    refine xCall.r (r := some (.int 1)) (r_cV hC kX3 (o 0) [.int 0, .ref (u 0), .int 2] mVX3_isAt q1735 (fun _ h => ⟨_, h.get 0 rfl⟩) (fun V9 h9 => (xRm_v (metX3_isAt _ _ hG o u (fun _ => 0) r (fun _ => 0) ru 0 2 (Nat.le_of_ble_eq_true rfl) (Nat.le_of_ble_eq_true rfl) hpl hm hpl2 hm2) (show _ = some (Value.int 1) by rw [hk1]; rfl)) V9 (h9.in.sub [0, 1, 2, 3, 4, 5, 6, 7, 8, 9, 10, 11] rfl rfl)) ⟨rfl, rfl⟩ (Nat.le_of_ble_eq_true rfl) (Nat.le_of_ble_eq_true rfl) rfl (Nat.le_of_ble_eq_true rfl) dX3_areAt_4) 0 0 7 rfl rfl rfl ?_
    refine r_ifeq hC 38 dX3_areAt_7 (by decide) 10 rfl (fun h => absurd h (by decide)) (fun _ => ?_)
    refine r_aload_n hC 0 dX3_areAt_10 rfl 11 rfl ?_
    refine r_iconst hC 1 dX3_areAt_11 ic_1 12 rfl ?_
    refine r_aload_n hC 1 dX3_areAt_12 rfl 13 rfl ?_
    refine r_iload_n hC 3 dX3_areAt_13 rfl 14 rfl ?_
    rcases Bool.eq_false_or_eq_true (likeQ r ru 1 0) with hk2 | hk2
    · skip
      refine xCall.r (r := some (.int 1)) (r_cV hC kX3 (o 0) [.int 1, .ref (u 0), .int 0] mVX3_isAt q1735 (fun _ h => ⟨_, h.get 0 rfl⟩) (fun V9 h9 => (xRm_v (metX3_isAt _ _ hG o u (fun _ => 0) r (fun _ => 0) ru 1 0 (Nat.le_of_ble_eq_true rfl) (Nat.le_of_ble_eq_true rfl) hpl hm hpl2 hm2) (show _ = some (Value.int 1) by rw [hk2]; rfl)) V9 (h9.in.sub [0, 1, 2, 3, 4, 5, 6, 7, 8, 9, 10, 11] rfl rfl)) ⟨rfl, rfl⟩ (Nat.le_of_ble_eq_true rfl) (Nat.le_of_ble_eq_true rfl) rfl (Nat.le_of_ble_eq_true rfl) dX3_areAt_14) 0 0 17 rfl rfl rfl ?_
      refine r_ifeq hC 38 dX3_areAt_17 (by decide) 20 rfl (fun h => absurd h (by decide)) (fun _ => ?_)
      refine r_aload_n hC 0 dX3_areAt_20 rfl 21 rfl ?_
      refine r_iconst hC 2 dX3_areAt_21 ic_2 22 rfl ?_
      refine r_aload_n hC 1 dX3_areAt_22 rfl 23 rfl ?_
      refine r_iconst hC 3 dX3_areAt_23 ic_3 24 rfl ?_
      refine r_iload_n hC 2 dX3_areAt_24 rfl 25 rfl ?_
      refine r_isub hC 1 dX3_areAt_25  (by decide) 26 rfl ?_
      refine r_iload_n hC 3 dX3_areAt_26 rfl 27 rfl ?_
      refine r_isub hC 1 dX3_areAt_27  (by decide) 28 rfl ?_
      rcases Bool.eq_false_or_eq_true (likeQ r ru 2 1) with hk3 | hk3
      · skip
        refine xCall.r (r := some (.int 1)) (r_cV hC kX3 (o 0) [.int 2, .ref (u 0), .int 1] mVX3_isAt q1735 (fun _ h => ⟨_, h.get 0 rfl⟩) (fun V9 h9 => (xRm_v (metX3_isAt _ _ hG o u (fun _ => 0) r (fun _ => 0) ru 2 1 (Nat.le_of_ble_eq_true rfl) (Nat.le_of_ble_eq_true rfl) hpl hm hpl2 hm2) (show _ = some (Value.int 1) by rw [hk3]; rfl)) V9 (h9.in.sub [0, 1, 2, 3, 4, 5, 6, 7, 8, 9, 10, 11] rfl rfl)) ⟨rfl, rfl⟩ (Nat.le_of_ble_eq_true rfl) (Nat.le_of_ble_eq_true rfl) rfl (Nat.le_of_ble_eq_true rfl) dX3_areAt_28) 0 0 31 rfl rfl rfl ?_
        refine r_ifeq hC 38 dX3_areAt_31 (by decide) 34 rfl (fun h => absurd h (by decide)) (fun _ => ?_)
        refine r_iconst hC 1 dX3_areAt_34 ic_1 35 rfl ?_
        refine r_goto hC 39 dX3_areAt_35 (by decide) ?_
        exact r_zret hC (by decide) (Nat.le_of_ble_eq_true rfl) (Nat.le_of_ble_eq_true rfl) (fun V9 h => hQ _ _ ⟨by rw [trioQ, hk1, hk2, hk3]; simp [bI], h.1⟩) dX3_areAt_39
      · skip
        refine xCall.r (r := some (.int 0)) (r_cV hC kX3 (o 0) [.int 2, .ref (u 0), .int 1] mVX3_isAt q1735 (fun _ h => ⟨_, h.get 0 rfl⟩) (fun V9 h9 => (xRm_v (metX3_isAt _ _ hG o u (fun _ => 0) r (fun _ => 0) ru 2 1 (Nat.le_of_ble_eq_true rfl) (Nat.le_of_ble_eq_true rfl) hpl hm hpl2 hm2) (show _ = some (Value.int 0) by rw [hk3]; rfl)) V9 (h9.in.sub [0, 1, 2, 3, 4, 5, 6, 7, 8, 9, 10, 11] rfl rfl)) ⟨rfl, rfl⟩ (Nat.le_of_ble_eq_true rfl) (Nat.le_of_ble_eq_true rfl) rfl (Nat.le_of_ble_eq_true rfl) dX3_areAt_28) 0 0 31 rfl rfl rfl ?_
        refine r_ifeq hC 38 dX3_areAt_31 (by decide) 34 rfl (fun _ => ?_) (fun h => absurd h (by decide))
        refine r_iconst hC 0 dX3_areAt_38 ic_0 39 rfl ?_
        exact r_zret hC (by decide) (Nat.le_of_ble_eq_true rfl) (Nat.le_of_ble_eq_true rfl) (fun V9 h => hQ _ _ ⟨by rw [trioQ, hk1, hk2, hk3]; simp [bI], h.1⟩) dX3_areAt_39
    · skip
      refine xCall.r (r := some (.int 0)) (r_cV hC kX3 (o 0) [.int 1, .ref (u 0), .int 0] mVX3_isAt q1735 (fun _ h => ⟨_, h.get 0 rfl⟩) (fun V9 h9 => (xRm_v (metX3_isAt _ _ hG o u (fun _ => 0) r (fun _ => 0) ru 1 0 (Nat.le_of_ble_eq_true rfl) (Nat.le_of_ble_eq_true rfl) hpl hm hpl2 hm2) (show _ = some (Value.int 0) by rw [hk2]; rfl)) V9 (h9.in.sub [0, 1, 2, 3, 4, 5, 6, 7, 8, 9, 10, 11] rfl rfl)) ⟨rfl, rfl⟩ (Nat.le_of_ble_eq_true rfl) (Nat.le_of_ble_eq_true rfl) rfl (Nat.le_of_ble_eq_true rfl) dX3_areAt_14) 0 0 17 rfl rfl rfl ?_
      refine r_ifeq hC 38 dX3_areAt_17 (by decide) 20 rfl (fun _ => ?_) (fun h => absurd h (by decide))
      refine r_iconst hC 0 dX3_areAt_38 ic_0 39 rfl ?_
      exact r_zret hC (by decide) (Nat.le_of_ble_eq_true rfl) (Nat.le_of_ble_eq_true rfl) (fun V9 h => hQ _ _ ⟨by rw [trioQ, hk1, hk2]; simp [bI], h.1⟩) dX3_areAt_39
  · skip
    refine xCall.r (r := some (.int 0)) (r_cV hC kX3 (o 0) [.int 0, .ref (u 0), .int 2] mVX3_isAt q1735 (fun _ h => ⟨_, h.get 0 rfl⟩) (fun V9 h9 => (xRm_v (metX3_isAt _ _ hG o u (fun _ => 0) r (fun _ => 0) ru 0 2 (Nat.le_of_ble_eq_true rfl) (Nat.le_of_ble_eq_true rfl) hpl hm hpl2 hm2) (show _ = some (Value.int 0) by rw [hk1]; rfl)) V9 (h9.in.sub [0, 1, 2, 3, 4, 5, 6, 7, 8, 9, 10, 11] rfl rfl)) ⟨rfl, rfl⟩ (Nat.le_of_ble_eq_true rfl) (Nat.le_of_ble_eq_true rfl) rfl (Nat.le_of_ble_eq_true rfl) dX3_areAt_4) 0 0 7 rfl rfl rfl ?_
    refine r_ifeq hC 38 dX3_areAt_7 (by decide) 10 rfl (fun _ => ?_) (fun h => absurd h (by decide))
    refine r_iconst hC 0 dX3_areAt_38 ic_0 39 rfl ?_
    exact r_zret hC (by decide) (Nat.le_of_ble_eq_true rfl) (Nat.le_of_ble_eq_true rfl) (fun V9 h => hQ _ _ ⟨by rw [trioQ, hk1]; simp [bI], h.1⟩) dX3_areAt_39
set_option maxHeartbeats 4000000 in
set_option maxRecDepth 100000 in
theorem metX3_areAt21 (l : Launch) (G : xG) (hG : xGood G) (o u : Nat → Nat) (t r tu ru : Nat → Int64) (hpl : plR r) (hm : mOK r) (hpl2 : plR ru) (hm2 : mOK ru) : xRm l G yX3_areAt (Cond.code yX3_areAt cX3_areAt 4 (some .boolean)) { frames := 1, locals := 23, cells := 0, slots := 0 } [.ref (o 0), .ref (u 0), .int 2, .int 1] [(o 0, .inr (2, [.ref (o 1), .ref (o 2), .ref (o 3), .ref (o 4), .ref (o 5), .ref (o 6), .ref (o 7), .ref (o 8), .ref (o 9), .ref (o 10), .int ((r 0).toInt32)])), (o 2, .inl (0, 3, .inl (maF r))), (o 3, .inl (0, 3, .inl (plX r))), (o 4, .inl (0, 3, .inl (plY r))), (o 5, .inl (1, 3, .inr (.inl (moX r)))), (o 6, .inl (1, 3, .inr (.inl (moY r)))), (u 0, .inr (2, [.ref (u 1), .ref (u 2), .ref (u 3), .ref (u 4), .ref (u 5), .ref (u 6), .ref (u 7), .ref (u 8), .ref (u 9), .ref (u 10), .int ((ru 0).toInt32)])), (u 2, .inl (0, 3, .inl (maF ru))), (u 3, .inl (0, 3, .inl (plX ru))), (u 4, .inl (0, 3, .inl (plY ru))), (u 5, .inl (1, 3, .inr (.inl (moX ru)))), (u 6, .inl (1, 3, .inr (.inl (moY ru))))] (some (.int (bI (trioQ r ru 2 1 0)))) := by
  intro V hV
  refine xMet_ofT RX3 hG rfl (by decide) (Nat.le_of_ble_eq_true rfl) fun C hC hQ hX hl hg _ hTab => ?_
  subst hl hg
  refine rn.mono (J := xRo [(o 0, .inr (2, [.ref (o 1), .ref (o 2), .ref (o 3), .ref (o 4), .ref (o 5), .ref (o 6), .ref (o 7), .ref (o 8), .ref (o 9), .ref (o 10), .int ((r 0).toInt32)])), (o 2, .inl (0, 3, .inl (maF r))), (o 3, .inl (0, 3, .inl (plX r))), (o 4, .inl (0, 3, .inl (plY r))), (o 5, .inl (1, 3, .inr (.inl (moX r)))), (o 6, .inl (1, 3, .inr (.inl (moY r)))), (u 0, .inr (2, [.ref (u 1), .ref (u 2), .ref (u 3), .ref (u 4), .ref (u 5), .ref (u 6), .ref (u 7), .ref (u 8), .ref (u 9), .ref (u 10), .int ((ru 0).toInt32)])), (u 2, .inl (0, 3, .inl (maF ru))), (u 3, .inl (0, 3, .inl (plX ru))), (u 4, .inl (0, 3, .inl (plY ru))), (u 5, .inl (1, 3, .inr (.inl (moX ru)))), (u 6, .inl (1, 3, .inr (.inl (moY ru))))] V) (fun V9 h => ⟨h, hV⟩) ?_
  show rn C (xRo [(o 0, .inr (2, [.ref (o 1), .ref (o 2), .ref (o 3), .ref (o 4), .ref (o 5), .ref (o 6), .ref (o 7), .ref (o 8), .ref (o 9), .ref (o 10), .int ((r 0).toInt32)])), (o 2, .inl (0, 3, .inl (maF r))), (o 3, .inl (0, 3, .inl (plX r))), (o 4, .inl (0, 3, .inl (plY r))), (o 5, .inl (1, 3, .inr (.inl (moX r)))), (o 6, .inl (1, 3, .inr (.inl (moY r)))), (u 0, .inr (2, [.ref (u 1), .ref (u 2), .ref (u 3), .ref (u 4), .ref (u 5), .ref (u 6), .ref (u 7), .ref (u 8), .ref (u 9), .ref (u 10), .int ((ru 0).toInt32)])), (u 2, .inl (0, 3, .inl (maF ru))), (u 3, .inl (0, 3, .inl (plX ru))), (u 4, .inl (0, 3, .inl (plY ru))), (u 5, .inl (1, 3, .inr (.inl (moX ru)))), (u 6, .inl (1, 3, .inr (.inl (moY ru))))] V) 0 0 0 [(0, .ref (o 0)), (1, .ref (u 0)), (2, .int 2), (3, .int 1)] []
  refine r_aload_n hC 0 dX3_areAt_0 rfl 1 rfl ?_
  refine r_iconst hC 0 dX3_areAt_1 ic_0 2 rfl ?_
  refine r_aload_n hC 1 dX3_areAt_2 rfl 3 rfl ?_
  refine r_iload_n hC 2 dX3_areAt_3 rfl 4 rfl ?_
  rcases Bool.eq_false_or_eq_true (likeQ r ru 0 2) with hk1 | hk1
  · skip
    refine xCall.r (r := some (.int 1)) (r_cV hC kX3 (o 0) [.int 0, .ref (u 0), .int 2] mVX3_isAt q1735 (fun _ h => ⟨_, h.get 0 rfl⟩) (fun V9 h9 => (xRm_v (metX3_isAt _ _ hG o u (fun _ => 0) r (fun _ => 0) ru 0 2 (Nat.le_of_ble_eq_true rfl) (Nat.le_of_ble_eq_true rfl) hpl hm hpl2 hm2) (show _ = some (Value.int 1) by rw [hk1]; rfl)) V9 (h9.in.sub [0, 1, 2, 3, 4, 5, 6, 7, 8, 9, 10, 11] rfl rfl)) ⟨rfl, rfl⟩ (Nat.le_of_ble_eq_true rfl) (Nat.le_of_ble_eq_true rfl) rfl (Nat.le_of_ble_eq_true rfl) dX3_areAt_4) 0 0 7 rfl rfl rfl ?_
    refine r_ifeq hC 38 dX3_areAt_7 (by decide) 10 rfl (fun h => absurd h (by decide)) (fun _ => ?_)
    refine r_aload_n hC 0 dX3_areAt_10 rfl 11 rfl ?_
    refine r_iconst hC 1 dX3_areAt_11 ic_1 12 rfl ?_
    refine r_aload_n hC 1 dX3_areAt_12 rfl 13 rfl ?_
    refine r_iload_n hC 3 dX3_areAt_13 rfl 14 rfl ?_
    rcases Bool.eq_false_or_eq_true (likeQ r ru 1 1) with hk2 | hk2
    · skip
      refine xCall.r (r := some (.int 1)) (r_cV hC kX3 (o 0) [.int 1, .ref (u 0), .int 1] mVX3_isAt q1735 (fun _ h => ⟨_, h.get 0 rfl⟩) (fun V9 h9 => (xRm_v (metX3_isAt _ _ hG o u (fun _ => 0) r (fun _ => 0) ru 1 1 (Nat.le_of_ble_eq_true rfl) (Nat.le_of_ble_eq_true rfl) hpl hm hpl2 hm2) (show _ = some (Value.int 1) by rw [hk2]; rfl)) V9 (h9.in.sub [0, 1, 2, 3, 4, 5, 6, 7, 8, 9, 10, 11] rfl rfl)) ⟨rfl, rfl⟩ (Nat.le_of_ble_eq_true rfl) (Nat.le_of_ble_eq_true rfl) rfl (Nat.le_of_ble_eq_true rfl) dX3_areAt_14) 0 0 17 rfl rfl rfl ?_
      refine r_ifeq hC 38 dX3_areAt_17 (by decide) 20 rfl (fun h => absurd h (by decide)) (fun _ => ?_)
      refine r_aload_n hC 0 dX3_areAt_20 rfl 21 rfl ?_
      refine r_iconst hC 2 dX3_areAt_21 ic_2 22 rfl ?_
      refine r_aload_n hC 1 dX3_areAt_22 rfl 23 rfl ?_
      refine r_iconst hC 3 dX3_areAt_23 ic_3 24 rfl ?_
      refine r_iload_n hC 2 dX3_areAt_24 rfl 25 rfl ?_
      refine r_isub hC 1 dX3_areAt_25  (by decide) 26 rfl ?_
      refine r_iload_n hC 3 dX3_areAt_26 rfl 27 rfl ?_
      refine r_isub hC 0 dX3_areAt_27  (by decide) 28 rfl ?_
      rcases Bool.eq_false_or_eq_true (likeQ r ru 2 0) with hk3 | hk3
      · skip
        refine xCall.r (r := some (.int 1)) (r_cV hC kX3 (o 0) [.int 2, .ref (u 0), .int 0] mVX3_isAt q1735 (fun _ h => ⟨_, h.get 0 rfl⟩) (fun V9 h9 => (xRm_v (metX3_isAt _ _ hG o u (fun _ => 0) r (fun _ => 0) ru 2 0 (Nat.le_of_ble_eq_true rfl) (Nat.le_of_ble_eq_true rfl) hpl hm hpl2 hm2) (show _ = some (Value.int 1) by rw [hk3]; rfl)) V9 (h9.in.sub [0, 1, 2, 3, 4, 5, 6, 7, 8, 9, 10, 11] rfl rfl)) ⟨rfl, rfl⟩ (Nat.le_of_ble_eq_true rfl) (Nat.le_of_ble_eq_true rfl) rfl (Nat.le_of_ble_eq_true rfl) dX3_areAt_28) 0 0 31 rfl rfl rfl ?_
        refine r_ifeq hC 38 dX3_areAt_31 (by decide) 34 rfl (fun h => absurd h (by decide)) (fun _ => ?_)
        refine r_iconst hC 1 dX3_areAt_34 ic_1 35 rfl ?_
        refine r_goto hC 39 dX3_areAt_35 (by decide) ?_
        exact r_zret hC (by decide) (Nat.le_of_ble_eq_true rfl) (Nat.le_of_ble_eq_true rfl) (fun V9 h => hQ _ _ ⟨by rw [trioQ, hk1, hk2, hk3]; simp [bI], h.1⟩) dX3_areAt_39
      · skip
        refine xCall.r (r := some (.int 0)) (r_cV hC kX3 (o 0) [.int 2, .ref (u 0), .int 0] mVX3_isAt q1735 (fun _ h => ⟨_, h.get 0 rfl⟩) (fun V9 h9 => (xRm_v (metX3_isAt _ _ hG o u (fun _ => 0) r (fun _ => 0) ru 2 0 (Nat.le_of_ble_eq_true rfl) (Nat.le_of_ble_eq_true rfl) hpl hm hpl2 hm2) (show _ = some (Value.int 0) by rw [hk3]; rfl)) V9 (h9.in.sub [0, 1, 2, 3, 4, 5, 6, 7, 8, 9, 10, 11] rfl rfl)) ⟨rfl, rfl⟩ (Nat.le_of_ble_eq_true rfl) (Nat.le_of_ble_eq_true rfl) rfl (Nat.le_of_ble_eq_true rfl) dX3_areAt_28) 0 0 31 rfl rfl rfl ?_
        refine r_ifeq hC 38 dX3_areAt_31 (by decide) 34 rfl (fun _ => ?_) (fun h => absurd h (by decide))
        refine r_iconst hC 0 dX3_areAt_38 ic_0 39 rfl ?_
        exact r_zret hC (by decide) (Nat.le_of_ble_eq_true rfl) (Nat.le_of_ble_eq_true rfl) (fun V9 h => hQ _ _ ⟨by rw [trioQ, hk1, hk2, hk3]; simp [bI], h.1⟩) dX3_areAt_39
    · skip
      refine xCall.r (r := some (.int 0)) (r_cV hC kX3 (o 0) [.int 1, .ref (u 0), .int 1] mVX3_isAt q1735 (fun _ h => ⟨_, h.get 0 rfl⟩) (fun V9 h9 => (xRm_v (metX3_isAt _ _ hG o u (fun _ => 0) r (fun _ => 0) ru 1 1 (Nat.le_of_ble_eq_true rfl) (Nat.le_of_ble_eq_true rfl) hpl hm hpl2 hm2) (show _ = some (Value.int 0) by rw [hk2]; rfl)) V9 (h9.in.sub [0, 1, 2, 3, 4, 5, 6, 7, 8, 9, 10, 11] rfl rfl)) ⟨rfl, rfl⟩ (Nat.le_of_ble_eq_true rfl) (Nat.le_of_ble_eq_true rfl) rfl (Nat.le_of_ble_eq_true rfl) dX3_areAt_14) 0 0 17 rfl rfl rfl ?_
      refine r_ifeq hC 38 dX3_areAt_17 (by decide) 20 rfl (fun _ => ?_) (fun h => absurd h (by decide))
      refine r_iconst hC 0 dX3_areAt_38 ic_0 39 rfl ?_
      exact r_zret hC (by decide) (Nat.le_of_ble_eq_true rfl) (Nat.le_of_ble_eq_true rfl) (fun V9 h => hQ _ _ ⟨by rw [trioQ, hk1, hk2]; simp [bI], h.1⟩) dX3_areAt_39
  · skip
    refine xCall.r (r := some (.int 0)) (r_cV hC kX3 (o 0) [.int 0, .ref (u 0), .int 2] mVX3_isAt q1735 (fun _ h => ⟨_, h.get 0 rfl⟩) (fun V9 h9 => (xRm_v (metX3_isAt _ _ hG o u (fun _ => 0) r (fun _ => 0) ru 0 2 (Nat.le_of_ble_eq_true rfl) (Nat.le_of_ble_eq_true rfl) hpl hm hpl2 hm2) (show _ = some (Value.int 0) by rw [hk1]; rfl)) V9 (h9.in.sub [0, 1, 2, 3, 4, 5, 6, 7, 8, 9, 10, 11] rfl rfl)) ⟨rfl, rfl⟩ (Nat.le_of_ble_eq_true rfl) (Nat.le_of_ble_eq_true rfl) rfl (Nat.le_of_ble_eq_true rfl) dX3_areAt_4) 0 0 7 rfl rfl rfl ?_
    refine r_ifeq hC 38 dX3_areAt_7 (by decide) 10 rfl (fun _ => ?_) (fun h => absurd h (by decide))
    refine r_iconst hC 0 dX3_areAt_38 ic_0 39 rfl ?_
    exact r_zret hC (by decide) (Nat.le_of_ble_eq_true rfl) (Nat.le_of_ble_eq_true rfl) (fun V9 h => hQ _ _ ⟨by rw [trioQ, hk1]; simp [bI], h.1⟩) dX3_areAt_39
set_option maxHeartbeats 4000000 in
set_option maxRecDepth 100000 in
theorem metX3_isLike1 (l : Launch) (G : xG) (hG : xGood G) (o u : Nat → Nat) (t r tu ru : Nat → Int64) (hpl : plR r) (hm : mOK r) (hpl2 : plR ru) (hm2 : mOK ru) : xRm l G yX3_isLike (Cond.code yX3_isLike cX3_isLike 5 (some .boolean)) { frames := 2, locals := 46, cells := 0, slots := 0 } [.ref (o 0), .ref (u 0), .int 1] [(o 0, .inr (2, [.ref (o 1), .ref (o 2), .ref (o 3), .ref (o 4), .ref (o 5), .ref (o 6), .ref (o 7), .ref (o 8), .ref (o 9), .ref (o 10), .int ((r 0).toInt32)])), (o 2, .inl (0, 3, .inl (maF r))), (o 3, .inl (0, 3, .inl (plX r))), (o 4, .inl (0, 3, .inl (plY r))), (o 5, .inl (1, 3, .inr (.inl (moX r)))), (o 6, .inl (1, 3, .inr (.inl (moY r)))), (u 0, .inr (2, [.ref (u 1), .ref (u 2), .ref (u 3), .ref (u 4), .ref (u 5), .ref (u 6), .ref (u 7), .ref (u 8), .ref (u 9), .ref (u 10), .int ((ru 0).toInt32)])), (u 2, .inl (0, 3, .inl (maF ru))), (u 3, .inl (0, 3, .inl (plX ru))), (u 4, .inl (0, 3, .inl (plY ru))), (u 5, .inl (1, 3, .inr (.inl (moX ru)))), (u 6, .inl (1, 3, .inr (.inl (moY ru))))] (some (.int (bI (backQ r ru true)))) := by
  intro V hV
  refine xMet_ofT RX3 hG rfl (by decide) (Nat.le_of_ble_eq_true rfl) fun C hC hQ hX hl hg _ hTab => ?_
  subst hl hg
  obtain ⟨tONE, hzONE, htONE⟩ := za_ONE hG
  obtain ⟨tOTH, hzOTH, htOTH⟩ := za_OTH hG
  refine rn.mono (J := xRo [(o 0, .inr (2, [.ref (o 1), .ref (o 2), .ref (o 3), .ref (o 4), .ref (o 5), .ref (o 6), .ref (o 7), .ref (o 8), .ref (o 9), .ref (o 10), .int ((r 0).toInt32)])), (o 2, .inl (0, 3, .inl (maF r))), (o 3, .inl (0, 3, .inl (plX r))), (o 4, .inl (0, 3, .inl (plY r))), (o 5, .inl (1, 3, .inr (.inl (moX r)))), (o 6, .inl (1, 3, .inr (.inl (moY r)))), (u 0, .inr (2, [.ref (u 1), .ref (u 2), .ref (u 3), .ref (u 4), .ref (u 5), .ref (u 6), .ref (u 7), .ref (u 8), .ref (u 9), .ref (u 10), .int ((ru 0).toInt32)])), (u 2, .inl (0, 3, .inl (maF ru))), (u 3, .inl (0, 3, .inl (plX ru))), (u 4, .inl (0, 3, .inl (plY ru))), (u 5, .inl (1, 3, .inr (.inl (moX ru)))), (u 6, .inl (1, 3, .inr (.inl (moY ru))))] V) (fun V9 h => ⟨h, hV⟩) ?_
  show rn C (xRo [(o 0, .inr (2, [.ref (o 1), .ref (o 2), .ref (o 3), .ref (o 4), .ref (o 5), .ref (o 6), .ref (o 7), .ref (o 8), .ref (o 9), .ref (o 10), .int ((r 0).toInt32)])), (o 2, .inl (0, 3, .inl (maF r))), (o 3, .inl (0, 3, .inl (plX r))), (o 4, .inl (0, 3, .inl (plY r))), (o 5, .inl (1, 3, .inr (.inl (moX r)))), (o 6, .inl (1, 3, .inr (.inl (moY r)))), (u 0, .inr (2, [.ref (u 1), .ref (u 2), .ref (u 3), .ref (u 4), .ref (u 5), .ref (u 6), .ref (u 7), .ref (u 8), .ref (u 9), .ref (u 10), .int ((ru 0).toInt32)])), (u 2, .inl (0, 3, .inl (maF ru))), (u 3, .inl (0, 3, .inl (plX ru))), (u 4, .inl (0, 3, .inl (plY ru))), (u 5, .inl (1, 3, .inr (.inl (moX ru)))), (u 6, .inl (1, 3, .inr (.inl (moY ru))))] V) 0 0 0 [(0, .ref (o 0)), (1, .ref (u 0)), (2, .int 1)] []
  refine r_iload_n hC 2 dX3_isLike_0 rfl 1 rfl ?_
  refine r_ifne hC 12 dX3_isLike_1 (by decide) 4 rfl (fun _ => ?_) (fun h => absurd h (by decide))
  refine r_iconst hC 0 dX3_isLike_12 ic_0 13 rfl ?_
  refine r_istore_n hC 3 [(3, .int 0), (0, .ref (o 0)), (1, .ref (u 0)), (2, .int 1)] dX3_isLike_13 rfl (Nat.le_of_ble_eq_true rfl) rfl 14 rfl ?_
  refine r_iconst hC 0 dX3_isLike_14 ic_0 15 rfl ?_
  refine r_istore hC 4 [(4, .int 0), (3, .int 0), (0, .ref (o 0)), (1, .ref (u 0)), (2, .int 1)] dX3_isLike_15 (Nat.le_of_ble_eq_true rfl) rfl 17 rfl ?_
  refine r_iload hC 0 dX3_isLike_17 rfl 19 rfl ?_
  refine r_iconst hC 3 dX3_isLike_19 ic_3 20 rfl ?_
  refine r_icge hC 77 dX3_isLike_20 (by decide) 23 rfl (fun h => absurd h (by decide)) (fun _ => ?_)
  refine r_iload_n hC 1 dX3_isLike_23 rfl 24 rfl ?_
  refine r_aload_n hC 2 dX3_isLike_24 rfl 25 rfl ?_
  refine r_aload_n hC 3 dX3_isLike_25 rfl 26 rfl ?_
  refine r_getsN hC hG hzONE q271 dX3_isLike_26 29 rfl ?_
  refine r_iload hC 0 dX3_isLike_29 rfl 31 rfl ?_
  refine r_ialdT hC htONE 0 (xix_n 0 (Nat.le_of_ble_eq_true rfl) (Nat.le_of_ble_eq_true rfl)) 0 rfl dX3_isLike_31 32 rfl ?_
  refine r_getsN hC hG hzOTH q273 dX3_isLike_32 35 rfl ?_
  refine r_iload hC 0 dX3_isLike_35 rfl 37 rfl ?_
  refine r_ialdT hC htOTH 0 (xix_n 0 (Nat.le_of_ble_eq_true rfl) (Nat.le_of_ble_eq_true rfl)) 1 rfl dX3_isLike_37 38 rfl ?_
  rcases Bool.eq_false_or_eq_true (trioQ r ru 0 1 2) with hk1 | hk1
  · skip
    refine xCall.r (r := some (.int 1)) (r_cV hC kX3 (o 0) [.ref (u 0), .int 0, .int 1] mVX3_areAt q1731 (fun _ h => ⟨_, h.get 0 rfl⟩) (fun V9 h9 => (xRm_v (metX3_areAt01 _ _ hG o u (fun _ => 0) r (fun _ => 0) ru hpl hm hpl2 hm2) (show _ = some (Value.int 1) by rw [hk1]; rfl)) V9 (h9.in.sub [0, 1, 2, 3, 4, 5, 6, 7, 8, 9, 10, 11] rfl rfl)) ⟨rfl, rfl⟩ (Nat.le_of_ble_eq_true rfl) (Nat.le_of_ble_eq_true rfl) rfl (Nat.le_of_ble_eq_true rfl) dX3_isLike_38) 0 0 41 rfl rfl rfl ?_
    refine r_ifne hC 64 dX3_isLike_41 (by decide) 44 rfl (fun _ => ?_) (fun h => absurd h (by decide))
    refine r_iconst hC 1 dX3_isLike_64 ic_1 65 rfl ?_
    refine r_goto hC 69 dX3_isLike_65 (by decide) ?_
    refine r_ior hC 1 dX3_isLike_69  (by decide) 70 rfl ?_
    refine r_istore_n hC 3 [(3, .int 1), (4, .int 0), (0, .ref (o 0)), (1, .ref (u 0)), (2, .int 1)] dX3_isLike_70 rfl (Nat.le_of_ble_eq_true rfl) rfl 71 rfl ?_
    refine r_iinc hC 1 4 1 [(4, .int 1), (3, .int 1), (0, .ref (o 0)), (1, .ref (u 0)), (2, .int 1)] dX3_isLike_71 rfl (by decide) (Nat.le_of_ble_eq_true rfl) rfl 74 rfl ?_
    refine r_goto hC 17 dX3_isLike_74 (by decide) ?_
    refine r_iload hC 0 dX3_isLike_17 rfl 19 rfl ?_
    refine r_iconst hC 3 dX3_isLike_19 ic_3 20 rfl ?_
    refine r_icge hC 77 dX3_isLike_20 (by decide) 23 rfl (fun h => absurd h (by decide)) (fun _ => ?_)
    refine r_iload_n hC 1 dX3_isLike_23 rfl 24 rfl ?_
    refine r_aload_n hC 2 dX3_isLike_24 rfl 25 rfl ?_
    refine r_aload_n hC 3 dX3_isLike_25 rfl 26 rfl ?_
    refine r_getsN hC hG hzONE q271 dX3_isLike_26 29 rfl ?_
    refine r_iload hC 0 dX3_isLike_29 rfl 31 rfl ?_
    refine r_ialdT hC htONE 1 (xix_n 1 (Nat.le_of_ble_eq_true rfl) (Nat.le_of_ble_eq_true rfl)) 0 rfl dX3_isLike_31 32 rfl ?_
    refine r_getsN hC hG hzOTH q273 dX3_isLike_32 35 rfl ?_
    refine r_iload hC 0 dX3_isLike_35 rfl 37 rfl ?_
    refine r_ialdT hC htOTH 1 (xix_n 1 (Nat.le_of_ble_eq_true rfl) (Nat.le_of_ble_eq_true rfl)) 2 rfl dX3_isLike_37 38 rfl ?_
    rcases Bool.eq_false_or_eq_true (trioQ r ru 0 2 1) with hk2 | hk2
    · skip
      refine xCall.r (r := some (.int 1)) (r_cV hC kX3 (o 0) [.ref (u 0), .int 0, .int 2] mVX3_areAt q1731 (fun _ h => ⟨_, h.get 0 rfl⟩) (fun V9 h9 => (xRm_v (metX3_areAt02 _ _ hG o u (fun _ => 0) r (fun _ => 0) ru hpl hm hpl2 hm2) (show _ = some (Value.int 1) by rw [hk2]; rfl)) V9 (h9.in.sub [0, 1, 2, 3, 4, 5, 6, 7, 8, 9, 10, 11] rfl rfl)) ⟨rfl, rfl⟩ (Nat.le_of_ble_eq_true rfl) (Nat.le_of_ble_eq_true rfl) rfl (Nat.le_of_ble_eq_true rfl) dX3_isLike_38) 0 0 41 rfl rfl rfl ?_
      refine r_ifne hC 64 dX3_isLike_41 (by decide) 44 rfl (fun _ => ?_) (fun h => absurd h (by decide))
      refine r_iconst hC 1 dX3_isLike_64 ic_1 65 rfl ?_
      refine r_goto hC 69 dX3_isLike_65 (by decide) ?_
      refine r_ior hC 1 dX3_isLike_69  (by decide) 70 rfl ?_
      refine r_istore_n hC 3 [(3, .int 1), (4, .int 1), (0, .ref (o 0)), (1, .ref (u 0)), (2, .int 1)] dX3_isLike_70 rfl (Nat.le_of_ble_eq_true rfl) rfl 71 rfl ?_
      refine r_iinc hC 2 4 1 [(4, .int 2), (3, .int 1), (0, .ref (o 0)), (1, .ref (u 0)), (2, .int 1)] dX3_isLike_71 rfl (by decide) (Nat.le_of_ble_eq_true rfl) rfl 74 rfl ?_
      refine r_goto hC 17 dX3_isLike_74 (by decide) ?_
      refine r_iload hC 0 dX3_isLike_17 rfl 19 rfl ?_
      refine r_iconst hC 3 dX3_isLike_19 ic_3 20 rfl ?_
      refine r_icge hC 77 dX3_isLike_20 (by decide) 23 rfl (fun h => absurd h (by decide)) (fun _ => ?_)
      refine r_iload_n hC 1 dX3_isLike_23 rfl 24 rfl ?_
      refine r_aload_n hC 2 dX3_isLike_24 rfl 25 rfl ?_
      refine r_aload_n hC 3 dX3_isLike_25 rfl 26 rfl ?_
      refine r_getsN hC hG hzONE q271 dX3_isLike_26 29 rfl ?_
      refine r_iload hC 0 dX3_isLike_29 rfl 31 rfl ?_
      refine r_ialdT hC htONE 2 (xix_n 2 (Nat.le_of_ble_eq_true rfl) (Nat.le_of_ble_eq_true rfl)) 1 rfl dX3_isLike_31 32 rfl ?_
      refine r_getsN hC hG hzOTH q273 dX3_isLike_32 35 rfl ?_
      refine r_iload hC 0 dX3_isLike_35 rfl 37 rfl ?_
      refine r_ialdT hC htOTH 2 (xix_n 2 (Nat.le_of_ble_eq_true rfl) (Nat.le_of_ble_eq_true rfl)) 2 rfl dX3_isLike_37 38 rfl ?_
      rcases Bool.eq_false_or_eq_true (trioQ r ru 1 2 0) with hk3 | hk3
      · skip
        refine xCall.r (r := some (.int 1)) (r_cV hC kX3 (o 0) [.ref (u 0), .int 1, .int 2] mVX3_areAt q1731 (fun _ h => ⟨_, h.get 0 rfl⟩) (fun V9 h9 => (xRm_v (metX3_areAt12 _ _ hG o u (fun _ => 0) r (fun _ => 0) ru hpl hm hpl2 hm2) (show _ = some (Value.int 1) by rw [hk3]; rfl)) V9 (h9.in.sub [0, 1, 2, 3, 4, 5, 6, 7, 8, 9, 10, 11] rfl rfl)) ⟨rfl, rfl⟩ (Nat.le_of_ble_eq_true rfl) (Nat.le_of_ble_eq_true rfl) rfl (Nat.le_of_ble_eq_true rfl) dX3_isLike_38) 0 0 41 rfl rfl rfl ?_
        refine r_ifne hC 64 dX3_isLike_41 (by decide) 44 rfl (fun _ => ?_) (fun h => absurd h (by decide))
        refine r_iconst hC 1 dX3_isLike_64 ic_1 65 rfl ?_
        refine r_goto hC 69 dX3_isLike_65 (by decide) ?_
        refine r_ior hC 1 dX3_isLike_69  (by decide) 70 rfl ?_
        refine r_istore_n hC 3 [(3, .int 1), (4, .int 2), (0, .ref (o 0)), (1, .ref (u 0)), (2, .int 1)] dX3_isLike_70 rfl (Nat.le_of_ble_eq_true rfl) rfl 71 rfl ?_
        refine r_iinc hC 3 4 1 [(4, .int 3), (3, .int 1), (0, .ref (o 0)), (1, .ref (u 0)), (2, .int 1)] dX3_isLike_71 rfl (by decide) (Nat.le_of_ble_eq_true rfl) rfl 74 rfl ?_
        refine r_goto hC 17 dX3_isLike_74 (by decide) ?_
        refine r_iload hC 0 dX3_isLike_17 rfl 19 rfl ?_
        refine r_iconst hC 3 dX3_isLike_19 ic_3 20 rfl ?_
        refine r_icge hC 77 dX3_isLike_20 (by decide) 23 rfl (fun _ => ?_) (fun h => absurd h (by decide))
        refine r_iload_n hC 1 dX3_isLike_77 rfl 78 rfl ?_
        exact r_zret hC (by decide) (Nat.le_of_ble_eq_true rfl) (Nat.le_of_ble_eq_true rfl) (fun V9 h => hQ _ _ ⟨by rw [backQ]; simp [bI, hk1, hk2, hk3], h.1⟩) dX3_isLike_78
      · skip
        refine xCall.r (r := some (.int 0)) (r_cV hC kX3 (o 0) [.ref (u 0), .int 1, .int 2] mVX3_areAt q1731 (fun _ h => ⟨_, h.get 0 rfl⟩) (fun V9 h9 => (xRm_v (metX3_areAt12 _ _ hG o u (fun _ => 0) r (fun _ => 0) ru hpl hm hpl2 hm2) (show _ = some (Value.int 0) by rw [hk3]; rfl)) V9 (h9.in.sub [0, 1, 2, 3, 4, 5, 6, 7, 8, 9, 10, 11] rfl rfl)) ⟨rfl, rfl⟩ (Nat.le_of_ble_eq_true rfl) (Nat.le_of_ble_eq_true rfl) rfl (Nat.le_of_ble_eq_true rfl) dX3_isLike_38) 0 0 41 rfl rfl rfl ?_
        refine r_ifne hC 64 dX3_isLike_41 (by decide) 44 rfl (fun h => absurd h (by decide)) (fun _ => ?_)
        refine r_aload_n hC 2 dX3_isLike_44 rfl 45 rfl ?_
        refine r_aload_n hC 3 dX3_isLike_45 rfl 46 rfl ?_
        refine r_getsN hC hG hzOTH q273 dX3_isLike_46 49 rfl ?_
        refine r_iload hC 0 dX3_isLike_49 rfl 51 rfl ?_
        refine r_ialdT hC htOTH 2 (xix_n 2 (Nat.le_of_ble_eq_true rfl) (Nat.le_of_ble_eq_true rfl)) 2 rfl dX3_isLike_51 52 rfl ?_
        refine r_getsN hC hG hzONE q271 dX3_isLike_52 55 rfl ?_
        refine r_iload hC 0 dX3_isLike_55 rfl 57 rfl ?_
        refine r_ialdT hC htONE 2 (xix_n 2 (Nat.le_of_ble_eq_true rfl) (Nat.le_of_ble_eq_true rfl)) 1 rfl dX3_isLike_57 58 rfl ?_
        rcases Bool.eq_false_or_eq_true (trioQ r ru 2 1 0) with hk4 | hk4
        · skip
          refine xCall.r (r := some (.int 1)) (r_cV hC kX3 (o 0) [.ref (u 0), .int 2, .int 1] mVX3_areAt q1731 (fun _ h => ⟨_, h.get 0 rfl⟩) (fun V9 h9 => (xRm_v (metX3_areAt21 _ _ hG o u (fun _ => 0) r (fun _ => 0) ru hpl hm hpl2 hm2) (show _ = some (Value.int 1) by rw [hk4]; rfl)) V9 (h9.in.sub [0, 1, 2, 3, 4, 5, 6, 7, 8, 9, 10, 11] rfl rfl)) ⟨rfl, rfl⟩ (Nat.le_of_ble_eq_true rfl) (Nat.le_of_ble_eq_true rfl) rfl (Nat.le_of_ble_eq_true rfl) dX3_isLike_58) 0 0 61 rfl rfl rfl ?_
          refine r_ifeq hC 68 dX3_isLike_61 (by decide) 64 rfl (fun h => absurd h (by decide)) (fun _ => ?_)
          refine r_iconst hC 1 dX3_isLike_64 ic_1 65 rfl ?_
          refine r_goto hC 69 dX3_isLike_65 (by decide) ?_
          refine r_ior hC 1 dX3_isLike_69  (by decide) 70 rfl ?_
          refine r_istore_n hC 3 [(3, .int 1), (4, .int 2), (0, .ref (o 0)), (1, .ref (u 0)), (2, .int 1)] dX3_isLike_70 rfl (Nat.le_of_ble_eq_true rfl) rfl 71 rfl ?_
          refine r_iinc hC 3 4 1 [(4, .int 3), (3, .int 1), (0, .ref (o 0)), (1, .ref (u 0)), (2, .int 1)] dX3_isLike_71 rfl (by decide) (Nat.le_of_ble_eq_true rfl) rfl 74 rfl ?_
          refine r_goto hC 17 dX3_isLike_74 (by decide) ?_
          refine r_iload hC 0 dX3_isLike_17 rfl 19 rfl ?_
          refine r_iconst hC 3 dX3_isLike_19 ic_3 20 rfl ?_
          refine r_icge hC 77 dX3_isLike_20 (by decide) 23 rfl (fun _ => ?_) (fun h => absurd h (by decide))
          refine r_iload_n hC 1 dX3_isLike_77 rfl 78 rfl ?_
          exact r_zret hC (by decide) (Nat.le_of_ble_eq_true rfl) (Nat.le_of_ble_eq_true rfl) (fun V9 h => hQ _ _ ⟨by rw [backQ]; simp [bI, hk1, hk2, hk3, hk4], h.1⟩) dX3_isLike_78
        · skip
          refine xCall.r (r := some (.int 0)) (r_cV hC kX3 (o 0) [.ref (u 0), .int 2, .int 1] mVX3_areAt q1731 (fun _ h => ⟨_, h.get 0 rfl⟩) (fun V9 h9 => (xRm_v (metX3_areAt21 _ _ hG o u (fun _ => 0) r (fun _ => 0) ru hpl hm hpl2 hm2) (show _ = some (Value.int 0) by rw [hk4]; rfl)) V9 (h9.in.sub [0, 1, 2, 3, 4, 5, 6, 7, 8, 9, 10, 11] rfl rfl)) ⟨rfl, rfl⟩ (Nat.le_of_ble_eq_true rfl) (Nat.le_of_ble_eq_true rfl) rfl (Nat.le_of_ble_eq_true rfl) dX3_isLike_58) 0 0 61 rfl rfl rfl ?_
          refine r_ifeq hC 68 dX3_isLike_61 (by decide) 64 rfl (fun _ => ?_) (fun h => absurd h (by decide))
          refine r_iconst hC 0 dX3_isLike_68 ic_0 69 rfl ?_
          refine r_ior hC 1 dX3_isLike_69  (by decide) 70 rfl ?_
          refine r_istore_n hC 3 [(3, .int 1), (4, .int 2), (0, .ref (o 0)), (1, .ref (u 0)), (2, .int 1)] dX3_isLike_70 rfl (Nat.le_of_ble_eq_true rfl) rfl 71 rfl ?_
          refine r_iinc hC 3 4 1 [(4, .int 3), (3, .int 1), (0, .ref (o 0)), (1, .ref (u 0)), (2, .int 1)] dX3_isLike_71 rfl (by decide) (Nat.le_of_ble_eq_true rfl) rfl 74 rfl ?_
          refine r_goto hC 17 dX3_isLike_74 (by decide) ?_
          refine r_iload hC 0 dX3_isLike_17 rfl 19 rfl ?_
          refine r_iconst hC 3 dX3_isLike_19 ic_3 20 rfl ?_
          refine r_icge hC 77 dX3_isLike_20 (by decide) 23 rfl (fun _ => ?_) (fun h => absurd h (by decide))
          refine r_iload_n hC 1 dX3_isLike_77 rfl 78 rfl ?_
          exact r_zret hC (by decide) (Nat.le_of_ble_eq_true rfl) (Nat.le_of_ble_eq_true rfl) (fun V9 h => hQ _ _ ⟨by rw [backQ]; simp [bI, hk1, hk2, hk3, hk4], h.1⟩) dX3_isLike_78
    · skip
      refine xCall.r (r := some (.int 0)) (r_cV hC kX3 (o 0) [.ref (u 0), .int 0, .int 2] mVX3_areAt q1731 (fun _ h => ⟨_, h.get 0 rfl⟩) (fun V9 h9 => (xRm_v (metX3_areAt02 _ _ hG o u (fun _ => 0) r (fun _ => 0) ru hpl hm hpl2 hm2) (show _ = some (Value.int 0) by rw [hk2]; rfl)) V9 (h9.in.sub [0, 1, 2, 3, 4, 5, 6, 7, 8, 9, 10, 11] rfl rfl)) ⟨rfl, rfl⟩ (Nat.le_of_ble_eq_true rfl) (Nat.le_of_ble_eq_true rfl) rfl (Nat.le_of_ble_eq_true rfl) dX3_isLike_38) 0 0 41 rfl rfl rfl ?_
      refine r_ifne hC 64 dX3_isLike_41 (by decide) 44 rfl (fun h => absurd h (by decide)) (fun _ => ?_)
      refine r_aload_n hC 2 dX3_isLike_44 rfl 45 rfl ?_
      refine r_aload_n hC 3 dX3_isLike_45 rfl 46 rfl ?_
      refine r_getsN hC hG hzOTH q273 dX3_isLike_46 49 rfl ?_
      refine r_iload hC 0 dX3_isLike_49 rfl 51 rfl ?_
      refine r_ialdT hC htOTH 1 (xix_n 1 (Nat.le_of_ble_eq_true rfl) (Nat.le_of_ble_eq_true rfl)) 2 rfl dX3_isLike_51 52 rfl ?_
      refine r_getsN hC hG hzONE q271 dX3_isLike_52 55 rfl ?_
      refine r_iload hC 0 dX3_isLike_55 rfl 57 rfl ?_
      refine r_ialdT hC htONE 1 (xix_n 1 (Nat.le_of_ble_eq_true rfl) (Nat.le_of_ble_eq_true rfl)) 0 rfl dX3_isLike_57 58 rfl ?_
      rcases Bool.eq_false_or_eq_true (trioQ r ru 2 0 1) with hk5 | hk5
      · skip
        refine xCall.r (r := some (.int 1)) (r_cV hC kX3 (o 0) [.ref (u 0), .int 2, .int 0] mVX3_areAt q1731 (fun _ h => ⟨_, h.get 0 rfl⟩) (fun V9 h9 => (xRm_v (metX3_areAt20 _ _ hG o u (fun _ => 0) r (fun _ => 0) ru hpl hm hpl2 hm2) (show _ = some (Value.int 1) by rw [hk5]; rfl)) V9 (h9.in.sub [0, 1, 2, 3, 4, 5, 6, 7, 8, 9, 10, 11] rfl rfl)) ⟨rfl, rfl⟩ (Nat.le_of_ble_eq_true rfl) (Nat.le_of_ble_eq_true rfl) rfl (Nat.le_of_ble_eq_true rfl) dX3_isLike_58) 0 0 61 rfl rfl rfl ?_
        refine r_ifeq hC 68 dX3_isLike_61 (by decide) 64 rfl (fun h => absurd h (by decide)) (fun _ => ?_)
        refine r_iconst hC 1 dX3_isLike_64 ic_1 65 rfl ?_
        refine r_goto hC 69 dX3_isLike_65 (by decide) ?_
        refine r_ior hC 1 dX3_isLike_69  (by decide) 70 rfl ?_
        refine r_istore_n hC 3 [(3, .int 1), (4, .int 1), (0, .ref (o 0)), (1, .ref (u 0)), (2, .int 1)] dX3_isLike_70 rfl (Nat.le_of_ble_eq_true rfl) rfl 71 rfl ?_
        refine r_iinc hC 2 4 1 [(4, .int 2), (3, .int 1), (0, .ref (o 0)), (1, .ref (u 0)), (2, .int 1)] dX3_isLike_71 rfl (by decide) (Nat.le_of_ble_eq_true rfl) rfl 74 rfl ?_
        refine r_goto hC 17 dX3_isLike_74 (by decide) ?_
        refine r_iload hC 0 dX3_isLike_17 rfl 19 rfl ?_
        refine r_iconst hC 3 dX3_isLike_19 ic_3 20 rfl ?_
        refine r_icge hC 77 dX3_isLike_20 (by decide) 23 rfl (fun h => absurd h (by decide)) (fun _ => ?_)
        refine r_iload_n hC 1 dX3_isLike_23 rfl 24 rfl ?_
        refine r_aload_n hC 2 dX3_isLike_24 rfl 25 rfl ?_
        refine r_aload_n hC 3 dX3_isLike_25 rfl 26 rfl ?_
        refine r_getsN hC hG hzONE q271 dX3_isLike_26 29 rfl ?_
        refine r_iload hC 0 dX3_isLike_29 rfl 31 rfl ?_
        refine r_ialdT hC htONE 2 (xix_n 2 (Nat.le_of_ble_eq_true rfl) (Nat.le_of_ble_eq_true rfl)) 1 rfl dX3_isLike_31 32 rfl ?_
        refine r_getsN hC hG hzOTH q273 dX3_isLike_32 35 rfl ?_
        refine r_iload hC 0 dX3_isLike_35 rfl 37 rfl ?_
        refine r_ialdT hC htOTH 2 (xix_n 2 (Nat.le_of_ble_eq_true rfl) (Nat.le_of_ble_eq_true rfl)) 2 rfl dX3_isLike_37 38 rfl ?_
        rcases Bool.eq_false_or_eq_true (trioQ r ru 1 2 0) with hk6 | hk6
        · skip
          refine xCall.r (r := some (.int 1)) (r_cV hC kX3 (o 0) [.ref (u 0), .int 1, .int 2] mVX3_areAt q1731 (fun _ h => ⟨_, h.get 0 rfl⟩) (fun V9 h9 => (xRm_v (metX3_areAt12 _ _ hG o u (fun _ => 0) r (fun _ => 0) ru hpl hm hpl2 hm2) (show _ = some (Value.int 1) by rw [hk6]; rfl)) V9 (h9.in.sub [0, 1, 2, 3, 4, 5, 6, 7, 8, 9, 10, 11] rfl rfl)) ⟨rfl, rfl⟩ (Nat.le_of_ble_eq_true rfl) (Nat.le_of_ble_eq_true rfl) rfl (Nat.le_of_ble_eq_true rfl) dX3_isLike_38) 0 0 41 rfl rfl rfl ?_
          refine r_ifne hC 64 dX3_isLike_41 (by decide) 44 rfl (fun _ => ?_) (fun h => absurd h (by decide))
          refine r_iconst hC 1 dX3_isLike_64 ic_1 65 rfl ?_
          refine r_goto hC 69 dX3_isLike_65 (by decide) ?_
          refine r_ior hC 1 dX3_isLike_69  (by decide) 70 rfl ?_
          refine r_istore_n hC 3 [(3, .int 1), (4, .int 2), (0, .ref (o 0)), (1, .ref (u 0)), (2, .int 1)] dX3_isLike_70 rfl (Nat.le_of_ble_eq_true rfl) rfl 71 rfl ?_
          refine r_iinc hC 3 4 1 [(4, .int 3), (3, .int 1), (0, .ref (o 0)), (1, .ref (u 0)), (2, .int 1)] dX3_isLike_71 rfl (by decide) (Nat.le_of_ble_eq_true rfl) rfl 74 rfl ?_
          refine r_goto hC 17 dX3_isLike_74 (by decide) ?_
          refine r_iload hC 0 dX3_isLike_17 rfl 19 rfl ?_
          refine r_iconst hC 3 dX3_isLike_19 ic_3 20 rfl ?_
          refine r_icge hC 77 dX3_isLike_20 (by decide) 23 rfl (fun _ => ?_) (fun h => absurd h (by decide))
          refine r_iload_n hC 1 dX3_isLike_77 rfl 78 rfl ?_
          exact r_zret hC (by decide) (Nat.le_of_ble_eq_true rfl) (Nat.le_of_ble_eq_true rfl) (fun V9 h => hQ _ _ ⟨by rw [backQ]; simp [bI, hk1, hk2, hk5, hk6], h.1⟩) dX3_isLike_78
        · skip
          refine xCall.r (r := some (.int 0)) (r_cV hC kX3 (o 0) [.ref (u 0), .int 1, .int 2] mVX3_areAt q1731 (fun _ h => ⟨_, h.get 0 rfl⟩) (fun V9 h9 => (xRm_v (metX3_areAt12 _ _ hG o u (fun _ => 0) r (fun _ => 0) ru hpl hm hpl2 hm2) (show _ = some (Value.int 0) by rw [hk6]; rfl)) V9 (h9.in.sub [0, 1, 2, 3, 4, 5, 6, 7, 8, 9, 10, 11] rfl rfl)) ⟨rfl, rfl⟩ (Nat.le_of_ble_eq_true rfl) (Nat.le_of_ble_eq_true rfl) rfl (Nat.le_of_ble_eq_true rfl) dX3_isLike_38) 0 0 41 rfl rfl rfl ?_
          refine r_ifne hC 64 dX3_isLike_41 (by decide) 44 rfl (fun h => absurd h (by decide)) (fun _ => ?_)
          refine r_aload_n hC 2 dX3_isLike_44 rfl 45 rfl ?_
          refine r_aload_n hC 3 dX3_isLike_45 rfl 46 rfl ?_
          refine r_getsN hC hG hzOTH q273 dX3_isLike_46 49 rfl ?_
          refine r_iload hC 0 dX3_isLike_49 rfl 51 rfl ?_
          refine r_ialdT hC htOTH 2 (xix_n 2 (Nat.le_of_ble_eq_true rfl) (Nat.le_of_ble_eq_true rfl)) 2 rfl dX3_isLike_51 52 rfl ?_
          refine r_getsN hC hG hzONE q271 dX3_isLike_52 55 rfl ?_
          refine r_iload hC 0 dX3_isLike_55 rfl 57 rfl ?_
          refine r_ialdT hC htONE 2 (xix_n 2 (Nat.le_of_ble_eq_true rfl) (Nat.le_of_ble_eq_true rfl)) 1 rfl dX3_isLike_57 58 rfl ?_
          rcases Bool.eq_false_or_eq_true (trioQ r ru 2 1 0) with hk7 | hk7
          · skip
            refine xCall.r (r := some (.int 1)) (r_cV hC kX3 (o 0) [.ref (u 0), .int 2, .int 1] mVX3_areAt q1731 (fun _ h => ⟨_, h.get 0 rfl⟩) (fun V9 h9 => (xRm_v (metX3_areAt21 _ _ hG o u (fun _ => 0) r (fun _ => 0) ru hpl hm hpl2 hm2) (show _ = some (Value.int 1) by rw [hk7]; rfl)) V9 (h9.in.sub [0, 1, 2, 3, 4, 5, 6, 7, 8, 9, 10, 11] rfl rfl)) ⟨rfl, rfl⟩ (Nat.le_of_ble_eq_true rfl) (Nat.le_of_ble_eq_true rfl) rfl (Nat.le_of_ble_eq_true rfl) dX3_isLike_58) 0 0 61 rfl rfl rfl ?_
            refine r_ifeq hC 68 dX3_isLike_61 (by decide) 64 rfl (fun h => absurd h (by decide)) (fun _ => ?_)
            refine r_iconst hC 1 dX3_isLike_64 ic_1 65 rfl ?_
            refine r_goto hC 69 dX3_isLike_65 (by decide) ?_
            refine r_ior hC 1 dX3_isLike_69  (by decide) 70 rfl ?_
            refine r_istore_n hC 3 [(3, .int 1), (4, .int 2), (0, .ref (o 0)), (1, .ref (u 0)), (2, .int 1)] dX3_isLike_70 rfl (Nat.le_of_ble_eq_true rfl) rfl 71 rfl ?_
            refine r_iinc hC 3 4 1 [(4, .int 3), (3, .int 1), (0, .ref (o 0)), (1, .ref (u 0)), (2, .int 1)] dX3_isLike_71 rfl (by decide) (Nat.le_of_ble_eq_true rfl) rfl 74 rfl ?_
            refine r_goto hC 17 dX3_isLike_74 (by decide) ?_
            refine r_iload hC 0 dX3_isLike_17 rfl 19 rfl ?_
            refine r_iconst hC 3 dX3_isLike_19 ic_3 20 rfl ?_
            refine r_icge hC 77 dX3_isLike_20 (by decide) 23 rfl (fun _ => ?_) (fun h => absurd h (by decide))
            refine r_iload_n hC 1 dX3_isLike_77 rfl 78 rfl ?_
            exact r_zret hC (by decide) (Nat.le_of_ble_eq_true rfl) (Nat.le_of_ble_eq_true rfl) (fun V9 h => hQ _ _ ⟨by rw [backQ]; simp [bI, hk1, hk2, hk5, hk6, hk7], h.1⟩) dX3_isLike_78
          · skip
            refine xCall.r (r := some (.int 0)) (r_cV hC kX3 (o 0) [.ref (u 0), .int 2, .int 1] mVX3_areAt q1731 (fun _ h => ⟨_, h.get 0 rfl⟩) (fun V9 h9 => (xRm_v (metX3_areAt21 _ _ hG o u (fun _ => 0) r (fun _ => 0) ru hpl hm hpl2 hm2) (show _ = some (Value.int 0) by rw [hk7]; rfl)) V9 (h9.in.sub [0, 1, 2, 3, 4, 5, 6, 7, 8, 9, 10, 11] rfl rfl)) ⟨rfl, rfl⟩ (Nat.le_of_ble_eq_true rfl) (Nat.le_of_ble_eq_true rfl) rfl (Nat.le_of_ble_eq_true rfl) dX3_isLike_58) 0 0 61 rfl rfl rfl ?_
            refine r_ifeq hC 68 dX3_isLike_61 (by decide) 64 rfl (fun _ => ?_) (fun h => absurd h (by decide))
            refine r_iconst hC 0 dX3_isLike_68 ic_0 69 rfl ?_
            refine r_ior hC 1 dX3_isLike_69  (by decide) 70 rfl ?_
            refine r_istore_n hC 3 [(3, .int 1), (4, .int 2), (0, .ref (o 0)), (1, .ref (u 0)), (2, .int 1)] dX3_isLike_70 rfl (Nat.le_of_ble_eq_true rfl) rfl 71 rfl ?_
            refine r_iinc hC 3 4 1 [(4, .int 3), (3, .int 1), (0, .ref (o 0)), (1, .ref (u 0)), (2, .int 1)] dX3_isLike_71 rfl (by decide) (Nat.le_of_ble_eq_true rfl) rfl 74 rfl ?_
            refine r_goto hC 17 dX3_isLike_74 (by decide) ?_
            refine r_iload hC 0 dX3_isLike_17 rfl 19 rfl ?_
            refine r_iconst hC 3 dX3_isLike_19 ic_3 20 rfl ?_
            refine r_icge hC 77 dX3_isLike_20 (by decide) 23 rfl (fun _ => ?_) (fun h => absurd h (by decide))
            refine r_iload_n hC 1 dX3_isLike_77 rfl 78 rfl ?_
            exact r_zret hC (by decide) (Nat.le_of_ble_eq_true rfl) (Nat.le_of_ble_eq_true rfl) (fun V9 h => hQ _ _ ⟨by rw [backQ]; simp [bI, hk1, hk2, hk5, hk6, hk7], h.1⟩) dX3_isLike_78
      · skip
        refine xCall.r (r := some (.int 0)) (r_cV hC kX3 (o 0) [.ref (u 0), .int 2, .int 0] mVX3_areAt q1731 (fun _ h => ⟨_, h.get 0 rfl⟩) (fun V9 h9 => (xRm_v (metX3_areAt20 _ _ hG o u (fun _ => 0) r (fun _ => 0) ru hpl hm hpl2 hm2) (show _ = some (Value.int 0) by rw [hk5]; rfl)) V9 (h9.in.sub [0, 1, 2, 3, 4, 5, 6, 7, 8, 9, 10, 11] rfl rfl)) ⟨rfl, rfl⟩ (Nat.le_of_ble_eq_true rfl) (Nat.le_of_ble_eq_true rfl) rfl (Nat.le_of_ble_eq_true rfl) dX3_isLike_58) 0 0 61 rfl rfl rfl ?_
        refine r_ifeq hC 68 dX3_isLike_61 (by decide) 64 rfl (fun _ => ?_) (fun h => absurd h (by decide))
        refine r_iconst hC 0 dX3_isLike_68 ic_0 69 rfl ?_
        refine r_ior hC 1 dX3_isLike_69  (by decide) 70 rfl ?_
        refine r_istore_n hC 3 [(3, .int 1), (4, .int 1), (0, .ref (o 0)), (1, .ref (u 0)), (2, .int 1)] dX3_isLike_70 rfl (Nat.le_of_ble_eq_true rfl) rfl 71 rfl ?_
        refine r_iinc hC 2 4 1 [(4, .int 2), (3, .int 1), (0, .ref (o 0)), (1, .ref (u 0)), (2, .int 1)] dX3_isLike_71 rfl (by decide) (Nat.le_of_ble_eq_true rfl) rfl 74 rfl ?_
        refine r_goto hC 17 dX3_isLike_74 (by decide) ?_
        refine r_iload hC 0 dX3_isLike_17 rfl 19 rfl ?_
        refine r_iconst hC 3 dX3_isLike_19 ic_3 20 rfl ?_
        refine r_icge hC 77 dX3_isLike_20 (by decide) 23 rfl (fun h => absurd h (by decide)) (fun _ => ?_)
        refine r_iload_n hC 1 dX3_isLike_23 rfl 24 rfl ?_
        refine r_aload_n hC 2 dX3_isLike_24 rfl 25 rfl ?_
        refine r_aload_n hC 3 dX3_isLike_25 rfl 26 rfl ?_
        refine r_getsN hC hG hzONE q271 dX3_isLike_26 29 rfl ?_
        refine r_iload hC 0 dX3_isLike_29 rfl 31 rfl ?_
        refine r_ialdT hC htONE 2 (xix_n 2 (Nat.le_of_ble_eq_true rfl) (Nat.le_of_ble_eq_true rfl)) 1 rfl dX3_isLike_31 32 rfl ?_
        refine r_getsN hC hG hzOTH q273 dX3_isLike_32 35 rfl ?_
        refine r_iload hC 0 dX3_isLike_35 rfl 37 rfl ?_
        refine r_ialdT hC htOTH 2 (xix_n 2 (Nat.le_of_ble_eq_true rfl) (Nat.le_of_ble_eq_true rfl)) 2 rfl dX3_isLike_37 38 rfl ?_
        rcases Bool.eq_false_or_eq_true (trioQ r ru 1 2 0) with hk8 | hk8
        · skip
          refine xCall.r (r := some (.int 1)) (r_cV hC kX3 (o 0) [.ref (u 0), .int 1, .int 2] mVX3_areAt q1731 (fun _ h => ⟨_, h.get 0 rfl⟩) (fun V9 h9 => (xRm_v (metX3_areAt12 _ _ hG o u (fun _ => 0) r (fun _ => 0) ru hpl hm hpl2 hm2) (show _ = some (Value.int 1) by rw [hk8]; rfl)) V9 (h9.in.sub [0, 1, 2, 3, 4, 5, 6, 7, 8, 9, 10, 11] rfl rfl)) ⟨rfl, rfl⟩ (Nat.le_of_ble_eq_true rfl) (Nat.le_of_ble_eq_true rfl) rfl (Nat.le_of_ble_eq_true rfl) dX3_isLike_38) 0 0 41 rfl rfl rfl ?_
          refine r_ifne hC 64 dX3_isLike_41 (by decide) 44 rfl (fun _ => ?_) (fun h => absurd h (by decide))
          refine r_iconst hC 1 dX3_isLike_64 ic_1 65 rfl ?_
          refine r_goto hC 69 dX3_isLike_65 (by decide) ?_
          refine r_ior hC 1 dX3_isLike_69  (by decide) 70 rfl ?_
          refine r_istore_n hC 3 [(3, .int 1), (4, .int 2), (0, .ref (o 0)), (1, .ref (u 0)), (2, .int 1)] dX3_isLike_70 rfl (Nat.le_of_ble_eq_true rfl) rfl 71 rfl ?_
          refine r_iinc hC 3 4 1 [(4, .int 3), (3, .int 1), (0, .ref (o 0)), (1, .ref (u 0)), (2, .int 1)] dX3_isLike_71 rfl (by decide) (Nat.le_of_ble_eq_true rfl) rfl 74 rfl ?_
          refine r_goto hC 17 dX3_isLike_74 (by decide) ?_
          refine r_iload hC 0 dX3_isLike_17 rfl 19 rfl ?_
          refine r_iconst hC 3 dX3_isLike_19 ic_3 20 rfl ?_
          refine r_icge hC 77 dX3_isLike_20 (by decide) 23 rfl (fun _ => ?_) (fun h => absurd h (by decide))
          refine r_iload_n hC 1 dX3_isLike_77 rfl 78 rfl ?_
          exact r_zret hC (by decide) (Nat.le_of_ble_eq_true rfl) (Nat.le_of_ble_eq_true rfl) (fun V9 h => hQ _ _ ⟨by rw [backQ]; simp [bI, hk1, hk2, hk5, hk8], h.1⟩) dX3_isLike_78
        · skip
          refine xCall.r (r := some (.int 0)) (r_cV hC kX3 (o 0) [.ref (u 0), .int 1, .int 2] mVX3_areAt q1731 (fun _ h => ⟨_, h.get 0 rfl⟩) (fun V9 h9 => (xRm_v (metX3_areAt12 _ _ hG o u (fun _ => 0) r (fun _ => 0) ru hpl hm hpl2 hm2) (show _ = some (Value.int 0) by rw [hk8]; rfl)) V9 (h9.in.sub [0, 1, 2, 3, 4, 5, 6, 7, 8, 9, 10, 11] rfl rfl)) ⟨rfl, rfl⟩ (Nat.le_of_ble_eq_true rfl) (Nat.le_of_ble_eq_true rfl) rfl (Nat.le_of_ble_eq_true rfl) dX3_isLike_38) 0 0 41 rfl rfl rfl ?_
          refine r_ifne hC 64 dX3_isLike_41 (by decide) 44 rfl (fun h => absurd h (by decide)) (fun _ => ?_)
          refine r_aload_n hC 2 dX3_isLike_44 rfl 45 rfl ?_
          refine r_aload_n hC 3 dX3_isLike_45 rfl 46 rfl ?_
          refine r_getsN hC hG hzOTH q273 dX3_isLike_46 49 rfl ?_
          refine r_iload hC 0 dX3_isLike_49 rfl 51 rfl ?_
          refine r_ialdT hC htOTH 2 (xix_n 2 (Nat.le_of_ble_eq_true rfl) (Nat.le_of_ble_eq_true rfl)) 2 rfl dX3_isLike_51 52 rfl ?_
          refine r_getsN hC hG hzONE q271 dX3_isLike_52 55 rfl ?_
          refine r_iload hC 0 dX3_isLike_55 rfl 57 rfl ?_
          refine r_ialdT hC htONE 2 (xix_n 2 (Nat.le_of_ble_eq_true rfl) (Nat.le_of_ble_eq_true rfl)) 1 rfl dX3_isLike_57 58 rfl ?_
          rcases Bool.eq_false_or_eq_true (trioQ r ru 2 1 0) with hk9 | hk9
          · skip
            refine xCall.r (r := some (.int 1)) (r_cV hC kX3 (o 0) [.ref (u 0), .int 2, .int 1] mVX3_areAt q1731 (fun _ h => ⟨_, h.get 0 rfl⟩) (fun V9 h9 => (xRm_v (metX3_areAt21 _ _ hG o u (fun _ => 0) r (fun _ => 0) ru hpl hm hpl2 hm2) (show _ = some (Value.int 1) by rw [hk9]; rfl)) V9 (h9.in.sub [0, 1, 2, 3, 4, 5, 6, 7, 8, 9, 10, 11] rfl rfl)) ⟨rfl, rfl⟩ (Nat.le_of_ble_eq_true rfl) (Nat.le_of_ble_eq_true rfl) rfl (Nat.le_of_ble_eq_true rfl) dX3_isLike_58) 0 0 61 rfl rfl rfl ?_
            refine r_ifeq hC 68 dX3_isLike_61 (by decide) 64 rfl (fun h => absurd h (by decide)) (fun _ => ?_)
            refine r_iconst hC 1 dX3_isLike_64 ic_1 65 rfl ?_
            refine r_goto hC 69 dX3_isLike_65 (by decide) ?_
            refine r_ior hC 1 dX3_isLike_69  (by decide) 70 rfl ?_
            refine r_istore_n hC 3 [(3, .int 1), (4, .int 2), (0, .ref (o 0)), (1, .ref (u 0)), (2, .int 1)] dX3_isLike_70 rfl (Nat.le_of_ble_eq_true rfl) rfl 71 rfl ?_
            refine r_iinc hC 3 4 1 [(4, .int 3), (3, .int 1), (0, .ref (o 0)), (1, .ref (u 0)), (2, .int 1)] dX3_isLike_71 rfl (by decide) (Nat.le_of_ble_eq_true rfl) rfl 74 rfl ?_
            refine r_goto hC 17 dX3_isLike_74 (by decide) ?_
            refine r_iload hC 0 dX3_isLike_17 rfl 19 rfl ?_
            refine r_iconst hC 3 dX3_isLike_19 ic_3 20 rfl ?_
            refine r_icge hC 77 dX3_isLike_20 (by decide) 23 rfl (fun _ => ?_) (fun h => absurd h (by decide))
            refine r_iload_n hC 1 dX3_isLike_77 rfl 78 rfl ?_
            exact r_zret hC (by decide) (Nat.le_of_ble_eq_true rfl) (Nat.le_of_ble_eq_true rfl) (fun V9 h => hQ _ _ ⟨by rw [backQ]; simp [bI, hk1, hk2, hk5, hk8, hk9], h.1⟩) dX3_isLike_78
          · skip
            refine xCall.r (r := some (.int 0)) (r_cV hC kX3 (o 0) [.ref (u 0), .int 2, .int 1] mVX3_areAt q1731 (fun _ h => ⟨_, h.get 0 rfl⟩) (fun V9 h9 => (xRm_v (metX3_areAt21 _ _ hG o u (fun _ => 0) r (fun _ => 0) ru hpl hm hpl2 hm2) (show _ = some (Value.int 0) by rw [hk9]; rfl)) V9 (h9.in.sub [0, 1, 2, 3, 4, 5, 6, 7, 8, 9, 10, 11] rfl rfl)) ⟨rfl, rfl⟩ (Nat.le_of_ble_eq_true rfl) (Nat.le_of_ble_eq_true rfl) rfl (Nat.le_of_ble_eq_true rfl) dX3_isLike_58) 0 0 61 rfl rfl rfl ?_
            refine r_ifeq hC 68 dX3_isLike_61 (by decide) 64 rfl (fun _ => ?_) (fun h => absurd h (by decide))
            refine r_iconst hC 0 dX3_isLike_68 ic_0 69 rfl ?_
            refine r_ior hC 1 dX3_isLike_69  (by decide) 70 rfl ?_
            refine r_istore_n hC 3 [(3, .int 1), (4, .int 2), (0, .ref (o 0)), (1, .ref (u 0)), (2, .int 1)] dX3_isLike_70 rfl (Nat.le_of_ble_eq_true rfl) rfl 71 rfl ?_
            refine r_iinc hC 3 4 1 [(4, .int 3), (3, .int 1), (0, .ref (o 0)), (1, .ref (u 0)), (2, .int 1)] dX3_isLike_71 rfl (by decide) (Nat.le_of_ble_eq_true rfl) rfl 74 rfl ?_
            refine r_goto hC 17 dX3_isLike_74 (by decide) ?_
            refine r_iload hC 0 dX3_isLike_17 rfl 19 rfl ?_
            refine r_iconst hC 3 dX3_isLike_19 ic_3 20 rfl ?_
            refine r_icge hC 77 dX3_isLike_20 (by decide) 23 rfl (fun _ => ?_) (fun h => absurd h (by decide))
            refine r_iload_n hC 1 dX3_isLike_77 rfl 78 rfl ?_
            exact r_zret hC (by decide) (Nat.le_of_ble_eq_true rfl) (Nat.le_of_ble_eq_true rfl) (fun V9 h => hQ _ _ ⟨by rw [backQ]; simp [bI, hk1, hk2, hk5, hk8, hk9], h.1⟩) dX3_isLike_78
  · skip
    refine xCall.r (r := some (.int 0)) (r_cV hC kX3 (o 0) [.ref (u 0), .int 0, .int 1] mVX3_areAt q1731 (fun _ h => ⟨_, h.get 0 rfl⟩) (fun V9 h9 => (xRm_v (metX3_areAt01 _ _ hG o u (fun _ => 0) r (fun _ => 0) ru hpl hm hpl2 hm2) (show _ = some (Value.int 0) by rw [hk1]; rfl)) V9 (h9.in.sub [0, 1, 2, 3, 4, 5, 6, 7, 8, 9, 10, 11] rfl rfl)) ⟨rfl, rfl⟩ (Nat.le_of_ble_eq_true rfl) (Nat.le_of_ble_eq_true rfl) rfl (Nat.le_of_ble_eq_true rfl) dX3_isLike_38) 0 0 41 rfl rfl rfl ?_
    refine r_ifne hC 64 dX3_isLike_41 (by decide) 44 rfl (fun h => absurd h (by decide)) (fun _ => ?_)
    refine r_aload_n hC 2 dX3_isLike_44 rfl 45 rfl ?_
    refine r_aload_n hC 3 dX3_isLike_45 rfl 46 rfl ?_
    refine r_getsN hC hG hzOTH q273 dX3_isLike_46 49 rfl ?_
    refine r_iload hC 0 dX3_isLike_49 rfl 51 rfl ?_
    refine r_ialdT hC htOTH 0 (xix_n 0 (Nat.le_of_ble_eq_true rfl) (Nat.le_of_ble_eq_true rfl)) 1 rfl dX3_isLike_51 52 rfl ?_
    refine r_getsN hC hG hzONE q271 dX3_isLike_52 55 rfl ?_
    refine r_iload hC 0 dX3_isLike_55 rfl 57 rfl ?_
    refine r_ialdT hC htONE 0 (xix_n 0 (Nat.le_of_ble_eq_true rfl) (Nat.le_of_ble_eq_true rfl)) 0 rfl dX3_isLike_57 58 rfl ?_
    rcases Bool.eq_false_or_eq_true (trioQ r ru 1 0 2) with hk10 | hk10
    · skip
      refine xCall.r (r := some (.int 1)) (r_cV hC kX3 (o 0) [.ref (u 0), .int 1, .int 0] mVX3_areAt q1731 (fun _ h => ⟨_, h.get 0 rfl⟩) (fun V9 h9 => (xRm_v (metX3_areAt10 _ _ hG o u (fun _ => 0) r (fun _ => 0) ru hpl hm hpl2 hm2) (show _ = some (Value.int 1) by rw [hk10]; rfl)) V9 (h9.in.sub [0, 1, 2, 3, 4, 5, 6, 7, 8, 9, 10, 11] rfl rfl)) ⟨rfl, rfl⟩ (Nat.le_of_ble_eq_true rfl) (Nat.le_of_ble_eq_true rfl) rfl (Nat.le_of_ble_eq_true rfl) dX3_isLike_58) 0 0 61 rfl rfl rfl ?_
      refine r_ifeq hC 68 dX3_isLike_61 (by decide) 64 rfl (fun h => absurd h (by decide)) (fun _ => ?_)
      refine r_iconst hC 1 dX3_isLike_64 ic_1 65 rfl ?_
      refine r_goto hC 69 dX3_isLike_65 (by decide) ?_
      refine r_ior hC 1 dX3_isLike_69  (by decide) 70 rfl ?_
      refine r_istore_n hC 3 [(3, .int 1), (4, .int 0), (0, .ref (o 0)), (1, .ref (u 0)), (2, .int 1)] dX3_isLike_70 rfl (Nat.le_of_ble_eq_true rfl) rfl 71 rfl ?_
      refine r_iinc hC 1 4 1 [(4, .int 1), (3, .int 1), (0, .ref (o 0)), (1, .ref (u 0)), (2, .int 1)] dX3_isLike_71 rfl (by decide) (Nat.le_of_ble_eq_true rfl) rfl 74 rfl ?_
      refine r_goto hC 17 dX3_isLike_74 (by decide) ?_
      refine r_iload hC 0 dX3_isLike_17 rfl 19 rfl ?_
      refine r_iconst hC 3 dX3_isLike_19 ic_3 20 rfl ?_
      refine r_icge hC 77 dX3_isLike_20 (by decide) 23 rfl (fun h => absurd h (by decide)) (fun _ => ?_)
      refine r_iload_n hC 1 dX3_isLike_23 rfl 24 rfl ?_
      refine r_aload_n hC 2 dX3_isLike_24 rfl 25 rfl ?_
      refine r_aload_n hC 3 dX3_isLike_25 rfl 26 rfl ?_
      refine r_getsN hC hG hzONE q271 dX3_isLike_26 29 rfl ?_
      refine r_iload hC 0 dX3_isLike_29 rfl 31 rfl ?_
      refine r_ialdT hC htONE 1 (xix_n 1 (Nat.le_of_ble_eq_true rfl) (Nat.le_of_ble_eq_true rfl)) 0 rfl dX3_isLike_31 32 rfl ?_
      refine r_getsN hC hG hzOTH q273 dX3_isLike_32 35 rfl ?_
      refine r_iload hC 0 dX3_isLike_35 rfl 37 rfl ?_
      refine r_ialdT hC htOTH 1 (xix_n 1 (Nat.le_of_ble_eq_true rfl) (Nat.le_of_ble_eq_true rfl)) 2 rfl dX3_isLike_37 38 rfl ?_
      rcases Bool.eq_false_or_eq_true (trioQ r ru 0 2 1) with hk11 | hk11
      · skip
        refine xCall.r (r := some (.int 1)) (r_cV hC kX3 (o 0) [.ref (u 0), .int 0, .int 2] mVX3_areAt q1731 (fun _ h => ⟨_, h.get 0 rfl⟩) (fun V9 h9 => (xRm_v (metX3_areAt02 _ _ hG o u (fun _ => 0) r (fun _ => 0) ru hpl hm hpl2 hm2) (show _ = some (Value.int 1) by rw [hk11]; rfl)) V9 (h9.in.sub [0, 1, 2, 3, 4, 5, 6, 7, 8, 9, 10, 11] rfl rfl)) ⟨rfl, rfl⟩ (Nat.le_of_ble_eq_true rfl) (Nat.le_of_ble_eq_true rfl) rfl (Nat.le_of_ble_eq_true rfl) dX3_isLike_38) 0 0 41 rfl rfl rfl ?_
        refine r_ifne hC 64 dX3_isLike_41 (by decide) 44 rfl (fun _ => ?_) (fun h => absurd h (by decide))
        refine r_iconst hC 1 dX3_isLike_64 ic_1 65 rfl ?_
        refine r_goto hC 69 dX3_isLike_65 (by decide) ?_
        refine r_ior hC 1 dX3_isLike_69  (by decide) 70 rfl ?_
        refine r_istore_n hC 3 [(3, .int 1), (4, .int 1), (0, .ref (o 0)), (1, .ref (u 0)), (2, .int 1)] dX3_isLike_70 rfl (Nat.le_of_ble_eq_true rfl) rfl 71 rfl ?_
        refine r_iinc hC 2 4 1 [(4, .int 2), (3, .int 1), (0, .ref (o 0)), (1, .ref (u 0)), (2, .int 1)] dX3_isLike_71 rfl (by decide) (Nat.le_of_ble_eq_true rfl) rfl 74 rfl ?_
        refine r_goto hC 17 dX3_isLike_74 (by decide) ?_
        refine r_iload hC 0 dX3_isLike_17 rfl 19 rfl ?_
        refine r_iconst hC 3 dX3_isLike_19 ic_3 20 rfl ?_
        refine r_icge hC 77 dX3_isLike_20 (by decide) 23 rfl (fun h => absurd h (by decide)) (fun _ => ?_)
        refine r_iload_n hC 1 dX3_isLike_23 rfl 24 rfl ?_
        refine r_aload_n hC 2 dX3_isLike_24 rfl 25 rfl ?_
        refine r_aload_n hC 3 dX3_isLike_25 rfl 26 rfl ?_
        refine r_getsN hC hG hzONE q271 dX3_isLike_26 29 rfl ?_
        refine r_iload hC 0 dX3_isLike_29 rfl 31 rfl ?_
        refine r_ialdT hC htONE 2 (xix_n 2 (Nat.le_of_ble_eq_true rfl) (Nat.le_of_ble_eq_true rfl)) 1 rfl dX3_isLike_31 32 rfl ?_
        refine r_getsN hC hG hzOTH q273 dX3_isLike_32 35 rfl ?_
        refine r_iload hC 0 dX3_isLike_35 rfl 37 rfl ?_
        refine r_ialdT hC htOTH 2 (xix_n 2 (Nat.le_of_ble_eq_true rfl) (Nat.le_of_ble_eq_true rfl)) 2 rfl dX3_isLike_37 38 rfl ?_
        rcases Bool.eq_false_or_eq_true (trioQ r ru 1 2 0) with hk12 | hk12
        · skip
          refine xCall.r (r := some (.int 1)) (r_cV hC kX3 (o 0) [.ref (u 0), .int 1, .int 2] mVX3_areAt q1731 (fun _ h => ⟨_, h.get 0 rfl⟩) (fun V9 h9 => (xRm_v (metX3_areAt12 _ _ hG o u (fun _ => 0) r (fun _ => 0) ru hpl hm hpl2 hm2) (show _ = some (Value.int 1) by rw [hk12]; rfl)) V9 (h9.in.sub [0, 1, 2, 3, 4, 5, 6, 7, 8, 9, 10, 11] rfl rfl)) ⟨rfl, rfl⟩ (Nat.le_of_ble_eq_true rfl) (Nat.le_of_ble_eq_true rfl) rfl (Nat.le_of_ble_eq_true rfl) dX3_isLike_38) 0 0 41 rfl rfl rfl ?_
          refine r_ifne hC 64 dX3_isLike_41 (by decide) 44 rfl (fun _ => ?_) (fun h => absurd h (by decide))
          refine r_iconst hC 1 dX3_isLike_64 ic_1 65 rfl ?_
          refine r_goto hC 69 dX3_isLike_65 (by decide) ?_
          refine r_ior hC 1 dX3_isLike_69  (by decide) 70 rfl ?_
          refine r_istore_n hC 3 [(3, .int 1), (4, .int 2), (0, .ref (o 0)), (1, .ref (u 0)), (2, .int 1)] dX3_isLike_70 rfl (Nat.le_of_ble_eq_true rfl) rfl 71 rfl ?_
          refine r_iinc hC 3 4 1 [(4, .int 3), (3, .int 1), (0, .ref (o 0)), (1, .ref (u 0)), (2, .int 1)] dX3_isLike_71 rfl (by decide) (Nat.le_of_ble_eq_true rfl) rfl 74 rfl ?_
          refine r_goto hC 17 dX3_isLike_74 (by decide) ?_
          refine r_iload hC 0 dX3_isLike_17 rfl 19 rfl ?_
          refine r_iconst hC 3 dX3_isLike_19 ic_3 20 rfl ?_
          refine r_icge hC 77 dX3_isLike_20 (by decide) 23 rfl (fun _ => ?_) (fun h => absurd h (by decide))
          refine r_iload_n hC 1 dX3_isLike_77 rfl 78 rfl ?_
          exact r_zret hC (by decide) (Nat.le_of_ble_eq_true rfl) (Nat.le_of_ble_eq_true rfl) (fun V9 h => hQ _ _ ⟨by rw [backQ]; simp [bI, hk1, hk10, hk11, hk12], h.1⟩) dX3_isLike_78
        · skip
          refine xCall.r (r := some (.int 0)) (r_cV hC kX3 (o 0) [.ref (u 0), .int 1, .int 2] mVX3_areAt q1731 (fun _ h => ⟨_, h.get 0 rfl⟩) (fun V9 h9 => (xRm_v (metX3_areAt12 _ _ hG o u (fun _ => 0) r (fun _ => 0) ru hpl hm hpl2 hm2) (show _ = some (Value.int 0) by rw [hk12]; rfl)) V9 (h9.in.sub [0, 1, 2, 3, 4, 5, 6, 7, 8, 9, 10, 11] rfl rfl)) ⟨rfl, rfl⟩ (Nat.le_of_ble_eq_true rfl) (Nat.le_of_ble_eq_true rfl) rfl (Nat.le_of_ble_eq_true rfl) dX3_isLike_38) 0 0 41 rfl rfl rfl ?_
          refine r_ifne hC 64 dX3_isLike_41 (by decide) 44 rfl (fun h => absurd h (by decide)) (fun _ => ?_)
          refine r_aload_n hC 2 dX3_isLike_44 rfl 45 rfl ?_
          refine r_aload_n hC 3 dX3_isLike_45 rfl 46 rfl ?_
          refine r_getsN hC hG hzOTH q273 dX3_isLike_46 49 rfl ?_
          refine r_iload hC 0 dX3_isLike_49 rfl 51 rfl ?_
          refine r_ialdT hC htOTH 2 (xix_n 2 (Nat.le_of_ble_eq_true rfl) (Nat.le_of_ble_eq_true rfl)) 2 rfl dX3_isLike_51 52 rfl ?_
          refine r_getsN hC hG hzONE q271 dX3_isLike_52 55 rfl ?_
          refine r_iload hC 0 dX3_isLike_55 rfl 57 rfl ?_
          refine r_ialdT hC htONE 2 (xix_n 2 (Nat.le_of_ble_eq_true rfl) (Nat.le_of_ble_eq_true rfl)) 1 rfl dX3_isLike_57 58 rfl ?_
          rcases Bool.eq_false_or_eq_true (trioQ r ru 2 1 0) with hk13 | hk13
          · skip
            refine xCall.r (r := some (.int 1)) (r_cV hC kX3 (o 0) [.ref (u 0), .int 2, .int 1] mVX3_areAt q1731 (fun _ h => ⟨_, h.get 0 rfl⟩) (fun V9 h9 => (xRm_v (metX3_areAt21 _ _ hG o u (fun _ => 0) r (fun _ => 0) ru hpl hm hpl2 hm2) (show _ = some (Value.int 1) by rw [hk13]; rfl)) V9 (h9.in.sub [0, 1, 2, 3, 4, 5, 6, 7, 8, 9, 10, 11] rfl rfl)) ⟨rfl, rfl⟩ (Nat.le_of_ble_eq_true rfl) (Nat.le_of_ble_eq_true rfl) rfl (Nat.le_of_ble_eq_true rfl) dX3_isLike_58) 0 0 61 rfl rfl rfl ?_
            refine r_ifeq hC 68 dX3_isLike_61 (by decide) 64 rfl (fun h => absurd h (by decide)) (fun _ => ?_)
            refine r_iconst hC 1 dX3_isLike_64 ic_1 65 rfl ?_
            refine r_goto hC 69 dX3_isLike_65 (by decide) ?_
            refine r_ior hC 1 dX3_isLike_69  (by decide) 70 rfl ?_
            refine r_istore_n hC 3 [(3, .int 1), (4, .int 2), (0, .ref (o 0)), (1, .ref (u 0)), (2, .int 1)] dX3_isLike_70 rfl (Nat.le_of_ble_eq_true rfl) rfl 71 rfl ?_
            refine r_iinc hC 3 4 1 [(4, .int 3), (3, .int 1), (0, .ref (o 0)), (1, .ref (u 0)), (2, .int 1)] dX3_isLike_71 rfl (by decide) (Nat.le_of_ble_eq_true rfl) rfl 74 rfl ?_
            refine r_goto hC 17 dX3_isLike_74 (by decide) ?_
            refine r_iload hC 0 dX3_isLike_17 rfl 19 rfl ?_
            refine r_iconst hC 3 dX3_isLike_19 ic_3 20 rfl ?_
            refine r_icge hC 77 dX3_isLike_20 (by decide) 23 rfl (fun _ => ?_) (fun h => absurd h (by decide))
            refine r_iload_n hC 1 dX3_isLike_77 rfl 78 rfl ?_
            exact r_zret hC (by decide) (Nat.le_of_ble_eq_true rfl) (Nat.le_of_ble_eq_true rfl) (fun V9 h => hQ _ _ ⟨by rw [backQ]; simp [bI, hk1, hk10, hk11, hk12, hk13], h.1⟩) dX3_isLike_78
          · skip
            refine xCall.r (r := some (.int 0)) (r_cV hC kX3 (o 0) [.ref (u 0), .int 2, .int 1] mVX3_areAt q1731 (fun _ h => ⟨_, h.get 0 rfl⟩) (fun V9 h9 => (xRm_v (metX3_areAt21 _ _ hG o u (fun _ => 0) r (fun _ => 0) ru hpl hm hpl2 hm2) (show _ = some (Value.int 0) by rw [hk13]; rfl)) V9 (h9.in.sub [0, 1, 2, 3, 4, 5, 6, 7, 8, 9, 10, 11] rfl rfl)) ⟨rfl, rfl⟩ (Nat.le_of_ble_eq_true rfl) (Nat.le_of_ble_eq_true rfl) rfl (Nat.le_of_ble_eq_true rfl) dX3_isLike_58) 0 0 61 rfl rfl rfl ?_
            refine r_ifeq hC 68 dX3_isLike_61 (by decide) 64 rfl (fun _ => ?_) (fun h => absurd h (by decide))
            refine r_iconst hC 0 dX3_isLike_68 ic_0 69 rfl ?_
            refine r_ior hC 1 dX3_isLike_69  (by decide) 70 rfl ?_
            refine r_istore_n hC 3 [(3, .int 1), (4, .int 2), (0, .ref (o 0)), (1, .ref (u 0)), (2, .int 1)] dX3_isLike_70 rfl (Nat.le_of_ble_eq_true rfl) rfl 71 rfl ?_
            refine r_iinc hC 3 4 1 [(4, .int 3), (3, .int 1), (0, .ref (o 0)), (1, .ref (u 0)), (2, .int 1)] dX3_isLike_71 rfl (by decide) (Nat.le_of_ble_eq_true rfl) rfl 74 rfl ?_
            refine r_goto hC 17 dX3_isLike_74 (by decide) ?_
            refine r_iload hC 0 dX3_isLike_17 rfl 19 rfl ?_
            refine r_iconst hC 3 dX3_isLike_19 ic_3 20 rfl ?_
            refine r_icge hC 77 dX3_isLike_20 (by decide) 23 rfl (fun _ => ?_) (fun h => absurd h (by decide))
            refine r_iload_n hC 1 dX3_isLike_77 rfl 78 rfl ?_
            exact r_zret hC (by decide) (Nat.le_of_ble_eq_true rfl) (Nat.le_of_ble_eq_true rfl) (fun V9 h => hQ _ _ ⟨by rw [backQ]; simp [bI, hk1, hk10, hk11, hk12, hk13], h.1⟩) dX3_isLike_78
      · skip
        refine xCall.r (r := some (.int 0)) (r_cV hC kX3 (o 0) [.ref (u 0), .int 0, .int 2] mVX3_areAt q1731 (fun _ h => ⟨_, h.get 0 rfl⟩) (fun V9 h9 => (xRm_v (metX3_areAt02 _ _ hG o u (fun _ => 0) r (fun _ => 0) ru hpl hm hpl2 hm2) (show _ = some (Value.int 0) by rw [hk11]; rfl)) V9 (h9.in.sub [0, 1, 2, 3, 4, 5, 6, 7, 8, 9, 10, 11] rfl rfl)) ⟨rfl, rfl⟩ (Nat.le_of_ble_eq_true rfl) (Nat.le_of_ble_eq_true rfl) rfl (Nat.le_of_ble_eq_true rfl) dX3_isLike_38) 0 0 41 rfl rfl rfl ?_
        refine r_ifne hC 64 dX3_isLike_41 (by decide) 44 rfl (fun h => absurd h (by decide)) (fun _ => ?_)
        refine r_aload_n hC 2 dX3_isLike_44 rfl 45 rfl ?_
        refine r_aload_n hC 3 dX3_isLike_45 rfl 46 rfl ?_
        refine r_getsN hC hG hzOTH q273 dX3_isLike_46 49 rfl ?_
        refine r_iload hC 0 dX3_isLike_49 rfl 51 rfl ?_
        refine r_ialdT hC htOTH 1 (xix_n 1 (Nat.le_of_ble_eq_true rfl) (Nat.le_of_ble_eq_true rfl)) 2 rfl dX3_isLike_51 52 rfl ?_
        refine r_getsN hC hG hzONE q271 dX3_isLike_52 55 rfl ?_
        refine r_iload hC 0 dX3_isLike_55 rfl 57 rfl ?_
        refine r_ialdT hC htONE 1 (xix_n 1 (Nat.le_of_ble_eq_true rfl) (Nat.le_of_ble_eq_true rfl)) 0 rfl dX3_isLike_57 58 rfl ?_
        rcases Bool.eq_false_or_eq_true (trioQ r ru 2 0 1) with hk14 | hk14
        · skip
          refine xCall.r (r := some (.int 1)) (r_cV hC kX3 (o 0) [.ref (u 0), .int 2, .int 0] mVX3_areAt q1731 (fun _ h => ⟨_, h.get 0 rfl⟩) (fun V9 h9 => (xRm_v (metX3_areAt20 _ _ hG o u (fun _ => 0) r (fun _ => 0) ru hpl hm hpl2 hm2) (show _ = some (Value.int 1) by rw [hk14]; rfl)) V9 (h9.in.sub [0, 1, 2, 3, 4, 5, 6, 7, 8, 9, 10, 11] rfl rfl)) ⟨rfl, rfl⟩ (Nat.le_of_ble_eq_true rfl) (Nat.le_of_ble_eq_true rfl) rfl (Nat.le_of_ble_eq_true rfl) dX3_isLike_58) 0 0 61 rfl rfl rfl ?_
          refine r_ifeq hC 68 dX3_isLike_61 (by decide) 64 rfl (fun h => absurd h (by decide)) (fun _ => ?_)
          refine r_iconst hC 1 dX3_isLike_64 ic_1 65 rfl ?_
          refine r_goto hC 69 dX3_isLike_65 (by decide) ?_
          refine r_ior hC 1 dX3_isLike_69  (by decide) 70 rfl ?_
          refine r_istore_n hC 3 [(3, .int 1), (4, .int 1), (0, .ref (o 0)), (1, .ref (u 0)), (2, .int 1)] dX3_isLike_70 rfl (Nat.le_of_ble_eq_true rfl) rfl 71 rfl ?_
          refine r_iinc hC 2 4 1 [(4, .int 2), (3, .int 1), (0, .ref (o 0)), (1, .ref (u 0)), (2, .int 1)] dX3_isLike_71 rfl (by decide) (Nat.le_of_ble_eq_true rfl) rfl 74 rfl ?_
          refine r_goto hC 17 dX3_isLike_74 (by decide) ?_
          refine r_iload hC 0 dX3_isLike_17 rfl 19 rfl ?_
          refine r_iconst hC 3 dX3_isLike_19 ic_3 20 rfl ?_
          refine r_icge hC 77 dX3_isLike_20 (by decide) 23 rfl (fun h => absurd h (by decide)) (fun _ => ?_)
          refine r_iload_n hC 1 dX3_isLike_23 rfl 24 rfl ?_
          refine r_aload_n hC 2 dX3_isLike_24 rfl 25 rfl ?_
          refine r_aload_n hC 3 dX3_isLike_25 rfl 26 rfl ?_
          refine r_getsN hC hG hzONE q271 dX3_isLike_26 29 rfl ?_
          refine r_iload hC 0 dX3_isLike_29 rfl 31 rfl ?_
          refine r_ialdT hC htONE 2 (xix_n 2 (Nat.le_of_ble_eq_true rfl) (Nat.le_of_ble_eq_true rfl)) 1 rfl dX3_isLike_31 32 rfl ?_
          refine r_getsN hC hG hzOTH q273 dX3_isLike_32 35 rfl ?_
          refine r_iload hC 0 dX3_isLike_35 rfl 37 rfl ?_
          refine r_ialdT hC htOTH 2 (xix_n 2 (Nat.le_of_ble_eq_true rfl) (Nat.le_of_ble_eq_true rfl)) 2 rfl dX3_isLike_37 38 rfl ?_
          rcases Bool.eq_false_or_eq_true (trioQ r ru 1 2 0) with hk15 | hk15
          · skip
            refine xCall.r (r := some (.int 1)) (r_cV hC kX3 (o 0) [.ref (u 0), .int 1, .int 2] mVX3_areAt q1731 (fun _ h => ⟨_, h.get 0 rfl⟩) (fun V9 h9 => (xRm_v (metX3_areAt12 _ _ hG o u (fun _ => 0) r (fun _ => 0) ru hpl hm hpl2 hm2) (show _ = some (Value.int 1) by rw [hk15]; rfl)) V9 (h9.in.sub [0, 1, 2, 3, 4, 5, 6, 7, 8, 9, 10, 11] rfl rfl)) ⟨rfl, rfl⟩ (Nat.le_of_ble_eq_true rfl) (Nat.le_of_ble_eq_true rfl) rfl (Nat.le_of_ble_eq_true rfl) dX3_isLike_38) 0 0 41 rfl rfl rfl ?_
            refine r_ifne hC 64 dX3_isLike_41 (by decide) 44 rfl (fun _ => ?_) (fun h => absurd h (by decide))
            refine r_iconst hC 1 dX3_isLike_64 ic_1 65 rfl ?_
            refine r_goto hC 69 dX3_isLike_65 (by decide) ?_
            refine r_ior hC 1 dX3_isLike_69  (by decide) 70 rfl ?_
            refine r_istore_n hC 3 [(3, .int 1), (4, .int 2), (0, .ref (o 0)), (1, .ref (u 0)), (2, .int 1)] dX3_isLike_70 rfl (Nat.le_of_ble_eq_true rfl) rfl 71 rfl ?_
            refine r_iinc hC 3 4 1 [(4, .int 3), (3, .int 1), (0, .ref (o 0)), (1, .ref (u 0)), (2, .int 1)] dX3_isLike_71 rfl (by decide) (Nat.le_of_ble_eq_true rfl) rfl 74 rfl ?_
            refine r_goto hC 17 dX3_isLike_74 (by decide) ?_
            refine r_iload hC 0 dX3_isLike_17 rfl 19 rfl ?_
            refine r_iconst hC 3 dX3_isLike_19 ic_3 20 rfl ?_
            refine r_icge hC 77 dX3_isLike_20 (by decide) 23 rfl (fun _ => ?_) (fun h => absurd h (by decide))
            refine r_iload_n hC 1 dX3_isLike_77 rfl 78 rfl ?_
            exact r_zret hC (by decide) (Nat.le_of_ble_eq_true rfl) (Nat.le_of_ble_eq_true rfl) (fun V9 h => hQ _ _ ⟨by rw [backQ]; simp [bI, hk1, hk10, hk11, hk14, hk15], h.1⟩) dX3_isLike_78
          · skip
            refine xCall.r (r := some (.int 0)) (r_cV hC kX3 (o 0) [.ref (u 0), .int 1, .int 2] mVX3_areAt q1731 (fun _ h => ⟨_, h.get 0 rfl⟩) (fun V9 h9 => (xRm_v (metX3_areAt12 _ _ hG o u (fun _ => 0) r (fun _ => 0) ru hpl hm hpl2 hm2) (show _ = some (Value.int 0) by rw [hk15]; rfl)) V9 (h9.in.sub [0, 1, 2, 3, 4, 5, 6, 7, 8, 9, 10, 11] rfl rfl)) ⟨rfl, rfl⟩ (Nat.le_of_ble_eq_true rfl) (Nat.le_of_ble_eq_true rfl) rfl (Nat.le_of_ble_eq_true rfl) dX3_isLike_38) 0 0 41 rfl rfl rfl ?_
            refine r_ifne hC 64 dX3_isLike_41 (by decide) 44 rfl (fun h => absurd h (by decide)) (fun _ => ?_)
            refine r_aload_n hC 2 dX3_isLike_44 rfl 45 rfl ?_
            refine r_aload_n hC 3 dX3_isLike_45 rfl 46 rfl ?_
            refine r_getsN hC hG hzOTH q273 dX3_isLike_46 49 rfl ?_
            refine r_iload hC 0 dX3_isLike_49 rfl 51 rfl ?_
            refine r_ialdT hC htOTH 2 (xix_n 2 (Nat.le_of_ble_eq_true rfl) (Nat.le_of_ble_eq_true rfl)) 2 rfl dX3_isLike_51 52 rfl ?_
            refine r_getsN hC hG hzONE q271 dX3_isLike_52 55 rfl ?_
            refine r_iload hC 0 dX3_isLike_55 rfl 57 rfl ?_
            refine r_ialdT hC htONE 2 (xix_n 2 (Nat.le_of_ble_eq_true rfl) (Nat.le_of_ble_eq_true rfl)) 1 rfl dX3_isLike_57 58 rfl ?_
            rcases Bool.eq_false_or_eq_true (trioQ r ru 2 1 0) with hk16 | hk16
            · skip
              refine xCall.r (r := some (.int 1)) (r_cV hC kX3 (o 0) [.ref (u 0), .int 2, .int 1] mVX3_areAt q1731 (fun _ h => ⟨_, h.get 0 rfl⟩) (fun V9 h9 => (xRm_v (metX3_areAt21 _ _ hG o u (fun _ => 0) r (fun _ => 0) ru hpl hm hpl2 hm2) (show _ = some (Value.int 1) by rw [hk16]; rfl)) V9 (h9.in.sub [0, 1, 2, 3, 4, 5, 6, 7, 8, 9, 10, 11] rfl rfl)) ⟨rfl, rfl⟩ (Nat.le_of_ble_eq_true rfl) (Nat.le_of_ble_eq_true rfl) rfl (Nat.le_of_ble_eq_true rfl) dX3_isLike_58) 0 0 61 rfl rfl rfl ?_
              refine r_ifeq hC 68 dX3_isLike_61 (by decide) 64 rfl (fun h => absurd h (by decide)) (fun _ => ?_)
              refine r_iconst hC 1 dX3_isLike_64 ic_1 65 rfl ?_
              refine r_goto hC 69 dX3_isLike_65 (by decide) ?_
              refine r_ior hC 1 dX3_isLike_69  (by decide) 70 rfl ?_
              refine r_istore_n hC 3 [(3, .int 1), (4, .int 2), (0, .ref (o 0)), (1, .ref (u 0)), (2, .int 1)] dX3_isLike_70 rfl (Nat.le_of_ble_eq_true rfl) rfl 71 rfl ?_
              refine r_iinc hC 3 4 1 [(4, .int 3), (3, .int 1), (0, .ref (o 0)), (1, .ref (u 0)), (2, .int 1)] dX3_isLike_71 rfl (by decide) (Nat.le_of_ble_eq_true rfl) rfl 74 rfl ?_
              refine r_goto hC 17 dX3_isLike_74 (by decide) ?_
              refine r_iload hC 0 dX3_isLike_17 rfl 19 rfl ?_
              refine r_iconst hC 3 dX3_isLike_19 ic_3 20 rfl ?_
              refine r_icge hC 77 dX3_isLike_20 (by decide) 23 rfl (fun _ => ?_) (fun h => absurd h (by decide))
              refine r_iload_n hC 1 dX3_isLike_77 rfl 78 rfl ?_
              exact r_zret hC (by decide) (Nat.le_of_ble_eq_true rfl) (Nat.le_of_ble_eq_true rfl) (fun V9 h => hQ _ _ ⟨by rw [backQ]; simp [bI, hk1, hk10, hk11, hk14, hk15, hk16], h.1⟩) dX3_isLike_78
            · skip
              refine xCall.r (r := some (.int 0)) (r_cV hC kX3 (o 0) [.ref (u 0), .int 2, .int 1] mVX3_areAt q1731 (fun _ h => ⟨_, h.get 0 rfl⟩) (fun V9 h9 => (xRm_v (metX3_areAt21 _ _ hG o u (fun _ => 0) r (fun _ => 0) ru hpl hm hpl2 hm2) (show _ = some (Value.int 0) by rw [hk16]; rfl)) V9 (h9.in.sub [0, 1, 2, 3, 4, 5, 6, 7, 8, 9, 10, 11] rfl rfl)) ⟨rfl, rfl⟩ (Nat.le_of_ble_eq_true rfl) (Nat.le_of_ble_eq_true rfl) rfl (Nat.le_of_ble_eq_true rfl) dX3_isLike_58) 0 0 61 rfl rfl rfl ?_
              refine r_ifeq hC 68 dX3_isLike_61 (by decide) 64 rfl (fun _ => ?_) (fun h => absurd h (by decide))
              refine r_iconst hC 0 dX3_isLike_68 ic_0 69 rfl ?_
              refine r_ior hC 1 dX3_isLike_69  (by decide) 70 rfl ?_
              refine r_istore_n hC 3 [(3, .int 1), (4, .int 2), (0, .ref (o 0)), (1, .ref (u 0)), (2, .int 1)] dX3_isLike_70 rfl (Nat.le_of_ble_eq_true rfl) rfl 71 rfl ?_
              refine r_iinc hC 3 4 1 [(4, .int 3), (3, .int 1), (0, .ref (o 0)), (1, .ref (u 0)), (2, .int 1)] dX3_isLike_71 rfl (by decide) (Nat.le_of_ble_eq_true rfl) rfl 74 rfl ?_
              refine r_goto hC 17 dX3_isLike_74 (by decide) ?_
              refine r_iload hC 0 dX3_isLike_17 rfl 19 rfl ?_
              refine r_iconst hC 3 dX3_isLike_19 ic_3 20 rfl ?_
              refine r_icge hC 77 dX3_isLike_20 (by decide) 23 rfl (fun _ => ?_) (fun h => absurd h (by decide))
              refine r_iload_n hC 1 dX3_isLike_77 rfl 78 rfl ?_
              exact r_zret hC (by decide) (Nat.le_of_ble_eq_true rfl) (Nat.le_of_ble_eq_true rfl) (fun V9 h => hQ _ _ ⟨by rw [backQ]; simp [bI, hk1, hk10, hk11, hk14, hk15, hk16], h.1⟩) dX3_isLike_78
        · skip
          refine xCall.r (r := some (.int 0)) (r_cV hC kX3 (o 0) [.ref (u 0), .int 2, .int 0] mVX3_areAt q1731 (fun _ h => ⟨_, h.get 0 rfl⟩) (fun V9 h9 => (xRm_v (metX3_areAt20 _ _ hG o u (fun _ => 0) r (fun _ => 0) ru hpl hm hpl2 hm2) (show _ = some (Value.int 0) by rw [hk14]; rfl)) V9 (h9.in.sub [0, 1, 2, 3, 4, 5, 6, 7, 8, 9, 10, 11] rfl rfl)) ⟨rfl, rfl⟩ (Nat.le_of_ble_eq_true rfl) (Nat.le_of_ble_eq_true rfl) rfl (Nat.le_of_ble_eq_true rfl) dX3_isLike_58) 0 0 61 rfl rfl rfl ?_
          refine r_ifeq hC 68 dX3_isLike_61 (by decide) 64 rfl (fun _ => ?_) (fun h => absurd h (by decide))
          refine r_iconst hC 0 dX3_isLike_68 ic_0 69 rfl ?_
          refine r_ior hC 1 dX3_isLike_69  (by decide) 70 rfl ?_
          refine r_istore_n hC 3 [(3, .int 1), (4, .int 1), (0, .ref (o 0)), (1, .ref (u 0)), (2, .int 1)] dX3_isLike_70 rfl (Nat.le_of_ble_eq_true rfl) rfl 71 rfl ?_
          refine r_iinc hC 2 4 1 [(4, .int 2), (3, .int 1), (0, .ref (o 0)), (1, .ref (u 0)), (2, .int 1)] dX3_isLike_71 rfl (by decide) (Nat.le_of_ble_eq_true rfl) rfl 74 rfl ?_
          refine r_goto hC 17 dX3_isLike_74 (by decide) ?_
          refine r_iload hC 0 dX3_isLike_17 rfl 19 rfl ?_
          refine r_iconst hC 3 dX3_isLike_19 ic_3 20 rfl ?_
          refine r_icge hC 77 dX3_isLike_20 (by decide) 23 rfl (fun h => absurd h (by decide)) (fun _ => ?_)
          refine r_iload_n hC 1 dX3_isLike_23 rfl 24 rfl ?_
          refine r_aload_n hC 2 dX3_isLike_24 rfl 25 rfl ?_
          refine r_aload_n hC 3 dX3_isLike_25 rfl 26 rfl ?_
          refine r_getsN hC hG hzONE q271 dX3_isLike_26 29 rfl ?_
          refine r_iload hC 0 dX3_isLike_29 rfl 31 rfl ?_
          refine r_ialdT hC htONE 2 (xix_n 2 (Nat.le_of_ble_eq_true rfl) (Nat.le_of_ble_eq_true rfl)) 1 rfl dX3_isLike_31 32 rfl ?_
          refine r_getsN hC hG hzOTH q273 dX3_isLike_32 35 rfl ?_
          refine r_iload hC 0 dX3_isLike_35 rfl 37 rfl ?_
          refine r_ialdT hC htOTH 2 (xix_n 2 (Nat.le_of_ble_eq_true rfl) (Nat.le_of_ble_eq_true rfl)) 2 rfl dX3_isLike_37 38 rfl ?_
          rcases Bool.eq_false_or_eq_true (trioQ r ru 1 2 0) with hk17 | hk17
          · skip
            refine xCall.r (r := some (.int 1)) (r_cV hC kX3 (o 0) [.ref (u 0), .int 1, .int 2] mVX3_areAt q1731 (fun _ h => ⟨_, h.get 0 rfl⟩) (fun V9 h9 => (xRm_v (metX3_areAt12 _ _ hG o u (fun _ => 0) r (fun _ => 0) ru hpl hm hpl2 hm2) (show _ = some (Value.int 1) by rw [hk17]; rfl)) V9 (h9.in.sub [0, 1, 2, 3, 4, 5, 6, 7, 8, 9, 10, 11] rfl rfl)) ⟨rfl, rfl⟩ (Nat.le_of_ble_eq_true rfl) (Nat.le_of_ble_eq_true rfl) rfl (Nat.le_of_ble_eq_true rfl) dX3_isLike_38) 0 0 41 rfl rfl rfl ?_
            refine r_ifne hC 64 dX3_isLike_41 (by decide) 44 rfl (fun _ => ?_) (fun h => absurd h (by decide))
            refine r_iconst hC 1 dX3_isLike_64 ic_1 65 rfl ?_
            refine r_goto hC 69 dX3_isLike_65 (by decide) ?_
            refine r_ior hC 1 dX3_isLike_69  (by decide) 70 rfl ?_
            refine r_istore_n hC 3 [(3, .int 1), (4, .int 2), (0, .ref (o 0)), (1, .ref (u 0)), (2, .int 1)] dX3_isLike_70 rfl (Nat.le_of_ble_eq_true rfl) rfl 71 rfl ?_
            refine r_iinc hC 3 4 1 [(4, .int 3), (3, .int 1), (0, .ref (o 0)), (1, .ref (u 0)), (2, .int 1)] dX3_isLike_71 rfl (by decide) (Nat.le_of_ble_eq_true rfl) rfl 74 rfl ?_
            refine r_goto hC 17 dX3_isLike_74 (by decide) ?_
            refine r_iload hC 0 dX3_isLike_17 rfl 19 rfl ?_
            refine r_iconst hC 3 dX3_isLike_19 ic_3 20 rfl ?_
            refine r_icge hC 77 dX3_isLike_20 (by decide) 23 rfl (fun _ => ?_) (fun h => absurd h (by decide))
            refine r_iload_n hC 1 dX3_isLike_77 rfl 78 rfl ?_
            exact r_zret hC (by decide) (Nat.le_of_ble_eq_true rfl) (Nat.le_of_ble_eq_true rfl) (fun V9 h => hQ _ _ ⟨by rw [backQ]; simp [bI, hk1, hk10, hk11, hk14, hk17], h.1⟩) dX3_isLike_78
          · skip
            refine xCall.r (r := some (.int 0)) (r_cV hC kX3 (o 0) [.ref (u 0), .int 1, .int 2] mVX3_areAt q1731 (fun _ h => ⟨_, h.get 0 rfl⟩) (fun V9 h9 => (xRm_v (metX3_areAt12 _ _ hG o u (fun _ => 0) r (fun _ => 0) ru hpl hm hpl2 hm2) (show _ = some (Value.int 0) by rw [hk17]; rfl)) V9 (h9.in.sub [0, 1, 2, 3, 4, 5, 6, 7, 8, 9, 10, 11] rfl rfl)) ⟨rfl, rfl⟩ (Nat.le_of_ble_eq_true rfl) (Nat.le_of_ble_eq_true rfl) rfl (Nat.le_of_ble_eq_true rfl) dX3_isLike_38) 0 0 41 rfl rfl rfl ?_
            refine r_ifne hC 64 dX3_isLike_41 (by decide) 44 rfl (fun h => absurd h (by decide)) (fun _ => ?_)
            refine r_aload_n hC 2 dX3_isLike_44 rfl 45 rfl ?_
            refine r_aload_n hC 3 dX3_isLike_45 rfl 46 rfl ?_
            refine r_getsN hC hG hzOTH q273 dX3_isLike_46 49 rfl ?_
            refine r_iload hC 0 dX3_isLike_49 rfl 51 rfl ?_
            refine r_ialdT hC htOTH 2 (xix_n 2 (Nat.le_of_ble_eq_true rfl) (Nat.le_of_ble_eq_true rfl)) 2 rfl dX3_isLike_51 52 rfl ?_
            refine r_getsN hC hG hzONE q271 dX3_isLike_52 55 rfl ?_
            refine r_iload hC 0 dX3_isLike_55 rfl 57 rfl ?_
            refine r_ialdT hC htONE 2 (xix_n 2 (Nat.le_of_ble_eq_true rfl) (Nat.le_of_ble_eq_true rfl)) 1 rfl dX3_isLike_57 58 rfl ?_
            rcases Bool.eq_false_or_eq_true (trioQ r ru 2 1 0) with hk18 | hk18
            · skip
              refine xCall.r (r := some (.int 1)) (r_cV hC kX3 (o 0) [.ref (u 0), .int 2, .int 1] mVX3_areAt q1731 (fun _ h => ⟨_, h.get 0 rfl⟩) (fun V9 h9 => (xRm_v (metX3_areAt21 _ _ hG o u (fun _ => 0) r (fun _ => 0) ru hpl hm hpl2 hm2) (show _ = some (Value.int 1) by rw [hk18]; rfl)) V9 (h9.in.sub [0, 1, 2, 3, 4, 5, 6, 7, 8, 9, 10, 11] rfl rfl)) ⟨rfl, rfl⟩ (Nat.le_of_ble_eq_true rfl) (Nat.le_of_ble_eq_true rfl) rfl (Nat.le_of_ble_eq_true rfl) dX3_isLike_58) 0 0 61 rfl rfl rfl ?_
              refine r_ifeq hC 68 dX3_isLike_61 (by decide) 64 rfl (fun h => absurd h (by decide)) (fun _ => ?_)
              refine r_iconst hC 1 dX3_isLike_64 ic_1 65 rfl ?_
              refine r_goto hC 69 dX3_isLike_65 (by decide) ?_
              refine r_ior hC 1 dX3_isLike_69  (by decide) 70 rfl ?_
              refine r_istore_n hC 3 [(3, .int 1), (4, .int 2), (0, .ref (o 0)), (1, .ref (u 0)), (2, .int 1)] dX3_isLike_70 rfl (Nat.le_of_ble_eq_true rfl) rfl 71 rfl ?_
              refine r_iinc hC 3 4 1 [(4, .int 3), (3, .int 1), (0, .ref (o 0)), (1, .ref (u 0)), (2, .int 1)] dX3_isLike_71 rfl (by decide) (Nat.le_of_ble_eq_true rfl) rfl 74 rfl ?_
              refine r_goto hC 17 dX3_isLike_74 (by decide) ?_
              refine r_iload hC 0 dX3_isLike_17 rfl 19 rfl ?_
              refine r_iconst hC 3 dX3_isLike_19 ic_3 20 rfl ?_
              refine r_icge hC 77 dX3_isLike_20 (by decide) 23 rfl (fun _ => ?_) (fun h => absurd h (by decide))
              refine r_iload_n hC 1 dX3_isLike_77 rfl 78 rfl ?_
              exact r_zret hC (by decide) (Nat.le_of_ble_eq_true rfl) (Nat.le_of_ble_eq_true rfl) (fun V9 h => hQ _ _ ⟨by rw [backQ]; simp [bI, hk1, hk10, hk11, hk14, hk17, hk18], h.1⟩) dX3_isLike_78
            · skip
              refine xCall.r (r := some (.int 0)) (r_cV hC kX3 (o 0) [.ref (u 0), .int 2, .int 1] mVX3_areAt q1731 (fun _ h => ⟨_, h.get 0 rfl⟩) (fun V9 h9 => (xRm_v (metX3_areAt21 _ _ hG o u (fun _ => 0) r (fun _ => 0) ru hpl hm hpl2 hm2) (show _ = some (Value.int 0) by rw [hk18]; rfl)) V9 (h9.in.sub [0, 1, 2, 3, 4, 5, 6, 7, 8, 9, 10, 11] rfl rfl)) ⟨rfl, rfl⟩ (Nat.le_of_ble_eq_true rfl) (Nat.le_of_ble_eq_true rfl) rfl (Nat.le_of_ble_eq_true rfl) dX3_isLike_58) 0 0 61 rfl rfl rfl ?_
              refine r_ifeq hC 68 dX3_isLike_61 (by decide) 64 rfl (fun _ => ?_) (fun h => absurd h (by decide))
              refine r_iconst hC 0 dX3_isLike_68 ic_0 69 rfl ?_
              refine r_ior hC 1 dX3_isLike_69  (by decide) 70 rfl ?_
              refine r_istore_n hC 3 [(3, .int 1), (4, .int 2), (0, .ref (o 0)), (1, .ref (u 0)), (2, .int 1)] dX3_isLike_70 rfl (Nat.le_of_ble_eq_true rfl) rfl 71 rfl ?_
              refine r_iinc hC 3 4 1 [(4, .int 3), (3, .int 1), (0, .ref (o 0)), (1, .ref (u 0)), (2, .int 1)] dX3_isLike_71 rfl (by decide) (Nat.le_of_ble_eq_true rfl) rfl 74 rfl ?_
              refine r_goto hC 17 dX3_isLike_74 (by decide) ?_
              refine r_iload hC 0 dX3_isLike_17 rfl 19 rfl ?_
              refine r_iconst hC 3 dX3_isLike_19 ic_3 20 rfl ?_
              refine r_icge hC 77 dX3_isLike_20 (by decide) 23 rfl (fun _ => ?_) (fun h => absurd h (by decide))
              refine r_iload_n hC 1 dX3_isLike_77 rfl 78 rfl ?_
              exact r_zret hC (by decide) (Nat.le_of_ble_eq_true rfl) (Nat.le_of_ble_eq_true rfl) (fun V9 h => hQ _ _ ⟨by rw [backQ]; simp [bI, hk1, hk10, hk11, hk14, hk17, hk18], h.1⟩) dX3_isLike_78
    · skip
      refine xCall.r (r := some (.int 0)) (r_cV hC kX3 (o 0) [.ref (u 0), .int 1, .int 0] mVX3_areAt q1731 (fun _ h => ⟨_, h.get 0 rfl⟩) (fun V9 h9 => (xRm_v (metX3_areAt10 _ _ hG o u (fun _ => 0) r (fun _ => 0) ru hpl hm hpl2 hm2) (show _ = some (Value.int 0) by rw [hk10]; rfl)) V9 (h9.in.sub [0, 1, 2, 3, 4, 5, 6, 7, 8, 9, 10, 11] rfl rfl)) ⟨rfl, rfl⟩ (Nat.le_of_ble_eq_true rfl) (Nat.le_of_ble_eq_true rfl) rfl (Nat.le_of_ble_eq_true rfl) dX3_isLike_58) 0 0 61 rfl rfl rfl ?_
      refine r_ifeq hC 68 dX3_isLike_61 (by decide) 64 rfl (fun _ => ?_) (fun h => absurd h (by decide))
      refine r_iconst hC 0 dX3_isLike_68 ic_0 69 rfl ?_
      refine r_ior hC 0 dX3_isLike_69  (by decide) 70 rfl ?_
      refine r_istore_n hC 3 [(3, .int 0), (4, .int 0), (0, .ref (o 0)), (1, .ref (u 0)), (2, .int 1)] dX3_isLike_70 rfl (Nat.le_of_ble_eq_true rfl) rfl 71 rfl ?_
      refine r_iinc hC 1 4 1 [(4, .int 1), (3, .int 0), (0, .ref (o 0)), (1, .ref (u 0)), (2, .int 1)] dX3_isLike_71 rfl (by decide) (Nat.le_of_ble_eq_true rfl) rfl 74 rfl ?_
      refine r_goto hC 17 dX3_isLike_74 (by decide) ?_
      refine r_iload hC 0 dX3_isLike_17 rfl 19 rfl ?_
      refine r_iconst hC 3 dX3_isLike_19 ic_3 20 rfl ?_
      refine r_icge hC 77 dX3_isLike_20 (by decide) 23 rfl (fun h => absurd h (by decide)) (fun _ => ?_)
      refine r_iload_n hC 1 dX3_isLike_23 rfl 24 rfl ?_
      refine r_aload_n hC 2 dX3_isLike_24 rfl 25 rfl ?_
      refine r_aload_n hC 3 dX3_isLike_25 rfl 26 rfl ?_
      refine r_getsN hC hG hzONE q271 dX3_isLike_26 29 rfl ?_
      refine r_iload hC 0 dX3_isLike_29 rfl 31 rfl ?_
      refine r_ialdT hC htONE 1 (xix_n 1 (Nat.le_of_ble_eq_true rfl) (Nat.le_of_ble_eq_true rfl)) 0 rfl dX3_isLike_31 32 rfl ?_
      refine r_getsN hC hG hzOTH q273 dX3_isLike_32 35 rfl ?_
      refine r_iload hC 0 dX3_isLike_35 rfl 37 rfl ?_
      refine r_ialdT hC htOTH 1 (xix_n 1 (Nat.le_of_ble_eq_true rfl) (Nat.le_of_ble_eq_true rfl)) 2 rfl dX3_isLike_37 38 rfl ?_
      rcases Bool.eq_false_or_eq_true (trioQ r ru 0 2 1) with hk19 | hk19
      · skip
        refine xCall.r (r := some (.int 1)) (r_cV hC kX3 (o 0) [.ref (u 0), .int 0, .int 2] mVX3_areAt q1731 (fun _ h => ⟨_, h.get 0 rfl⟩) (fun V9 h9 => (xRm_v (metX3_areAt02 _ _ hG o u (fun _ => 0) r (fun _ => 0) ru hpl hm hpl2 hm2) (show _ = some (Value.int 1) by rw [hk19]; rfl)) V9 (h9.in.sub [0, 1, 2, 3, 4, 5, 6, 7, 8, 9, 10, 11] rfl rfl)) ⟨rfl, rfl⟩ (Nat.le_of_ble_eq_true rfl) (Nat.le_of_ble_eq_true rfl) rfl (Nat.le_of_ble_eq_true rfl) dX3_isLike_38) 0 0 41 rfl rfl rfl ?_
        refine r_ifne hC 64 dX3_isLike_41 (by decide) 44 rfl (fun _ => ?_) (fun h => absurd h (by decide))
        refine r_iconst hC 1 dX3_isLike_64 ic_1 65 rfl ?_
        refine r_goto hC 69 dX3_isLike_65 (by decide) ?_
        refine r_ior hC 1 dX3_isLike_69  (by decide) 70 rfl ?_
        refine r_istore_n hC 3 [(3, .int 1), (4, .int 1), (0, .ref (o 0)), (1, .ref (u 0)), (2, .int 1)] dX3_isLike_70 rfl (Nat.le_of_ble_eq_true rfl) rfl 71 rfl ?_
        refine r_iinc hC 2 4 1 [(4, .int 2), (3, .int 1), (0, .ref (o 0)), (1, .ref (u 0)), (2, .int 1)] dX3_isLike_71 rfl (by decide) (Nat.le_of_ble_eq_true rfl) rfl 74 rfl ?_
        refine r_goto hC 17 dX3_isLike_74 (by decide) ?_
        refine r_iload hC 0 dX3_isLike_17 rfl 19 rfl ?_
        refine r_iconst hC 3 dX3_isLike_19 ic_3 20 rfl ?_
        refine r_icge hC 77 dX3_isLike_20 (by decide) 23 rfl (fun h => absurd h (by decide)) (fun _ => ?_)
        refine r_iload_n hC 1 dX3_isLike_23 rfl 24 rfl ?_
        refine r_aload_n hC 2 dX3_isLike_24 rfl 25 rfl ?_
        refine r_aload_n hC 3 dX3_isLike_25 rfl 26 rfl ?_
        refine r_getsN hC hG hzONE q271 dX3_isLike_26 29 rfl ?_
        refine r_iload hC 0 dX3_isLike_29 rfl 31 rfl ?_
        refine r_ialdT hC htONE 2 (xix_n 2 (Nat.le_of_ble_eq_true rfl) (Nat.le_of_ble_eq_true rfl)) 1 rfl dX3_isLike_31 32 rfl ?_
        refine r_getsN hC hG hzOTH q273 dX3_isLike_32 35 rfl ?_
        refine r_iload hC 0 dX3_isLike_35 rfl 37 rfl ?_
        refine r_ialdT hC htOTH 2 (xix_n 2 (Nat.le_of_ble_eq_true rfl) (Nat.le_of_ble_eq_true rfl)) 2 rfl dX3_isLike_37 38 rfl ?_
        rcases Bool.eq_false_or_eq_true (trioQ r ru 1 2 0) with hk20 | hk20
        · skip
          refine xCall.r (r := some (.int 1)) (r_cV hC kX3 (o 0) [.ref (u 0), .int 1, .int 2] mVX3_areAt q1731 (fun _ h => ⟨_, h.get 0 rfl⟩) (fun V9 h9 => (xRm_v (metX3_areAt12 _ _ hG o u (fun _ => 0) r (fun _ => 0) ru hpl hm hpl2 hm2) (show _ = some (Value.int 1) by rw [hk20]; rfl)) V9 (h9.in.sub [0, 1, 2, 3, 4, 5, 6, 7, 8, 9, 10, 11] rfl rfl)) ⟨rfl, rfl⟩ (Nat.le_of_ble_eq_true rfl) (Nat.le_of_ble_eq_true rfl) rfl (Nat.le_of_ble_eq_true rfl) dX3_isLike_38) 0 0 41 rfl rfl rfl ?_
          refine r_ifne hC 64 dX3_isLike_41 (by decide) 44 rfl (fun _ => ?_) (fun h => absurd h (by decide))
          refine r_iconst hC 1 dX3_isLike_64 ic_1 65 rfl ?_
          refine r_goto hC 69 dX3_isLike_65 (by decide) ?_
          refine r_ior hC 1 dX3_isLike_69  (by decide) 70 rfl ?_
          refine r_istore_n hC 3 [(3, .int 1), (4, .int 2), (0, .ref (o 0)), (1, .ref (u 0)), (2, .int 1)] dX3_isLike_70 rfl (Nat.le_of_ble_eq_true rfl) rfl 71 rfl ?_
          refine r_iinc hC 3 4 1 [(4, .int 3), (3, .int 1), (0, .ref (o 0)), (1, .ref (u 0)), (2, .int 1)] dX3_isLike_71 rfl (by decide) (Nat.le_of_ble_eq_true rfl) rfl 74 rfl ?_
          refine r_goto hC 17 dX3_isLike_74 (by decide) ?_
          refine r_iload hC 0 dX3_isLike_17 rfl 19 rfl ?_
          refine r_iconst hC 3 dX3_isLike_19 ic_3 20 rfl ?_
          refine r_icge hC 77 dX3_isLike_20 (by decide) 23 rfl (fun _ => ?_) (fun h => absurd h (by decide))
          refine r_iload_n hC 1 dX3_isLike_77 rfl 78 rfl ?_
          exact r_zret hC (by decide) (Nat.le_of_ble_eq_true rfl) (Nat.le_of_ble_eq_true rfl) (fun V9 h => hQ _ _ ⟨by rw [backQ]; simp [bI, hk1, hk10, hk19, hk20], h.1⟩) dX3_isLike_78
        · skip
          refine xCall.r (r := some (.int 0)) (r_cV hC kX3 (o 0) [.ref (u 0), .int 1, .int 2] mVX3_areAt q1731 (fun _ h => ⟨_, h.get 0 rfl⟩) (fun V9 h9 => (xRm_v (metX3_areAt12 _ _ hG o u (fun _ => 0) r (fun _ => 0) ru hpl hm hpl2 hm2) (show _ = some (Value.int 0) by rw [hk20]; rfl)) V9 (h9.in.sub [0, 1, 2, 3, 4, 5, 6, 7, 8, 9, 10, 11] rfl rfl)) ⟨rfl, rfl⟩ (Nat.le_of_ble_eq_true rfl) (Nat.le_of_ble_eq_true rfl) rfl (Nat.le_of_ble_eq_true rfl) dX3_isLike_38) 0 0 41 rfl rfl rfl ?_
          refine r_ifne hC 64 dX3_isLike_41 (by decide) 44 rfl (fun h => absurd h (by decide)) (fun _ => ?_)
          refine r_aload_n hC 2 dX3_isLike_44 rfl 45 rfl ?_
          refine r_aload_n hC 3 dX3_isLike_45 rfl 46 rfl ?_
          refine r_getsN hC hG hzOTH q273 dX3_isLike_46 49 rfl ?_
          refine r_iload hC 0 dX3_isLike_49 rfl 51 rfl ?_
          refine r_ialdT hC htOTH 2 (xix_n 2 (Nat.le_of_ble_eq_true rfl) (Nat.le_of_ble_eq_true rfl)) 2 rfl dX3_isLike_51 52 rfl ?_
          refine r_getsN hC hG hzONE q271 dX3_isLike_52 55 rfl ?_
          refine r_iload hC 0 dX3_isLike_55 rfl 57 rfl ?_
          refine r_ialdT hC htONE 2 (xix_n 2 (Nat.le_of_ble_eq_true rfl) (Nat.le_of_ble_eq_true rfl)) 1 rfl dX3_isLike_57 58 rfl ?_
          rcases Bool.eq_false_or_eq_true (trioQ r ru 2 1 0) with hk21 | hk21
          · skip
            refine xCall.r (r := some (.int 1)) (r_cV hC kX3 (o 0) [.ref (u 0), .int 2, .int 1] mVX3_areAt q1731 (fun _ h => ⟨_, h.get 0 rfl⟩) (fun V9 h9 => (xRm_v (metX3_areAt21 _ _ hG o u (fun _ => 0) r (fun _ => 0) ru hpl hm hpl2 hm2) (show _ = some (Value.int 1) by rw [hk21]; rfl)) V9 (h9.in.sub [0, 1, 2, 3, 4, 5, 6, 7, 8, 9, 10, 11] rfl rfl)) ⟨rfl, rfl⟩ (Nat.le_of_ble_eq_true rfl) (Nat.le_of_ble_eq_true rfl) rfl (Nat.le_of_ble_eq_true rfl) dX3_isLike_58) 0 0 61 rfl rfl rfl ?_
            refine r_ifeq hC 68 dX3_isLike_61 (by decide) 64 rfl (fun h => absurd h (by decide)) (fun _ => ?_)
            refine r_iconst hC 1 dX3_isLike_64 ic_1 65 rfl ?_
            refine r_goto hC 69 dX3_isLike_65 (by decide) ?_
            refine r_ior hC 1 dX3_isLike_69  (by decide) 70 rfl ?_
            refine r_istore_n hC 3 [(3, .int 1), (4, .int 2), (0, .ref (o 0)), (1, .ref (u 0)), (2, .int 1)] dX3_isLike_70 rfl (Nat.le_of_ble_eq_true rfl) rfl 71 rfl ?_
            refine r_iinc hC 3 4 1 [(4, .int 3), (3, .int 1), (0, .ref (o 0)), (1, .ref (u 0)), (2, .int 1)] dX3_isLike_71 rfl (by decide) (Nat.le_of_ble_eq_true rfl) rfl 74 rfl ?_
            refine r_goto hC 17 dX3_isLike_74 (by decide) ?_
            refine r_iload hC 0 dX3_isLike_17 rfl 19 rfl ?_
            refine r_iconst hC 3 dX3_isLike_19 ic_3 20 rfl ?_
            refine r_icge hC 77 dX3_isLike_20 (by decide) 23 rfl (fun _ => ?_) (fun h => absurd h (by decide))
            refine r_iload_n hC 1 dX3_isLike_77 rfl 78 rfl ?_
            exact r_zret hC (by decide) (Nat.le_of_ble_eq_true rfl) (Nat.le_of_ble_eq_true rfl) (fun V9 h => hQ _ _ ⟨by rw [backQ]; simp [bI, hk1, hk10, hk19, hk20, hk21], h.1⟩) dX3_isLike_78
          · skip
            refine xCall.r (r := some (.int 0)) (r_cV hC kX3 (o 0) [.ref (u 0), .int 2, .int 1] mVX3_areAt q1731 (fun _ h => ⟨_, h.get 0 rfl⟩) (fun V9 h9 => (xRm_v (metX3_areAt21 _ _ hG o u (fun _ => 0) r (fun _ => 0) ru hpl hm hpl2 hm2) (show _ = some (Value.int 0) by rw [hk21]; rfl)) V9 (h9.in.sub [0, 1, 2, 3, 4, 5, 6, 7, 8, 9, 10, 11] rfl rfl)) ⟨rfl, rfl⟩ (Nat.le_of_ble_eq_true rfl) (Nat.le_of_ble_eq_true rfl) rfl (Nat.le_of_ble_eq_true rfl) dX3_isLike_58) 0 0 61 rfl rfl rfl ?_
            refine r_ifeq hC 68 dX3_isLike_61 (by decide) 64 rfl (fun _ => ?_) (fun h => absurd h (by decide))
            refine r_iconst hC 0 dX3_isLike_68 ic_0 69 rfl ?_
            refine r_ior hC 1 dX3_isLike_69  (by decide) 70 rfl ?_
            refine r_istore_n hC 3 [(3, .int 1), (4, .int 2), (0, .ref (o 0)), (1, .ref (u 0)), (2, .int 1)] dX3_isLike_70 rfl (Nat.le_of_ble_eq_true rfl) rfl 71 rfl ?_
            refine r_iinc hC 3 4 1 [(4, .int 3), (3, .int 1), (0, .ref (o 0)), (1, .ref (u 0)), (2, .int 1)] dX3_isLike_71 rfl (by decide) (Nat.le_of_ble_eq_true rfl) rfl 74 rfl ?_
            refine r_goto hC 17 dX3_isLike_74 (by decide) ?_
            refine r_iload hC 0 dX3_isLike_17 rfl 19 rfl ?_
            refine r_iconst hC 3 dX3_isLike_19 ic_3 20 rfl ?_
            refine r_icge hC 77 dX3_isLike_20 (by decide) 23 rfl (fun _ => ?_) (fun h => absurd h (by decide))
            refine r_iload_n hC 1 dX3_isLike_77 rfl 78 rfl ?_
            exact r_zret hC (by decide) (Nat.le_of_ble_eq_true rfl) (Nat.le_of_ble_eq_true rfl) (fun V9 h => hQ _ _ ⟨by rw [backQ]; simp [bI, hk1, hk10, hk19, hk20, hk21], h.1⟩) dX3_isLike_78
      · skip
        refine xCall.r (r := some (.int 0)) (r_cV hC kX3 (o 0) [.ref (u 0), .int 0, .int 2] mVX3_areAt q1731 (fun _ h => ⟨_, h.get 0 rfl⟩) (fun V9 h9 => (xRm_v (metX3_areAt02 _ _ hG o u (fun _ => 0) r (fun _ => 0) ru hpl hm hpl2 hm2) (show _ = some (Value.int 0) by rw [hk19]; rfl)) V9 (h9.in.sub [0, 1, 2, 3, 4, 5, 6, 7, 8, 9, 10, 11] rfl rfl)) ⟨rfl, rfl⟩ (Nat.le_of_ble_eq_true rfl) (Nat.le_of_ble_eq_true rfl) rfl (Nat.le_of_ble_eq_true rfl) dX3_isLike_38) 0 0 41 rfl rfl rfl ?_
        refine r_ifne hC 64 dX3_isLike_41 (by decide) 44 rfl (fun h => absurd h (by decide)) (fun _ => ?_)
        refine r_aload_n hC 2 dX3_isLike_44 rfl 45 rfl ?_
        refine r_aload_n hC 3 dX3_isLike_45 rfl 46 rfl ?_
        refine r_getsN hC hG hzOTH q273 dX3_isLike_46 49 rfl ?_
        refine r_iload hC 0 dX3_isLike_49 rfl 51 rfl ?_
        refine r_ialdT hC htOTH 1 (xix_n 1 (Nat.le_of_ble_eq_true rfl) (Nat.le_of_ble_eq_true rfl)) 2 rfl dX3_isLike_51 52 rfl ?_
        refine r_getsN hC hG hzONE q271 dX3_isLike_52 55 rfl ?_
        refine r_iload hC 0 dX3_isLike_55 rfl 57 rfl ?_
        refine r_ialdT hC htONE 1 (xix_n 1 (Nat.le_of_ble_eq_true rfl) (Nat.le_of_ble_eq_true rfl)) 0 rfl dX3_isLike_57 58 rfl ?_
        rcases Bool.eq_false_or_eq_true (trioQ r ru 2 0 1) with hk22 | hk22
        · skip
          refine xCall.r (r := some (.int 1)) (r_cV hC kX3 (o 0) [.ref (u 0), .int 2, .int 0] mVX3_areAt q1731 (fun _ h => ⟨_, h.get 0 rfl⟩) (fun V9 h9 => (xRm_v (metX3_areAt20 _ _ hG o u (fun _ => 0) r (fun _ => 0) ru hpl hm hpl2 hm2) (show _ = some (Value.int 1) by rw [hk22]; rfl)) V9 (h9.in.sub [0, 1, 2, 3, 4, 5, 6, 7, 8, 9, 10, 11] rfl rfl)) ⟨rfl, rfl⟩ (Nat.le_of_ble_eq_true rfl) (Nat.le_of_ble_eq_true rfl) rfl (Nat.le_of_ble_eq_true rfl) dX3_isLike_58) 0 0 61 rfl rfl rfl ?_
          refine r_ifeq hC 68 dX3_isLike_61 (by decide) 64 rfl (fun h => absurd h (by decide)) (fun _ => ?_)
          refine r_iconst hC 1 dX3_isLike_64 ic_1 65 rfl ?_
          refine r_goto hC 69 dX3_isLike_65 (by decide) ?_
          refine r_ior hC 1 dX3_isLike_69  (by decide) 70 rfl ?_
          refine r_istore_n hC 3 [(3, .int 1), (4, .int 1), (0, .ref (o 0)), (1, .ref (u 0)), (2, .int 1)] dX3_isLike_70 rfl (Nat.le_of_ble_eq_true rfl) rfl 71 rfl ?_
          refine r_iinc hC 2 4 1 [(4, .int 2), (3, .int 1), (0, .ref (o 0)), (1, .ref (u 0)), (2, .int 1)] dX3_isLike_71 rfl (by decide) (Nat.le_of_ble_eq_true rfl) rfl 74 rfl ?_
          refine r_goto hC 17 dX3_isLike_74 (by decide) ?_
          refine r_iload hC 0 dX3_isLike_17 rfl 19 rfl ?_
          refine r_iconst hC 3 dX3_isLike_19 ic_3 20 rfl ?_
          refine r_icge hC 77 dX3_isLike_20 (by decide) 23 rfl (fun h => absurd h (by decide)) (fun _ => ?_)
          refine r_iload_n hC 1 dX3_isLike_23 rfl 24 rfl ?_
          refine r_aload_n hC 2 dX3_isLike_24 rfl 25 rfl ?_
          refine r_aload_n hC 3 dX3_isLike_25 rfl 26 rfl ?_
          refine r_getsN hC hG hzONE q271 dX3_isLike_26 29 rfl ?_
          refine r_iload hC 0 dX3_isLike_29 rfl 31 rfl ?_
          refine r_ialdT hC htONE 2 (xix_n 2 (Nat.le_of_ble_eq_true rfl) (Nat.le_of_ble_eq_true rfl)) 1 rfl dX3_isLike_31 32 rfl ?_
          refine r_getsN hC hG hzOTH q273 dX3_isLike_32 35 rfl ?_
          refine r_iload hC 0 dX3_isLike_35 rfl 37 rfl ?_
          refine r_ialdT hC htOTH 2 (xix_n 2 (Nat.le_of_ble_eq_true rfl) (Nat.le_of_ble_eq_true rfl)) 2 rfl dX3_isLike_37 38 rfl ?_
          rcases Bool.eq_false_or_eq_true (trioQ r ru 1 2 0) with hk23 | hk23
          · skip
            refine xCall.r (r := some (.int 1)) (r_cV hC kX3 (o 0) [.ref (u 0), .int 1, .int 2] mVX3_areAt q1731 (fun _ h => ⟨_, h.get 0 rfl⟩) (fun V9 h9 => (xRm_v (metX3_areAt12 _ _ hG o u (fun _ => 0) r (fun _ => 0) ru hpl hm hpl2 hm2) (show _ = some (Value.int 1) by rw [hk23]; rfl)) V9 (h9.in.sub [0, 1, 2, 3, 4, 5, 6, 7, 8, 9, 10, 11] rfl rfl)) ⟨rfl, rfl⟩ (Nat.le_of_ble_eq_true rfl) (Nat.le_of_ble_eq_true rfl) rfl (Nat.le_of_ble_eq_true rfl) dX3_isLike_38) 0 0 41 rfl rfl rfl ?_
            refine r_ifne hC 64 dX3_isLike_41 (by decide) 44 rfl (fun _ => ?_) (fun h => absurd h (by decide))
            refine r_iconst hC 1 dX3_isLike_64 ic_1 65 rfl ?_
            refine r_goto hC 69 dX3_isLike_65 (by decide) ?_
            refine r_ior hC 1 dX3_isLike_69  (by decide) 70 rfl ?_
            refine r_istore_n hC 3 [(3, .int 1), (4, .int 2), (0, .ref (o 0)), (1, .ref (u 0)), (2, .int 1)] dX3_isLike_70 rfl (Nat.le_of_ble_eq_true rfl) rfl 71 rfl ?_
            refine r_iinc hC 3 4 1 [(4, .int 3), (3, .int 1), (0, .ref (o 0)), (1, .ref (u 0)), (2, .int 1)] dX3_isLike_71 rfl (by decide) (Nat.le_of_ble_eq_true rfl) rfl 74 rfl ?_
            refine r_goto hC 17 dX3_isLike_74 (by decide) ?_
            refine r_iload hC 0 dX3_isLike_17 rfl 19 rfl ?_
            refine r_iconst hC 3 dX3_isLike_19 ic_3 20 rfl ?_
            refine r_icge hC 77 dX3_isLike_20 (by decide) 23 rfl (fun _ => ?_) (fun h => absurd h (by decide))
            refine r_iload_n hC 1 dX3_isLike_77 rfl 78 rfl ?_
            exact r_zret hC (by decide) (Nat.le_of_ble_eq_true rfl) (Nat.le_of_ble_eq_true rfl) (fun V9 h => hQ _ _ ⟨by rw [backQ]; simp [bI, hk1, hk10, hk19, hk22, hk23], h.1⟩) dX3_isLike_78
          · skip
            refine xCall.r (r := some (.int 0)) (r_cV hC kX3 (o 0) [.ref (u 0), .int 1, .int 2] mVX3_areAt q1731 (fun _ h => ⟨_, h.get 0 rfl⟩) (fun V9 h9 => (xRm_v (metX3_areAt12 _ _ hG o u (fun _ => 0) r (fun _ => 0) ru hpl hm hpl2 hm2) (show _ = some (Value.int 0) by rw [hk23]; rfl)) V9 (h9.in.sub [0, 1, 2, 3, 4, 5, 6, 7, 8, 9, 10, 11] rfl rfl)) ⟨rfl, rfl⟩ (Nat.le_of_ble_eq_true rfl) (Nat.le_of_ble_eq_true rfl) rfl (Nat.le_of_ble_eq_true rfl) dX3_isLike_38) 0 0 41 rfl rfl rfl ?_
            refine r_ifne hC 64 dX3_isLike_41 (by decide) 44 rfl (fun h => absurd h (by decide)) (fun _ => ?_)
            refine r_aload_n hC 2 dX3_isLike_44 rfl 45 rfl ?_
            refine r_aload_n hC 3 dX3_isLike_45 rfl 46 rfl ?_
            refine r_getsN hC hG hzOTH q273 dX3_isLike_46 49 rfl ?_
            refine r_iload hC 0 dX3_isLike_49 rfl 51 rfl ?_
            refine r_ialdT hC htOTH 2 (xix_n 2 (Nat.le_of_ble_eq_true rfl) (Nat.le_of_ble_eq_true rfl)) 2 rfl dX3_isLike_51 52 rfl ?_
            refine r_getsN hC hG hzONE q271 dX3_isLike_52 55 rfl ?_
            refine r_iload hC 0 dX3_isLike_55 rfl 57 rfl ?_
            refine r_ialdT hC htONE 2 (xix_n 2 (Nat.le_of_ble_eq_true rfl) (Nat.le_of_ble_eq_true rfl)) 1 rfl dX3_isLike_57 58 rfl ?_
            rcases Bool.eq_false_or_eq_true (trioQ r ru 2 1 0) with hk24 | hk24
            · skip
              refine xCall.r (r := some (.int 1)) (r_cV hC kX3 (o 0) [.ref (u 0), .int 2, .int 1] mVX3_areAt q1731 (fun _ h => ⟨_, h.get 0 rfl⟩) (fun V9 h9 => (xRm_v (metX3_areAt21 _ _ hG o u (fun _ => 0) r (fun _ => 0) ru hpl hm hpl2 hm2) (show _ = some (Value.int 1) by rw [hk24]; rfl)) V9 (h9.in.sub [0, 1, 2, 3, 4, 5, 6, 7, 8, 9, 10, 11] rfl rfl)) ⟨rfl, rfl⟩ (Nat.le_of_ble_eq_true rfl) (Nat.le_of_ble_eq_true rfl) rfl (Nat.le_of_ble_eq_true rfl) dX3_isLike_58) 0 0 61 rfl rfl rfl ?_
              refine r_ifeq hC 68 dX3_isLike_61 (by decide) 64 rfl (fun h => absurd h (by decide)) (fun _ => ?_)
              refine r_iconst hC 1 dX3_isLike_64 ic_1 65 rfl ?_
              refine r_goto hC 69 dX3_isLike_65 (by decide) ?_
              refine r_ior hC 1 dX3_isLike_69  (by decide) 70 rfl ?_
              refine r_istore_n hC 3 [(3, .int 1), (4, .int 2), (0, .ref (o 0)), (1, .ref (u 0)), (2, .int 1)] dX3_isLike_70 rfl (Nat.le_of_ble_eq_true rfl) rfl 71 rfl ?_
              refine r_iinc hC 3 4 1 [(4, .int 3), (3, .int 1), (0, .ref (o 0)), (1, .ref (u 0)), (2, .int 1)] dX3_isLike_71 rfl (by decide) (Nat.le_of_ble_eq_true rfl) rfl 74 rfl ?_
              refine r_goto hC 17 dX3_isLike_74 (by decide) ?_
              refine r_iload hC 0 dX3_isLike_17 rfl 19 rfl ?_
              refine r_iconst hC 3 dX3_isLike_19 ic_3 20 rfl ?_
              refine r_icge hC 77 dX3_isLike_20 (by decide) 23 rfl (fun _ => ?_) (fun h => absurd h (by decide))
              refine r_iload_n hC 1 dX3_isLike_77 rfl 78 rfl ?_
              exact r_zret hC (by decide) (Nat.le_of_ble_eq_true rfl) (Nat.le_of_ble_eq_true rfl) (fun V9 h => hQ _ _ ⟨by rw [backQ]; simp [bI, hk1, hk10, hk19, hk22, hk23, hk24], h.1⟩) dX3_isLike_78
            · skip
              refine xCall.r (r := some (.int 0)) (r_cV hC kX3 (o 0) [.ref (u 0), .int 2, .int 1] mVX3_areAt q1731 (fun _ h => ⟨_, h.get 0 rfl⟩) (fun V9 h9 => (xRm_v (metX3_areAt21 _ _ hG o u (fun _ => 0) r (fun _ => 0) ru hpl hm hpl2 hm2) (show _ = some (Value.int 0) by rw [hk24]; rfl)) V9 (h9.in.sub [0, 1, 2, 3, 4, 5, 6, 7, 8, 9, 10, 11] rfl rfl)) ⟨rfl, rfl⟩ (Nat.le_of_ble_eq_true rfl) (Nat.le_of_ble_eq_true rfl) rfl (Nat.le_of_ble_eq_true rfl) dX3_isLike_58) 0 0 61 rfl rfl rfl ?_
              refine r_ifeq hC 68 dX3_isLike_61 (by decide) 64 rfl (fun _ => ?_) (fun h => absurd h (by decide))
              refine r_iconst hC 0 dX3_isLike_68 ic_0 69 rfl ?_
              refine r_ior hC 1 dX3_isLike_69  (by decide) 70 rfl ?_
              refine r_istore_n hC 3 [(3, .int 1), (4, .int 2), (0, .ref (o 0)), (1, .ref (u 0)), (2, .int 1)] dX3_isLike_70 rfl (Nat.le_of_ble_eq_true rfl) rfl 71 rfl ?_
              refine r_iinc hC 3 4 1 [(4, .int 3), (3, .int 1), (0, .ref (o 0)), (1, .ref (u 0)), (2, .int 1)] dX3_isLike_71 rfl (by decide) (Nat.le_of_ble_eq_true rfl) rfl 74 rfl ?_
              refine r_goto hC 17 dX3_isLike_74 (by decide) ?_
              refine r_iload hC 0 dX3_isLike_17 rfl 19 rfl ?_
              refine r_iconst hC 3 dX3_isLike_19 ic_3 20 rfl ?_
              refine r_icge hC 77 dX3_isLike_20 (by decide) 23 rfl (fun _ => ?_) (fun h => absurd h (by decide))
              refine r_iload_n hC 1 dX3_isLike_77 rfl 78 rfl ?_
              exact r_zret hC (by decide) (Nat.le_of_ble_eq_true rfl) (Nat.le_of_ble_eq_true rfl) (fun V9 h => hQ _ _ ⟨by rw [backQ]; simp [bI, hk1, hk10, hk19, hk22, hk23, hk24], h.1⟩) dX3_isLike_78
        · skip
          refine xCall.r (r := some (.int 0)) (r_cV hC kX3 (o 0) [.ref (u 0), .int 2, .int 0] mVX3_areAt q1731 (fun _ h => ⟨_, h.get 0 rfl⟩) (fun V9 h9 => (xRm_v (metX3_areAt20 _ _ hG o u (fun _ => 0) r (fun _ => 0) ru hpl hm hpl2 hm2) (show _ = some (Value.int 0) by rw [hk22]; rfl)) V9 (h9.in.sub [0, 1, 2, 3, 4, 5, 6, 7, 8, 9, 10, 11] rfl rfl)) ⟨rfl, rfl⟩ (Nat.le_of_ble_eq_true rfl) (Nat.le_of_ble_eq_true rfl) rfl (Nat.le_of_ble_eq_true rfl) dX3_isLike_58) 0 0 61 rfl rfl rfl ?_
          refine r_ifeq hC 68 dX3_isLike_61 (by decide) 64 rfl (fun _ => ?_) (fun h => absurd h (by decide))
          refine r_iconst hC 0 dX3_isLike_68 ic_0 69 rfl ?_
          refine r_ior hC 0 dX3_isLike_69  (by decide) 70 rfl ?_
          refine r_istore_n hC 3 [(3, .int 0), (4, .int 1), (0, .ref (o 0)), (1, .ref (u 0)), (2, .int 1)] dX3_isLike_70 rfl (Nat.le_of_ble_eq_true rfl) rfl 71 rfl ?_
          refine r_iinc hC 2 4 1 [(4, .int 2), (3, .int 0), (0, .ref (o 0)), (1, .ref (u 0)), (2, .int 1)] dX3_isLike_71 rfl (by decide) (Nat.le_of_ble_eq_true rfl) rfl 74 rfl ?_
          refine r_goto hC 17 dX3_isLike_74 (by decide) ?_
          refine r_iload hC 0 dX3_isLike_17 rfl 19 rfl ?_
          refine r_iconst hC 3 dX3_isLike_19 ic_3 20 rfl ?_
          refine r_icge hC 77 dX3_isLike_20 (by decide) 23 rfl (fun h => absurd h (by decide)) (fun _ => ?_)
          refine r_iload_n hC 1 dX3_isLike_23 rfl 24 rfl ?_
          refine r_aload_n hC 2 dX3_isLike_24 rfl 25 rfl ?_
          refine r_aload_n hC 3 dX3_isLike_25 rfl 26 rfl ?_
          refine r_getsN hC hG hzONE q271 dX3_isLike_26 29 rfl ?_
          refine r_iload hC 0 dX3_isLike_29 rfl 31 rfl ?_
          refine r_ialdT hC htONE 2 (xix_n 2 (Nat.le_of_ble_eq_true rfl) (Nat.le_of_ble_eq_true rfl)) 1 rfl dX3_isLike_31 32 rfl ?_
          refine r_getsN hC hG hzOTH q273 dX3_isLike_32 35 rfl ?_
          refine r_iload hC 0 dX3_isLike_35 rfl 37 rfl ?_
          refine r_ialdT hC htOTH 2 (xix_n 2 (Nat.le_of_ble_eq_true rfl) (Nat.le_of_ble_eq_true rfl)) 2 rfl dX3_isLike_37 38 rfl ?_
          rcases Bool.eq_false_or_eq_true (trioQ r ru 1 2 0) with hk25 | hk25
          · skip
            refine xCall.r (r := some (.int 1)) (r_cV hC kX3 (o 0) [.ref (u 0), .int 1, .int 2] mVX3_areAt q1731 (fun _ h => ⟨_, h.get 0 rfl⟩) (fun V9 h9 => (xRm_v (metX3_areAt12 _ _ hG o u (fun _ => 0) r (fun _ => 0) ru hpl hm hpl2 hm2) (show _ = some (Value.int 1) by rw [hk25]; rfl)) V9 (h9.in.sub [0, 1, 2, 3, 4, 5, 6, 7, 8, 9, 10, 11] rfl rfl)) ⟨rfl, rfl⟩ (Nat.le_of_ble_eq_true rfl) (Nat.le_of_ble_eq_true rfl) rfl (Nat.le_of_ble_eq_true rfl) dX3_isLike_38) 0 0 41 rfl rfl rfl ?_
            refine r_ifne hC 64 dX3_isLike_41 (by decide) 44 rfl (fun _ => ?_) (fun h => absurd h (by decide))
            refine r_iconst hC 1 dX3_isLike_64 ic_1 65 rfl ?_
            refine r_goto hC 69 dX3_isLike_65 (by decide) ?_
            refine r_ior hC 1 dX3_isLike_69  (by decide) 70 rfl ?_
            refine r_istore_n hC 3 [(3, .int 1), (4, .int 2), (0, .ref (o 0)), (1, .ref (u 0)), (2, .int 1)] dX3_isLike_70 rfl (Nat.le_of_ble_eq_true rfl) rfl 71 rfl ?_
            refine r_iinc hC 3 4 1 [(4, .int 3), (3, .int 1), (0, .ref (o 0)), (1, .ref (u 0)), (2, .int 1)] dX3_isLike_71 rfl (by decide) (Nat.le_of_ble_eq_true rfl) rfl 74 rfl ?_
            refine r_goto hC 17 dX3_isLike_74 (by decide) ?_
            refine r_iload hC 0 dX3_isLike_17 rfl 19 rfl ?_
            refine r_iconst hC 3 dX3_isLike_19 ic_3 20 rfl ?_
            refine r_icge hC 77 dX3_isLike_20 (by decide) 23 rfl (fun _ => ?_) (fun h => absurd h (by decide))
            refine r_iload_n hC 1 dX3_isLike_77 rfl 78 rfl ?_
            exact r_zret hC (by decide) (Nat.le_of_ble_eq_true rfl) (Nat.le_of_ble_eq_true rfl) (fun V9 h => hQ _ _ ⟨by rw [backQ]; simp [bI, hk1, hk10, hk19, hk22, hk25], h.1⟩) dX3_isLike_78
          · skip
            refine xCall.r (r := some (.int 0)) (r_cV hC kX3 (o 0) [.ref (u 0), .int 1, .int 2] mVX3_areAt q1731 (fun _ h => ⟨_, h.get 0 rfl⟩) (fun V9 h9 => (xRm_v (metX3_areAt12 _ _ hG o u (fun _ => 0) r (fun _ => 0) ru hpl hm hpl2 hm2) (show _ = some (Value.int 0) by rw [hk25]; rfl)) V9 (h9.in.sub [0, 1, 2, 3, 4, 5, 6, 7, 8, 9, 10, 11] rfl rfl)) ⟨rfl, rfl⟩ (Nat.le_of_ble_eq_true rfl) (Nat.le_of_ble_eq_true rfl) rfl (Nat.le_of_ble_eq_true rfl) dX3_isLike_38) 0 0 41 rfl rfl rfl ?_
            refine r_ifne hC 64 dX3_isLike_41 (by decide) 44 rfl (fun h => absurd h (by decide)) (fun _ => ?_)
            refine r_aload_n hC 2 dX3_isLike_44 rfl 45 rfl ?_
            refine r_aload_n hC 3 dX3_isLike_45 rfl 46 rfl ?_
            refine r_getsN hC hG hzOTH q273 dX3_isLike_46 49 rfl ?_
            refine r_iload hC 0 dX3_isLike_49 rfl 51 rfl ?_
            refine r_ialdT hC htOTH 2 (xix_n 2 (Nat.le_of_ble_eq_true rfl) (Nat.le_of_ble_eq_true rfl)) 2 rfl dX3_isLike_51 52 rfl ?_
            refine r_getsN hC hG hzONE q271 dX3_isLike_52 55 rfl ?_
            refine r_iload hC 0 dX3_isLike_55 rfl 57 rfl ?_
            refine r_ialdT hC htONE 2 (xix_n 2 (Nat.le_of_ble_eq_true rfl) (Nat.le_of_ble_eq_true rfl)) 1 rfl dX3_isLike_57 58 rfl ?_
            rcases Bool.eq_false_or_eq_true (trioQ r ru 2 1 0) with hk26 | hk26
            · skip
              refine xCall.r (r := some (.int 1)) (r_cV hC kX3 (o 0) [.ref (u 0), .int 2, .int 1] mVX3_areAt q1731 (fun _ h => ⟨_, h.get 0 rfl⟩) (fun V9 h9 => (xRm_v (metX3_areAt21 _ _ hG o u (fun _ => 0) r (fun _ => 0) ru hpl hm hpl2 hm2) (show _ = some (Value.int 1) by rw [hk26]; rfl)) V9 (h9.in.sub [0, 1, 2, 3, 4, 5, 6, 7, 8, 9, 10, 11] rfl rfl)) ⟨rfl, rfl⟩ (Nat.le_of_ble_eq_true rfl) (Nat.le_of_ble_eq_true rfl) rfl (Nat.le_of_ble_eq_true rfl) dX3_isLike_58) 0 0 61 rfl rfl rfl ?_
              refine r_ifeq hC 68 dX3_isLike_61 (by decide) 64 rfl (fun h => absurd h (by decide)) (fun _ => ?_)
              refine r_iconst hC 1 dX3_isLike_64 ic_1 65 rfl ?_
              refine r_goto hC 69 dX3_isLike_65 (by decide) ?_
              refine r_ior hC 1 dX3_isLike_69  (by decide) 70 rfl ?_
              refine r_istore_n hC 3 [(3, .int 1), (4, .int 2), (0, .ref (o 0)), (1, .ref (u 0)), (2, .int 1)] dX3_isLike_70 rfl (Nat.le_of_ble_eq_true rfl) rfl 71 rfl ?_
              refine r_iinc hC 3 4 1 [(4, .int 3), (3, .int 1), (0, .ref (o 0)), (1, .ref (u 0)), (2, .int 1)] dX3_isLike_71 rfl (by decide) (Nat.le_of_ble_eq_true rfl) rfl 74 rfl ?_
              refine r_goto hC 17 dX3_isLike_74 (by decide) ?_
              refine r_iload hC 0 dX3_isLike_17 rfl 19 rfl ?_
              refine r_iconst hC 3 dX3_isLike_19 ic_3 20 rfl ?_
              refine r_icge hC 77 dX3_isLike_20 (by decide) 23 rfl (fun _ => ?_) (fun h => absurd h (by decide))
              refine r_iload_n hC 1 dX3_isLike_77 rfl 78 rfl ?_
              exact r_zret hC (by decide) (Nat.le_of_ble_eq_true rfl) (Nat.le_of_ble_eq_true rfl) (fun V9 h => hQ _ _ ⟨by rw [backQ]; simp [bI, hk1, hk10, hk19, hk22, hk25, hk26], h.1⟩) dX3_isLike_78
            · skip
              refine xCall.r (r := some (.int 0)) (r_cV hC kX3 (o 0) [.ref (u 0), .int 2, .int 1] mVX3_areAt q1731 (fun _ h => ⟨_, h.get 0 rfl⟩) (fun V9 h9 => (xRm_v (metX3_areAt21 _ _ hG o u (fun _ => 0) r (fun _ => 0) ru hpl hm hpl2 hm2) (show _ = some (Value.int 0) by rw [hk26]; rfl)) V9 (h9.in.sub [0, 1, 2, 3, 4, 5, 6, 7, 8, 9, 10, 11] rfl rfl)) ⟨rfl, rfl⟩ (Nat.le_of_ble_eq_true rfl) (Nat.le_of_ble_eq_true rfl) rfl (Nat.le_of_ble_eq_true rfl) dX3_isLike_58) 0 0 61 rfl rfl rfl ?_
              refine r_ifeq hC 68 dX3_isLike_61 (by decide) 64 rfl (fun _ => ?_) (fun h => absurd h (by decide))
              refine r_iconst hC 0 dX3_isLike_68 ic_0 69 rfl ?_
              refine r_ior hC 0 dX3_isLike_69  (by decide) 70 rfl ?_
              refine r_istore_n hC 3 [(3, .int 0), (4, .int 2), (0, .ref (o 0)), (1, .ref (u 0)), (2, .int 1)] dX3_isLike_70 rfl (Nat.le_of_ble_eq_true rfl) rfl 71 rfl ?_
              refine r_iinc hC 3 4 1 [(4, .int 3), (3, .int 0), (0, .ref (o 0)), (1, .ref (u 0)), (2, .int 1)] dX3_isLike_71 rfl (by decide) (Nat.le_of_ble_eq_true rfl) rfl 74 rfl ?_
              refine r_goto hC 17 dX3_isLike_74 (by decide) ?_
              refine r_iload hC 0 dX3_isLike_17 rfl 19 rfl ?_
              refine r_iconst hC 3 dX3_isLike_19 ic_3 20 rfl ?_
              refine r_icge hC 77 dX3_isLike_20 (by decide) 23 rfl (fun _ => ?_) (fun h => absurd h (by decide))
              refine r_iload_n hC 1 dX3_isLike_77 rfl 78 rfl ?_
              exact r_zret hC (by decide) (Nat.le_of_ble_eq_true rfl) (Nat.le_of_ble_eq_true rfl) (fun V9 h => hQ _ _ ⟨by rw [backQ]; simp [bI, hk1, hk10, hk19, hk22, hk25, hk26], h.1⟩) dX3_isLike_78
set_option maxHeartbeats 4000000 in
set_option maxRecDepth 100000 in
theorem metX3_isLike0 (l : Launch) (G : xG) (hG : xGood G) (o u : Nat → Nat) (t r tu ru : Nat → Int64) (hpl : plR r) (hm : mOK r) (hpl2 : plR ru) (hm2 : mOK ru) : xRm l G yX3_isLike (Cond.code yX3_isLike cX3_isLike 5 (some .boolean)) { frames := 2, locals := 46, cells := 0, slots := 0 } [.ref (o 0), .ref (u 0), .int 0] [(o 0, .inr (2, [.ref (o 1), .ref (o 2), .ref (o 3), .ref (o 4), .ref (o 5), .ref (o 6), .ref (o 7), .ref (o 8), .ref (o 9), .ref (o 10), .int ((r 0).toInt32)])), (o 2, .inl (0, 3, .inl (maF r))), (o 3, .inl (0, 3, .inl (plX r))), (o 4, .inl (0, 3, .inl (plY r))), (o 5, .inl (1, 3, .inr (.inl (moX r)))), (o 6, .inl (1, 3, .inr (.inl (moY r)))), (u 0, .inr (2, [.ref (u 1), .ref (u 2), .ref (u 3), .ref (u 4), .ref (u 5), .ref (u 6), .ref (u 7), .ref (u 8), .ref (u 9), .ref (u 10), .int ((ru 0).toInt32)])), (u 2, .inl (0, 3, .inl (maF ru))), (u 3, .inl (0, 3, .inl (plX ru))), (u 4, .inl (0, 3, .inl (plY ru))), (u 5, .inl (1, 3, .inr (.inl (moX ru)))), (u 6, .inl (1, 3, .inr (.inl (moY ru))))] (some (.int (bI (backQ r ru false)))) := by
  intro V hV
  refine xMet_ofT RX3 hG rfl (by decide) (Nat.le_of_ble_eq_true rfl) fun C hC hQ hX hl hg _ hTab => ?_
  subst hl hg
  refine rn.mono (J := xRo [(o 0, .inr (2, [.ref (o 1), .ref (o 2), .ref (o 3), .ref (o 4), .ref (o 5), .ref (o 6), .ref (o 7), .ref (o 8), .ref (o 9), .ref (o 10), .int ((r 0).toInt32)])), (o 2, .inl (0, 3, .inl (maF r))), (o 3, .inl (0, 3, .inl (plX r))), (o 4, .inl (0, 3, .inl (plY r))), (o 5, .inl (1, 3, .inr (.inl (moX r)))), (o 6, .inl (1, 3, .inr (.inl (moY r)))), (u 0, .inr (2, [.ref (u 1), .ref (u 2), .ref (u 3), .ref (u 4), .ref (u 5), .ref (u 6), .ref (u 7), .ref (u 8), .ref (u 9), .ref (u 10), .int ((ru 0).toInt32)])), (u 2, .inl (0, 3, .inl (maF ru))), (u 3, .inl (0, 3, .inl (plX ru))), (u 4, .inl (0, 3, .inl (plY ru))), (u 5, .inl (1, 3, .inr (.inl (moX ru)))), (u 6, .inl (1, 3, .inr (.inl (moY ru))))] V) (fun V9 h => ⟨h, hV⟩) ?_
  show rn C (xRo [(o 0, .inr (2, [.ref (o 1), .ref (o 2), .ref (o 3), .ref (o 4), .ref (o 5), .ref (o 6), .ref (o 7), .ref (o 8), .ref (o 9), .ref (o 10), .int ((r 0).toInt32)])), (o 2, .inl (0, 3, .inl (maF r))), (o 3, .inl (0, 3, .inl (plX r))), (o 4, .inl (0, 3, .inl (plY r))), (o 5, .inl (1, 3, .inr (.inl (moX r)))), (o 6, .inl (1, 3, .inr (.inl (moY r)))), (u 0, .inr (2, [.ref (u 1), .ref (u 2), .ref (u 3), .ref (u 4), .ref (u 5), .ref (u 6), .ref (u 7), .ref (u 8), .ref (u 9), .ref (u 10), .int ((ru 0).toInt32)])), (u 2, .inl (0, 3, .inl (maF ru))), (u 3, .inl (0, 3, .inl (plX ru))), (u 4, .inl (0, 3, .inl (plY ru))), (u 5, .inl (1, 3, .inr (.inl (moX ru)))), (u 6, .inl (1, 3, .inr (.inl (moY ru))))] V) 0 0 0 [(0, .ref (o 0)), (1, .ref (u 0)), (2, .int 0)] []
  refine r_iload_n hC 2 dX3_isLike_0 rfl 1 rfl ?_
  refine r_ifne hC 12 dX3_isLike_1 (by decide) 4 rfl (fun h => absurd h (by decide)) (fun _ => ?_)
  refine r_aload_n hC 0 dX3_isLike_4 rfl 5 rfl ?_
  refine r_aload_n hC 1 dX3_isLike_5 rfl 6 rfl ?_
  refine r_iconst hC 0 dX3_isLike_6 ic_0 7 rfl ?_
  refine r_iconst hC 1 dX3_isLike_7 ic_1 8 rfl ?_
  rcases Bool.eq_false_or_eq_true (trioQ r ru 0 1 2) with hk1 | hk1
  · skip
    refine xCall.r (r := some (.int 1)) (r_cV hC kX3 (o 0) [.ref (u 0), .int 0, .int 1] mVX3_areAt q1731 (fun _ h => ⟨_, h.get 0 rfl⟩) (fun V9 h9 => (xRm_v (metX3_areAt01 _ _ hG o u (fun _ => 0) r (fun _ => 0) ru hpl hm hpl2 hm2) (show _ = some (Value.int 1) by rw [hk1]; rfl)) V9 (h9.in.sub [0, 1, 2, 3, 4, 5, 6, 7, 8, 9, 10, 11] rfl rfl)) ⟨rfl, rfl⟩ (Nat.le_of_ble_eq_true rfl) (Nat.le_of_ble_eq_true rfl) rfl (Nat.le_of_ble_eq_true rfl) dX3_isLike_8) 0 0 11 rfl rfl rfl ?_
    exact r_zret hC (by decide) (Nat.le_of_ble_eq_true rfl) (Nat.le_of_ble_eq_true rfl) (fun V9 h => hQ _ _ ⟨by rw [backQ]; simp [bI, hk1], h.1⟩) dX3_isLike_11
  · skip
    refine xCall.r (r := some (.int 0)) (r_cV hC kX3 (o 0) [.ref (u 0), .int 0, .int 1] mVX3_areAt q1731 (fun _ h => ⟨_, h.get 0 rfl⟩) (fun V9 h9 => (xRm_v (metX3_areAt01 _ _ hG o u (fun _ => 0) r (fun _ => 0) ru hpl hm hpl2 hm2) (show _ = some (Value.int 0) by rw [hk1]; rfl)) V9 (h9.in.sub [0, 1, 2, 3, 4, 5, 6, 7, 8, 9, 10, 11] rfl rfl)) ⟨rfl, rfl⟩ (Nat.le_of_ble_eq_true rfl) (Nat.le_of_ble_eq_true rfl) rfl (Nat.le_of_ble_eq_true rfl) dX3_isLike_8) 0 0 11 rfl rfl rfl ?_
    exact r_zret hC (by decide) (Nat.le_of_ble_eq_true rfl) (Nat.le_of_ble_eq_true rfl) (fun V9 h => hQ _ _ ⟨by rw [backQ]; simp [bI, hk1], h.1⟩) dX3_isLike_11
set_option maxHeartbeats 4000000 in
set_option maxRecDepth 100000 in
theorem metX3_init (l : Launch) (G : xG) (hG : xGood G) (q : Nat) : xWm l G yX3_init (Cond.code yX3_init cX3_init 1 none) { frames := 1, locals := 20, cells := 10, slots := 33 } [.ref q] [(q, .inr (2, [.null, .null, .null, .null, .null, .null, .null, .null, .null, .null, .int 0]))] (fun v w' => ∃ o : Nat → Nat, o 0 = q ∧ v = none ∧ w' = [(o 0, .inr (2, [.ref (o 1), .ref (o 2), .ref (o 3), .ref (o 4), .ref (o 5), .ref (o 6), .ref (o 7), .ref (o 8), .ref (o 9), .ref (o 10), .int ((rowC 0).toInt32)])), (o 1, .inl (0, 6, .inl (seF told0 rowC))), (o 2, .inl (0, 3, .inl (maF rowC))), (o 3, .inl (0, 3, .inl (plX rowC))), (o 4, .inl (0, 3, .inl (plY rowC))), (o 5, .inl (1, 3, .inr (.inl (moX rowC)))), (o 6, .inl (1, 3, .inr (.inl (moY rowC)))), (o 7, .inl (0, 3, .inl zI)), (o 8, .inl (0, 3, .inl zI)), (o 9, .inl (1, 3, .inr (.inl zJ))), (o 10, .inl (1, 3, .inr (.inl zJ)))]) (fun _ _ => False) := by
  intro V hV
  refine xMet_ofT RX3 hG rfl (by decide) (Nat.le_of_ble_eq_true rfl) fun C hC hQ hX hl hg hini hTab => ?_
  subst hl hg
  replace hini := hini rfl
  obtain ⟨V0, hV0⟩ : ∃ V0, V0 = V := ⟨_, rfl⟩
  obtain ⟨F, hF⟩ : ∃ F, F = xF [(q, .inr (2, [.null, .null, .null, .null, .null, .null, .null, .null, .null, .null, .int 0]))] := ⟨_, rfl⟩
  refine rn.mono (J := xSt F V0 [(q, .inr (2, [.null, .null, .null, .null, .null, .null, .null, .null, .null, .null, .int 0]))]) (fun V9 h => by rw [h, hV0, hF]; exact hV.st) ?_
  show rn C (xSt F V0 [(q, .inr (2, [.null, .null, .null, .null, .null, .null, .null, .null, .null, .null, .int 0]))]) 0 0 0 [(0, .ref q)] []
  refine r_aload_n hC 0 dX3_init_0 rfl 1 rfl ?_
  refine r_objInit hC q172 (Nat.le_of_ble_eq_true rfl) (Nat.le_of_ble_eq_true rfl) (Nat.le_of_ble_eq_true rfl) dX3_init_1 4 rfl ?_
  refine r_aload_n hC 0 dX3_init_4 rfl 5 rfl ?_
  refine r_bipush hC 6 dX3_init_5 bp_6 7 rfl ?_
  refine r_newa (J := fun q1 => xSt F V0 [(q, .inr (2, [.null, .null, .null, .null, .null, .null, .null, .null, .null, .null, .int 0])), (q1, .inl (0, 6, .inl zI))]) hC .int 0 6 (6, .inl (zI)) rfl q225 rfl rfl naz_int rfl (Nat.le_of_ble_eq_true rfl) (Nat.le_of_ble_eq_true rfl) (Nat.le_of_ble_eq_true rfl) dX3_init_7 (fun _ h => h.push _) 9 rfl (fun q1 => ?_)
  show rn C (xSt F V0 [(q, .inr (2, [.null, .null, .null, .null, .null, .null, .null, .null, .null, .null, .int 0])), (q1, .inl (0, 6, .inl zI))]) 1 6 9 [(0, .ref q)] [.ref q1, .ref q]
  refine r_dup hC dX3_init_9 rfl 10 rfl ?_
  refine r_iconst hC 0 dX3_init_10 ic_0 11 rfl ?_
  refine r_sipush hC 1000 dX3_init_11 sp_1000 14 rfl ?_
  refine r_iast (J := xSt F V0 [(q, .inr (2, [.null, .null, .null, .null, .null, .null, .null, .null, .null, .null, .int 0])), (q1, .inl (0, 6, .inl (va_up zI 0 1000)))]) hC 0 (xix_n 0 (Nat.le_of_ble_eq_true rfl) (Nat.le_of_ble_eq_true rfl)) (fun _ h => h.get 1 rfl) dX3_init_14 (fun _ h => h.set 1 _ rfl) 15 rfl ?_
  generalize hu2 : va_up zI 0 1000 = u2
  refine r_dup hC dX3_init_15 rfl 16 rfl ?_
  refine r_iconst hC 1 dX3_init_16 ic_1 17 rfl ?_
  refine r_bipush hC 10 dX3_init_17 bp_10 19 rfl ?_
  refine r_iast (J := xSt F V0 [(q, .inr (2, [.null, .null, .null, .null, .null, .null, .null, .null, .null, .null, .int 0])), (q1, .inl (0, 6, .inl (va_up u2 1 10)))]) hC 1 (xix_n 1 (Nat.le_of_ble_eq_true rfl) (Nat.le_of_ble_eq_true rfl)) (fun _ h => h.get 1 rfl) dX3_init_19 (fun _ h => h.set 1 _ rfl) 20 rfl ?_
  generalize hu3 : va_up u2 1 10 = u3
  refine r_dup hC dX3_init_20 rfl 21 rfl ?_
  refine r_iconst hC 2 dX3_init_21 ic_2 22 rfl ?_
  refine r_iconst hC 1 dX3_init_22 ic_1 23 rfl ?_
  refine r_iast (J := xSt F V0 [(q, .inr (2, [.null, .null, .null, .null, .null, .null, .null, .null, .null, .null, .int 0])), (q1, .inl (0, 6, .inl (va_up u3 2 1)))]) hC 2 (xix_n 2 (Nat.le_of_ble_eq_true rfl) (Nat.le_of_ble_eq_true rfl)) (fun _ h => h.get 1 rfl) dX3_init_23 (fun _ h => h.set 1 _ rfl) 24 rfl ?_
  generalize hu4 : va_up u3 2 1 = u4
  refine r_dup hC dX3_init_24 rfl 25 rfl ?_
  refine r_iconst hC 3 dX3_init_25 ic_3 26 rfl ?_
  refine r_iconst hC 0 dX3_init_26 ic_0 27 rfl ?_
  refine r_iast (J := xSt F V0 [(q, .inr (2, [.null, .null, .null, .null, .null, .null, .null, .null, .null, .null, .int 0])), (q1, .inl (0, 6, .inl (va_up u4 3 0)))]) hC 3 (xix_n 3 (Nat.le_of_ble_eq_true rfl) (Nat.le_of_ble_eq_true rfl)) (fun _ h => h.get 1 rfl) dX3_init_27 (fun _ h => h.set 1 _ rfl) 28 rfl ?_
  generalize hu5 : va_up u4 3 0 = u5
  refine r_dup hC dX3_init_28 rfl 29 rfl ?_
  refine r_iconst hC 4 dX3_init_29 ic_4 30 rfl ?_
  refine r_bipush hC 100 dX3_init_30 bp_100 32 rfl ?_
  refine r_iast (J := xSt F V0 [(q, .inr (2, [.null, .null, .null, .null, .null, .null, .null, .null, .null, .null, .int 0])), (q1, .inl (0, 6, .inl (va_up u5 4 100)))]) hC 4 (xix_n 4 (Nat.le_of_ble_eq_true rfl) (Nat.le_of_ble_eq_true rfl)) (fun _ h => h.get 1 rfl) dX3_init_32 (fun _ h => h.set 1 _ rfl) 33 rfl ?_
  generalize hu6 : va_up u5 4 100 = u6
  refine r_dup hC dX3_init_33 rfl 34 rfl ?_
  refine r_iconst hC 5 dX3_init_34 ic_5 35 rfl ?_
  refine r_sipush hC 1000 dX3_init_35 sp_1000 38 rfl ?_
  refine r_iast (J := xSt F V0 [(q, .inr (2, [.null, .null, .null, .null, .null, .null, .null, .null, .null, .null, .int 0])), (q1, .inl (0, 6, .inl (va_up u6 5 1000)))]) hC 5 (xix_n 5 (Nat.le_of_ble_eq_true rfl) (Nat.le_of_ble_eq_true rfl)) (fun _ h => h.get 1 rfl) dX3_init_38 (fun _ h => h.set 1 _ rfl) 39 rfl ?_
  generalize hu7 : va_up u6 5 1000 = u7
  refine r_putF (J := xSt F V0 [(q, .inr (2, [.ref q1, .null, .null, .null, .null, .null, .null, .null, .null, .null, .int 0])), (q1, .inl (0, 6, .inl u7))]) hC hini kX3 0 rfl q173 rfl rfl (fun _ h => h.get 0 rfl) (Nat.le_of_ble_eq_true rfl) (rfl) (rfl) dX3_init_39 (fun _ h => h.set 0 _ rfl) 42 rfl ?_
  refine r_aload_n hC 0 dX3_init_42 rfl 43 rfl ?_
  refine r_iconst hC 3 dX3_init_43 ic_3 44 rfl ?_
  refine r_newa (J := fun q8 => xSt F V0 [(q, .inr (2, [.ref q1, .null, .null, .null, .null, .null, .null, .null, .null, .null, .int 0])), (q1, .inl (0, 6, .inl u7)), (q8, .inl (0, 3, .inl zI))]) hC .int 0 3 (3, .inl (zI)) rfl q225 rfl rfl naz_int rfl (Nat.le_of_ble_eq_true rfl) (Nat.le_of_ble_eq_true rfl) (Nat.le_of_ble_eq_true rfl) dX3_init_44 (fun _ h => h.push _) 46 rfl (fun q8 => ?_)
  show rn C (xSt F V0 [(q, .inr (2, [.ref q1, .null, .null, .null, .null, .null, .null, .null, .null, .null, .int 0])), (q1, .inl (0, 6, .inl u7)), (q8, .inl (0, 3, .inl zI))]) 2 9 46 [(0, .ref q)] [.ref q8, .ref q]
  refine r_dup hC dX3_init_46 rfl 47 rfl ?_
  refine r_iconst hC 0 dX3_init_47 ic_0 48 rfl ?_
  refine r_iconst hC 1 dX3_init_48 ic_1 49 rfl ?_
  refine r_iast (J := xSt F V0 [(q, .inr (2, [.ref q1, .null, .null, .null, .null, .null, .null, .null, .null, .null, .int 0])), (q1, .inl (0, 6, .inl u7)), (q8, .inl (0, 3, .inl (va_up zI 0 1)))]) hC 0 (xix_n 0 (Nat.le_of_ble_eq_true rfl) (Nat.le_of_ble_eq_true rfl)) (fun _ h => h.get 2 rfl) dX3_init_49 (fun _ h => h.set 2 _ rfl) 50 rfl ?_
  generalize hu9 : va_up zI 0 1 = u9
  refine r_dup hC dX3_init_50 rfl 51 rfl ?_
  refine r_iconst hC 1 dX3_init_51 ic_1 52 rfl ?_
  refine r_iconst hC 1 dX3_init_52 ic_1 53 rfl ?_
  refine r_iast (J := xSt F V0 [(q, .inr (2, [.ref q1, .null, .null, .null, .null, .null, .null, .null, .null, .null, .int 0])), (q1, .inl (0, 6, .inl u7)), (q8, .inl (0, 3, .inl (va_up u9 1 1)))]) hC 1 (xix_n 1 (Nat.le_of_ble_eq_true rfl) (Nat.le_of_ble_eq_true rfl)) (fun _ h => h.get 2 rfl) dX3_init_53 (fun _ h => h.set 2 _ rfl) 54 rfl ?_
  generalize hu10 : va_up u9 1 1 = u10
  refine r_dup hC dX3_init_54 rfl 55 rfl ?_
  refine r_iconst hC 2 dX3_init_55 ic_2 56 rfl ?_
  refine r_iconst hC 1 dX3_init_56 ic_1 57 rfl ?_
  refine r_iast (J := xSt F V0 [(q, .inr (2, [.ref q1, .null, .null, .null, .null, .null, .null, .null, .null, .null, .int 0])), (q1, .inl (0, 6, .inl u7)), (q8, .inl (0, 3, .inl (va_up u10 2 1)))]) hC 2 (xix_n 2 (Nat.le_of_ble_eq_true rfl) (Nat.le_of_ble_eq_true rfl)) (fun _ h => h.get 2 rfl) dX3_init_57 (fun _ h => h.set 2 _ rfl) 58 rfl ?_
  generalize hu11 : va_up u10 2 1 = u11
  refine r_putF (J := xSt F V0 [(q, .inr (2, [.ref q1, .ref q8, .null, .null, .null, .null, .null, .null, .null, .null, .int 0])), (q1, .inl (0, 6, .inl u7)), (q8, .inl (0, 3, .inl u11))]) hC hini kX3 1 rfl q177 rfl rfl (fun _ h => h.get 0 rfl) (Nat.le_of_ble_eq_true rfl) (rfl) (rfl) dX3_init_58 (fun _ h => h.set 0 _ rfl) 61 rfl ?_
  refine r_aload_n hC 0 dX3_init_61 rfl 62 rfl ?_
  refine r_iconst hC 3 dX3_init_62 ic_3 63 rfl ?_
  refine r_newa (J := fun q12 => xSt F V0 [(q, .inr (2, [.ref q1, .ref q8, .null, .null, .null, .null, .null, .null, .null, .null, .int 0])), (q1, .inl (0, 6, .inl u7)), (q8, .inl (0, 3, .inl u11)), (q12, .inl (0, 3, .inl zI))]) hC .int 0 3 (3, .inl (zI)) rfl q225 rfl rfl naz_int rfl (Nat.le_of_ble_eq_true rfl) (Nat.le_of_ble_eq_true rfl) (Nat.le_of_ble_eq_true rfl) dX3_init_63 (fun _ h => h.push _) 65 rfl (fun q12 => ?_)
  show rn C (xSt F V0 [(q, .inr (2, [.ref q1, .ref q8, .null, .null, .null, .null, .null, .null, .null, .null, .int 0])), (q1, .inl (0, 6, .inl u7)), (q8, .inl (0, 3, .inl u11)), (q12, .inl (0, 3, .inl zI))]) 3 12 65 [(0, .ref q)] [.ref q12, .ref q]
  refine r_dup hC dX3_init_65 rfl 66 rfl ?_
  refine r_iconst hC 0 dX3_init_66 ic_0 67 rfl ?_
  refine r_iconst hC 0 dX3_init_67 ic_0 68 rfl ?_
  refine r_iast (J := xSt F V0 [(q, .inr (2, [.ref q1, .ref q8, .null, .null, .null, .null, .null, .null, .null, .null, .int 0])), (q1, .inl (0, 6, .inl u7)), (q8, .inl (0, 3, .inl u11)), (q12, .inl (0, 3, .inl (va_up zI 0 0)))]) hC 0 (xix_n 0 (Nat.le_of_ble_eq_true rfl) (Nat.le_of_ble_eq_true rfl)) (fun _ h => h.get 3 rfl) dX3_init_68 (fun _ h => h.set 3 _ rfl) 69 rfl ?_
  generalize hu13 : va_up zI 0 0 = u13
  refine r_dup hC dX3_init_69 rfl 70 rfl ?_
  refine r_iconst hC 1 dX3_init_70 ic_1 71 rfl ?_
  refine r_sipush hC 1000 dX3_init_71 sp_1000 74 rfl ?_
  refine r_iast (J := xSt F V0 [(q, .inr (2, [.ref q1, .ref q8, .null, .null, .null, .null, .null, .null, .null, .null, .int 0])), (q1, .inl (0, 6, .inl u7)), (q8, .inl (0, 3, .inl u11)), (q12, .inl (0, 3, .inl (va_up u13 1 1000)))]) hC 1 (xix_n 1 (Nat.le_of_ble_eq_true rfl) (Nat.le_of_ble_eq_true rfl)) (fun _ h => h.get 3 rfl) dX3_init_74 (fun _ h => h.set 3 _ rfl) 75 rfl ?_
  generalize hu14 : va_up u13 1 1000 = u14
  refine r_dup hC dX3_init_75 rfl 76 rfl ?_
  refine r_iconst hC 2 dX3_init_76 ic_2 77 rfl ?_
  refine r_iconst hC 0 dX3_init_77 ic_0 78 rfl ?_
  refine r_iast (J := xSt F V0 [(q, .inr (2, [.ref q1, .ref q8, .null, .null, .null, .null, .null, .null, .null, .null, .int 0])), (q1, .inl (0, 6, .inl u7)), (q8, .inl (0, 3, .inl u11)), (q12, .inl (0, 3, .inl (va_up u14 2 0)))]) hC 2 (xix_n 2 (Nat.le_of_ble_eq_true rfl) (Nat.le_of_ble_eq_true rfl)) (fun _ h => h.get 3 rfl) dX3_init_78 (fun _ h => h.set 3 _ rfl) 79 rfl ?_
  generalize hu15 : va_up u14 2 0 = u15
  refine r_putF (J := xSt F V0 [(q, .inr (2, [.ref q1, .ref q8, .ref q12, .null, .null, .null, .null, .null, .null, .null, .int 0])), (q1, .inl (0, 6, .inl u7)), (q8, .inl (0, 3, .inl u11)), (q12, .inl (0, 3, .inl u15))]) hC hini kX3 2 rfl q180 rfl rfl (fun _ h => h.get 0 rfl) (Nat.le_of_ble_eq_true rfl) (rfl) (rfl) dX3_init_79 (fun _ h => h.set 0 _ rfl) 82 rfl ?_
  refine r_aload_n hC 0 dX3_init_82 rfl 83 rfl ?_
  refine r_iconst hC 3 dX3_init_83 ic_3 84 rfl ?_
  refine r_newa (J := fun q16 => xSt F V0 [(q, .inr (2, [.ref q1, .ref q8, .ref q12, .null, .null, .null, .null, .null, .null, .null, .int 0])), (q1, .inl (0, 6, .inl u7)), (q8, .inl (0, 3, .inl u11)), (q12, .inl (0, 3, .inl u15)), (q16, .inl (0, 3, .inl zI))]) hC .int 0 3 (3, .inl (zI)) rfl q225 rfl rfl naz_int rfl (Nat.le_of_ble_eq_true rfl) (Nat.le_of_ble_eq_true rfl) (Nat.le_of_ble_eq_true rfl) dX3_init_84 (fun _ h => h.push _) 86 rfl (fun q16 => ?_)
  show rn C (xSt F V0 [(q, .inr (2, [.ref q1, .ref q8, .ref q12, .null, .null, .null, .null, .null, .null, .null, .int 0])), (q1, .inl (0, 6, .inl u7)), (q8, .inl (0, 3, .inl u11)), (q12, .inl (0, 3, .inl u15)), (q16, .inl (0, 3, .inl zI))]) 4 15 86 [(0, .ref q)] [.ref q16, .ref q]
  refine r_dup hC dX3_init_86 rfl 87 rfl ?_
  refine r_iconst hC 0 dX3_init_87 ic_0 88 rfl ?_
  refine r_iconst hC 0 dX3_init_88 ic_0 89 rfl ?_
  refine r_iast (J := xSt F V0 [(q, .inr (2, [.ref q1, .ref q8, .ref q12, .null, .null, .null, .null, .null, .null, .null, .int 0])), (q1, .inl (0, 6, .inl u7)), (q8, .inl (0, 3, .inl u11)), (q12, .inl (0, 3, .inl u15)), (q16, .inl (0, 3, .inl (va_up zI 0 0)))]) hC 0 (xix_n 0 (Nat.le_of_ble_eq_true rfl) (Nat.le_of_ble_eq_true rfl)) (fun _ h => h.get 4 rfl) dX3_init_89 (fun _ h => h.set 4 _ rfl) 90 rfl ?_
  generalize hu17 : va_up zI 0 0 = u17
  refine r_dup hC dX3_init_90 rfl 91 rfl ?_
  refine r_iconst hC 1 dX3_init_91 ic_1 92 rfl ?_
  refine r_iconst hC 0 dX3_init_92 ic_0 93 rfl ?_
  refine r_iast (J := xSt F V0 [(q, .inr (2, [.ref q1, .ref q8, .ref q12, .null, .null, .null, .null, .null, .null, .null, .int 0])), (q1, .inl (0, 6, .inl u7)), (q8, .inl (0, 3, .inl u11)), (q12, .inl (0, 3, .inl u15)), (q16, .inl (0, 3, .inl (va_up u17 1 0)))]) hC 1 (xix_n 1 (Nat.le_of_ble_eq_true rfl) (Nat.le_of_ble_eq_true rfl)) (fun _ h => h.get 4 rfl) dX3_init_93 (fun _ h => h.set 4 _ rfl) 94 rfl ?_
  generalize hu18 : va_up u17 1 0 = u18
  refine r_dup hC dX3_init_94 rfl 95 rfl ?_
  refine r_iconst hC 2 dX3_init_95 ic_2 96 rfl ?_
  refine r_sipush hC 1000 dX3_init_96 sp_1000 99 rfl ?_
  refine r_iast (J := xSt F V0 [(q, .inr (2, [.ref q1, .ref q8, .ref q12, .null, .null, .null, .null, .null, .null, .null, .int 0])), (q1, .inl (0, 6, .inl u7)), (q8, .inl (0, 3, .inl u11)), (q12, .inl (0, 3, .inl u15)), (q16, .inl (0, 3, .inl (va_up u18 2 1000)))]) hC 2 (xix_n 2 (Nat.le_of_ble_eq_true rfl) (Nat.le_of_ble_eq_true rfl)) (fun _ h => h.get 4 rfl) dX3_init_99 (fun _ h => h.set 4 _ rfl) 100 rfl ?_
  generalize hu19 : va_up u18 2 1000 = u19
  refine r_putF (J := xSt F V0 [(q, .inr (2, [.ref q1, .ref q8, .ref q12, .ref q16, .null, .null, .null, .null, .null, .null, .int 0])), (q1, .inl (0, 6, .inl u7)), (q8, .inl (0, 3, .inl u11)), (q12, .inl (0, 3, .inl u15)), (q16, .inl (0, 3, .inl u19))]) hC hini kX3 3 rfl q184 rfl rfl (fun _ h => h.get 0 rfl) (Nat.le_of_ble_eq_true rfl) (rfl) (rfl) dX3_init_100 (fun _ h => h.set 0 _ rfl) 103 rfl ?_
  refine r_aload_n hC 0 dX3_init_103 rfl 104 rfl ?_
  refine r_iconst hC 3 dX3_init_104 ic_3 105 rfl ?_
  refine r_newa (J := fun q20 => xSt F V0 [(q, .inr (2, [.ref q1, .ref q8, .ref q12, .ref q16, .null, .null, .null, .null, .null, .null, .int 0])), (q1, .inl (0, 6, .inl u7)), (q8, .inl (0, 3, .inl u11)), (q12, .inl (0, 3, .inl u15)), (q16, .inl (0, 3, .inl u19)), (q20, .inl (1, 3, .inr (.inl zJ)))]) hC .long 1 3 (3, .inr (.inl (zJ))) rfl q226 rfl rfl naz_long rfl (Nat.le_of_ble_eq_true rfl) (Nat.le_of_ble_eq_true rfl) (Nat.le_of_ble_eq_true rfl) dX3_init_105 (fun _ h => h.push _) 107 rfl (fun q20 => ?_)
  show rn C (xSt F V0 [(q, .inr (2, [.ref q1, .ref q8, .ref q12, .ref q16, .null, .null, .null, .null, .null, .null, .int 0])), (q1, .inl (0, 6, .inl u7)), (q8, .inl (0, 3, .inl u11)), (q12, .inl (0, 3, .inl u15)), (q16, .inl (0, 3, .inl u19)), (q20, .inl (1, 3, .inr (.inl zJ)))]) 5 18 107 [(0, .ref q)] [.ref q20, .ref q]
  refine r_putF (J := xSt F V0 [(q, .inr (2, [.ref q1, .ref q8, .ref q12, .ref q16, .ref q20, .null, .null, .null, .null, .null, .int 0])), (q1, .inl (0, 6, .inl u7)), (q8, .inl (0, 3, .inl u11)), (q12, .inl (0, 3, .inl u15)), (q16, .inl (0, 3, .inl u19)), (q20, .inl (1, 3, .inr (.inl zJ)))]) hC hini kX3 4 rfl q188 rfl rfl (fun _ h => h.get 0 rfl) (Nat.le_of_ble_eq_true rfl) (rfl) (rfl) dX3_init_107 (fun _ h => h.set 0 _ rfl) 110 rfl ?_
  refine r_aload_n hC 0 dX3_init_110 rfl 111 rfl ?_
  refine r_iconst hC 3 dX3_init_111 ic_3 112 rfl ?_
  refine r_newa (J := fun q21 => xSt F V0 [(q, .inr (2, [.ref q1, .ref q8, .ref q12, .ref q16, .ref q20, .null, .null, .null, .null, .null, .int 0])), (q1, .inl (0, 6, .inl u7)), (q8, .inl (0, 3, .inl u11)), (q12, .inl (0, 3, .inl u15)), (q16, .inl (0, 3, .inl u19)), (q20, .inl (1, 3, .inr (.inl zJ))), (q21, .inl (1, 3, .inr (.inl zJ)))]) hC .long 1 3 (3, .inr (.inl (zJ))) rfl q226 rfl rfl naz_long rfl (Nat.le_of_ble_eq_true rfl) (Nat.le_of_ble_eq_true rfl) (Nat.le_of_ble_eq_true rfl) dX3_init_112 (fun _ h => h.push _) 114 rfl (fun q21 => ?_)
  show rn C (xSt F V0 [(q, .inr (2, [.ref q1, .ref q8, .ref q12, .ref q16, .ref q20, .null, .null, .null, .null, .null, .int 0])), (q1, .inl (0, 6, .inl u7)), (q8, .inl (0, 3, .inl u11)), (q12, .inl (0, 3, .inl u15)), (q16, .inl (0, 3, .inl u19)), (q20, .inl (1, 3, .inr (.inl zJ))), (q21, .inl (1, 3, .inr (.inl zJ)))]) 6 21 114 [(0, .ref q)] [.ref q21, .ref q]
  refine r_putF (J := xSt F V0 [(q, .inr (2, [.ref q1, .ref q8, .ref q12, .ref q16, .ref q20, .ref q21, .null, .null, .null, .null, .int 0])), (q1, .inl (0, 6, .inl u7)), (q8, .inl (0, 3, .inl u11)), (q12, .inl (0, 3, .inl u15)), (q16, .inl (0, 3, .inl u19)), (q20, .inl (1, 3, .inr (.inl zJ))), (q21, .inl (1, 3, .inr (.inl zJ)))]) hC hini kX3 5 rfl q191 rfl rfl (fun _ h => h.get 0 rfl) (Nat.le_of_ble_eq_true rfl) (rfl) (rfl) dX3_init_114 (fun _ h => h.set 0 _ rfl) 117 rfl ?_
  refine r_aload_n hC 0 dX3_init_117 rfl 118 rfl ?_
  refine r_iconst hC 3 dX3_init_118 ic_3 119 rfl ?_
  refine r_newa (J := fun q22 => xSt F V0 [(q, .inr (2, [.ref q1, .ref q8, .ref q12, .ref q16, .ref q20, .ref q21, .null, .null, .null, .null, .int 0])), (q1, .inl (0, 6, .inl u7)), (q8, .inl (0, 3, .inl u11)), (q12, .inl (0, 3, .inl u15)), (q16, .inl (0, 3, .inl u19)), (q20, .inl (1, 3, .inr (.inl zJ))), (q21, .inl (1, 3, .inr (.inl zJ))), (q22, .inl (0, 3, .inl zI))]) hC .int 0 3 (3, .inl (zI)) rfl q225 rfl rfl naz_int rfl (Nat.le_of_ble_eq_true rfl) (Nat.le_of_ble_eq_true rfl) (Nat.le_of_ble_eq_true rfl) dX3_init_119 (fun _ h => h.push _) 121 rfl (fun q22 => ?_)
  show rn C (xSt F V0 [(q, .inr (2, [.ref q1, .ref q8, .ref q12, .ref q16, .ref q20, .ref q21, .null, .null, .null, .null, .int 0])), (q1, .inl (0, 6, .inl u7)), (q8, .inl (0, 3, .inl u11)), (q12, .inl (0, 3, .inl u15)), (q16, .inl (0, 3, .inl u19)), (q20, .inl (1, 3, .inr (.inl zJ))), (q21, .inl (1, 3, .inr (.inl zJ))), (q22, .inl (0, 3, .inl zI))]) 7 24 121 [(0, .ref q)] [.ref q22, .ref q]
  refine r_putF (J := xSt F V0 [(q, .inr (2, [.ref q1, .ref q8, .ref q12, .ref q16, .ref q20, .ref q21, .ref q22, .null, .null, .null, .int 0])), (q1, .inl (0, 6, .inl u7)), (q8, .inl (0, 3, .inl u11)), (q12, .inl (0, 3, .inl u15)), (q16, .inl (0, 3, .inl u19)), (q20, .inl (1, 3, .inr (.inl zJ))), (q21, .inl (1, 3, .inr (.inl zJ))), (q22, .inl (0, 3, .inl zI))]) hC hini kX3 6 rfl q194 rfl rfl (fun _ h => h.get 0 rfl) (Nat.le_of_ble_eq_true rfl) (rfl) (rfl) dX3_init_121 (fun _ h => h.set 0 _ rfl) 124 rfl ?_
  refine r_aload_n hC 0 dX3_init_124 rfl 125 rfl ?_
  refine r_iconst hC 3 dX3_init_125 ic_3 126 rfl ?_
  refine r_newa (J := fun q23 => xSt F V0 [(q, .inr (2, [.ref q1, .ref q8, .ref q12, .ref q16, .ref q20, .ref q21, .ref q22, .null, .null, .null, .int 0])), (q1, .inl (0, 6, .inl u7)), (q8, .inl (0, 3, .inl u11)), (q12, .inl (0, 3, .inl u15)), (q16, .inl (0, 3, .inl u19)), (q20, .inl (1, 3, .inr (.inl zJ))), (q21, .inl (1, 3, .inr (.inl zJ))), (q22, .inl (0, 3, .inl zI)), (q23, .inl (0, 3, .inl zI))]) hC .int 0 3 (3, .inl (zI)) rfl q225 rfl rfl naz_int rfl (Nat.le_of_ble_eq_true rfl) (Nat.le_of_ble_eq_true rfl) (Nat.le_of_ble_eq_true rfl) dX3_init_126 (fun _ h => h.push _) 128 rfl (fun q23 => ?_)
  show rn C (xSt F V0 [(q, .inr (2, [.ref q1, .ref q8, .ref q12, .ref q16, .ref q20, .ref q21, .ref q22, .null, .null, .null, .int 0])), (q1, .inl (0, 6, .inl u7)), (q8, .inl (0, 3, .inl u11)), (q12, .inl (0, 3, .inl u15)), (q16, .inl (0, 3, .inl u19)), (q20, .inl (1, 3, .inr (.inl zJ))), (q21, .inl (1, 3, .inr (.inl zJ))), (q22, .inl (0, 3, .inl zI)), (q23, .inl (0, 3, .inl zI))]) 8 27 128 [(0, .ref q)] [.ref q23, .ref q]
  refine r_putF (J := xSt F V0 [(q, .inr (2, [.ref q1, .ref q8, .ref q12, .ref q16, .ref q20, .ref q21, .ref q22, .ref q23, .null, .null, .int 0])), (q1, .inl (0, 6, .inl u7)), (q8, .inl (0, 3, .inl u11)), (q12, .inl (0, 3, .inl u15)), (q16, .inl (0, 3, .inl u19)), (q20, .inl (1, 3, .inr (.inl zJ))), (q21, .inl (1, 3, .inr (.inl zJ))), (q22, .inl (0, 3, .inl zI)), (q23, .inl (0, 3, .inl zI))]) hC hini kX3 7 rfl q195 rfl rfl (fun _ h => h.get 0 rfl) (Nat.le_of_ble_eq_true rfl) (rfl) (rfl) dX3_init_128 (fun _ h => h.set 0 _ rfl) 131 rfl ?_
  refine r_aload_n hC 0 dX3_init_131 rfl 132 rfl ?_
  refine r_iconst hC 3 dX3_init_132 ic_3 133 rfl ?_
  refine r_newa (J := fun q24 => xSt F V0 [(q, .inr (2, [.ref q1, .ref q8, .ref q12, .ref q16, .ref q20, .ref q21, .ref q22, .ref q23, .null, .null, .int 0])), (q1, .inl (0, 6, .inl u7)), (q8, .inl (0, 3, .inl u11)), (q12, .inl (0, 3, .inl u15)), (q16, .inl (0, 3, .inl u19)), (q20, .inl (1, 3, .inr (.inl zJ))), (q21, .inl (1, 3, .inr (.inl zJ))), (q22, .inl (0, 3, .inl zI)), (q23, .inl (0, 3, .inl zI)), (q24, .inl (1, 3, .inr (.inl zJ)))]) hC .long 1 3 (3, .inr (.inl (zJ))) rfl q226 rfl rfl naz_long rfl (Nat.le_of_ble_eq_true rfl) (Nat.le_of_ble_eq_true rfl) (Nat.le_of_ble_eq_true rfl) dX3_init_133 (fun _ h => h.push _) 135 rfl (fun q24 => ?_)
  show rn C (xSt F V0 [(q, .inr (2, [.ref q1, .ref q8, .ref q12, .ref q16, .ref q20, .ref q21, .ref q22, .ref q23, .null, .null, .int 0])), (q1, .inl (0, 6, .inl u7)), (q8, .inl (0, 3, .inl u11)), (q12, .inl (0, 3, .inl u15)), (q16, .inl (0, 3, .inl u19)), (q20, .inl (1, 3, .inr (.inl zJ))), (q21, .inl (1, 3, .inr (.inl zJ))), (q22, .inl (0, 3, .inl zI)), (q23, .inl (0, 3, .inl zI)), (q24, .inl (1, 3, .inr (.inl zJ)))]) 9 30 135 [(0, .ref q)] [.ref q24, .ref q]
  refine r_putF (J := xSt F V0 [(q, .inr (2, [.ref q1, .ref q8, .ref q12, .ref q16, .ref q20, .ref q21, .ref q22, .ref q23, .ref q24, .null, .int 0])), (q1, .inl (0, 6, .inl u7)), (q8, .inl (0, 3, .inl u11)), (q12, .inl (0, 3, .inl u15)), (q16, .inl (0, 3, .inl u19)), (q20, .inl (1, 3, .inr (.inl zJ))), (q21, .inl (1, 3, .inr (.inl zJ))), (q22, .inl (0, 3, .inl zI)), (q23, .inl (0, 3, .inl zI)), (q24, .inl (1, 3, .inr (.inl zJ)))]) hC hini kX3 8 rfl q196 rfl rfl (fun _ h => h.get 0 rfl) (Nat.le_of_ble_eq_true rfl) (rfl) (rfl) dX3_init_135 (fun _ h => h.set 0 _ rfl) 138 rfl ?_
  refine r_aload_n hC 0 dX3_init_138 rfl 139 rfl ?_
  refine r_iconst hC 3 dX3_init_139 ic_3 140 rfl ?_
  refine r_newa (J := fun q25 => xSt F V0 [(q, .inr (2, [.ref q1, .ref q8, .ref q12, .ref q16, .ref q20, .ref q21, .ref q22, .ref q23, .ref q24, .null, .int 0])), (q1, .inl (0, 6, .inl u7)), (q8, .inl (0, 3, .inl u11)), (q12, .inl (0, 3, .inl u15)), (q16, .inl (0, 3, .inl u19)), (q20, .inl (1, 3, .inr (.inl zJ))), (q21, .inl (1, 3, .inr (.inl zJ))), (q22, .inl (0, 3, .inl zI)), (q23, .inl (0, 3, .inl zI)), (q24, .inl (1, 3, .inr (.inl zJ))), (q25, .inl (1, 3, .inr (.inl zJ)))]) hC .long 1 3 (3, .inr (.inl (zJ))) rfl q226 rfl rfl naz_long rfl (Nat.le_of_ble_eq_true rfl) (Nat.le_of_ble_eq_true rfl) (Nat.le_of_ble_eq_true rfl) dX3_init_140 (fun _ h => h.push _) 142 rfl (fun q25 => ?_)
  show rn C (xSt F V0 [(q, .inr (2, [.ref q1, .ref q8, .ref q12, .ref q16, .ref q20, .ref q21, .ref q22, .ref q23, .ref q24, .null, .int 0])), (q1, .inl (0, 6, .inl u7)), (q8, .inl (0, 3, .inl u11)), (q12, .inl (0, 3, .inl u15)), (q16, .inl (0, 3, .inl u19)), (q20, .inl (1, 3, .inr (.inl zJ))), (q21, .inl (1, 3, .inr (.inl zJ))), (q22, .inl (0, 3, .inl zI)), (q23, .inl (0, 3, .inl zI)), (q24, .inl (1, 3, .inr (.inl zJ))), (q25, .inl (1, 3, .inr (.inl zJ)))]) 10 33 142 [(0, .ref q)] [.ref q25, .ref q]
  refine r_putF (J := xSt F V0 [(q, .inr (2, [.ref q1, .ref q8, .ref q12, .ref q16, .ref q20, .ref q21, .ref q22, .ref q23, .ref q24, .ref q25, .int 0])), (q1, .inl (0, 6, .inl u7)), (q8, .inl (0, 3, .inl u11)), (q12, .inl (0, 3, .inl u15)), (q16, .inl (0, 3, .inl u19)), (q20, .inl (1, 3, .inr (.inl zJ))), (q21, .inl (1, 3, .inr (.inl zJ))), (q22, .inl (0, 3, .inl zI)), (q23, .inl (0, 3, .inl zI)), (q24, .inl (1, 3, .inr (.inl zJ))), (q25, .inl (1, 3, .inr (.inl zJ)))]) hC hini kX3 9 rfl q197 rfl rfl (fun _ h => h.get 0 rfl) (Nat.le_of_ble_eq_true rfl) (rfl) (rfl) dX3_init_142 (fun _ h => h.set 0 _ rfl) 145 rfl ?_
  subst hu19
  subst hu18
  subst hu17
  subst hu15
  subst hu14
  subst hu13
  subst hu11
  subst hu10
  subst hu9
  subst hu7
  subst hu6
  subst hu5
  subst hu4
  subst hu3
  subst hu2
  obtain ⟨o, ho⟩ : ∃ o : Nat → Nat, o = bL [q, q1, q8, q12, q16, q20, q21, q22, q23, q24, q25] := ⟨_, rfl⟩
  refine rn.mono (J := xSt F V0 [(o 0, .inr (2, [.ref (o 1), .ref (o 2), .ref (o 3), .ref (o 4), .ref (o 5), .ref (o 6), .ref (o 7), .ref (o 8), .ref (o 9), .ref (o 10), .int 0])), (o 1, .inl (0, 6, .inl (va_up (va_up (va_up (va_up (va_up (va_up zI 0 1000) 1 10) 2 1) 3 0) 4 100) 5 1000))), (o 2, .inl (0, 3, .inl (va_up (va_up (va_up zI 0 1) 1 1) 2 1))), (o 3, .inl (0, 3, .inl (va_up (va_up (va_up zI 0 0) 1 1000) 2 0))), (o 4, .inl (0, 3, .inl (va_up (va_up (va_up zI 0 0) 1 0) 2 1000))), (o 5, .inl (1, 3, .inr (.inl zJ))), (o 6, .inl (1, 3, .inr (.inl zJ))), (o 7, .inl (0, 3, .inl zI)), (o 8, .inl (0, 3, .inl zI)), (o 9, .inl (1, 3, .inr (.inl zJ))), (o 10, .inl (1, 3, .inr (.inl zJ)))]) (fun V9 h => by rw [ho]; exact h) ?_
  have e0 : q = o 0 := by rw [ho]; rfl
  subst e0
  refine rn.sub (lv' := []) [] rfl ?_
  refine rn_cellI (J := xSt F V0 [(o 0, .inr (2, [.ref (o 1), .ref (o 2), .ref (o 3), .ref (o 4), .ref (o 5), .ref (o 6), .ref (o 7), .ref (o 8), .ref (o 9), .ref (o 10), .int 0])), (o 1, .inl (0, 6, .inl (seF told0 rowC))), (o 2, .inl (0, 3, .inl (va_up (va_up (va_up zI 0 1) 1 1) 2 1))), (o 3, .inl (0, 3, .inl (va_up (va_up (va_up zI 0 0) 1 1000) 2 0))), (o 4, .inl (0, 3, .inl (va_up (va_up (va_up zI 0 0) 1 0) 2 1000))), (o 5, .inl (1, 3, .inr (.inl zJ))), (o 6, .inl (1, 3, .inr (.inl zJ))), (o 7, .inl (0, 3, .inl zI)), (o 8, .inl (0, 3, .inl zI)), (o 9, .inl (1, 3, .inr (.inl zJ))), (o 10, .inl (1, 3, .inr (.inl zJ)))]) (fun _ h => h.get 1 rfl) (fun j9 hj9 => by
      rcases (show j9 = 0 ∨ j9 = 1 ∨ j9 = 2 ∨ j9 = 3 ∨ j9 = 4 ∨ j9 = 5 by omega) with rfl | rfl | rfl | rfl | rfl | rfl <;> decide) (fun _ h => h.set 1 _ rfl) ?_
  refine rn_cellI (J := xSt F V0 [(o 0, .inr (2, [.ref (o 1), .ref (o 2), .ref (o 3), .ref (o 4), .ref (o 5), .ref (o 6), .ref (o 7), .ref (o 8), .ref (o 9), .ref (o 10), .int 0])), (o 1, .inl (0, 6, .inl (seF told0 rowC))), (o 2, .inl (0, 3, .inl (maF rowC))), (o 3, .inl (0, 3, .inl (va_up (va_up (va_up zI 0 0) 1 1000) 2 0))), (o 4, .inl (0, 3, .inl (va_up (va_up (va_up zI 0 0) 1 0) 2 1000))), (o 5, .inl (1, 3, .inr (.inl zJ))), (o 6, .inl (1, 3, .inr (.inl zJ))), (o 7, .inl (0, 3, .inl zI)), (o 8, .inl (0, 3, .inl zI)), (o 9, .inl (1, 3, .inr (.inl zJ))), (o 10, .inl (1, 3, .inr (.inl zJ)))]) (fun _ h => h.get 2 rfl) (fun j9 hj9 => by
      rcases (show j9 = 0 ∨ j9 = 1 ∨ j9 = 2 by omega) with rfl | rfl | rfl <;> decide) (fun _ h => h.set 2 _ rfl) ?_
  refine rn_cellI (J := xSt F V0 [(o 0, .inr (2, [.ref (o 1), .ref (o 2), .ref (o 3), .ref (o 4), .ref (o 5), .ref (o 6), .ref (o 7), .ref (o 8), .ref (o 9), .ref (o 10), .int 0])), (o 1, .inl (0, 6, .inl (seF told0 rowC))), (o 2, .inl (0, 3, .inl (maF rowC))), (o 3, .inl (0, 3, .inl (plX rowC))), (o 4, .inl (0, 3, .inl (va_up (va_up (va_up zI 0 0) 1 0) 2 1000))), (o 5, .inl (1, 3, .inr (.inl zJ))), (o 6, .inl (1, 3, .inr (.inl zJ))), (o 7, .inl (0, 3, .inl zI)), (o 8, .inl (0, 3, .inl zI)), (o 9, .inl (1, 3, .inr (.inl zJ))), (o 10, .inl (1, 3, .inr (.inl zJ)))]) (fun _ h => h.get 3 rfl) (fun j9 hj9 => by
      rcases (show j9 = 0 ∨ j9 = 1 ∨ j9 = 2 by omega) with rfl | rfl | rfl <;> decide) (fun _ h => h.set 3 _ rfl) ?_
  refine rn_cellI (J := xSt F V0 [(o 0, .inr (2, [.ref (o 1), .ref (o 2), .ref (o 3), .ref (o 4), .ref (o 5), .ref (o 6), .ref (o 7), .ref (o 8), .ref (o 9), .ref (o 10), .int 0])), (o 1, .inl (0, 6, .inl (seF told0 rowC))), (o 2, .inl (0, 3, .inl (maF rowC))), (o 3, .inl (0, 3, .inl (plX rowC))), (o 4, .inl (0, 3, .inl (plY rowC))), (o 5, .inl (1, 3, .inr (.inl zJ))), (o 6, .inl (1, 3, .inr (.inl zJ))), (o 7, .inl (0, 3, .inl zI)), (o 8, .inl (0, 3, .inl zI)), (o 9, .inl (1, 3, .inr (.inl zJ))), (o 10, .inl (1, 3, .inr (.inl zJ)))]) (fun _ h => h.get 4 rfl) (fun j9 hj9 => by
      rcases (show j9 = 0 ∨ j9 = 1 ∨ j9 = 2 by omega) with rfl | rfl | rfl <;> decide) (fun _ h => h.set 4 _ rfl) ?_
  refine rn_cellJ (J := xSt F V0 [(o 0, .inr (2, [.ref (o 1), .ref (o 2), .ref (o 3), .ref (o 4), .ref (o 5), .ref (o 6), .ref (o 7), .ref (o 8), .ref (o 9), .ref (o 10), .int 0])), (o 1, .inl (0, 6, .inl (seF told0 rowC))), (o 2, .inl (0, 3, .inl (maF rowC))), (o 3, .inl (0, 3, .inl (plX rowC))), (o 4, .inl (0, 3, .inl (plY rowC))), (o 5, .inl (1, 3, .inr (.inl (moX rowC)))), (o 6, .inl (1, 3, .inr (.inl zJ))), (o 7, .inl (0, 3, .inl zI)), (o 8, .inl (0, 3, .inl zI)), (o 9, .inl (1, 3, .inr (.inl zJ))), (o 10, .inl (1, 3, .inr (.inl zJ)))]) (fun _ h => h.get 5 rfl) (fun j9 hj9 => by
      rcases (show j9 = 0 ∨ j9 = 1 ∨ j9 = 2 by omega) with rfl | rfl | rfl <;> decide) (fun _ h => h.set 5 _ rfl) ?_
  refine rn_cellJ (J := xSt F V0 [(o 0, .inr (2, [.ref (o 1), .ref (o 2), .ref (o 3), .ref (o 4), .ref (o 5), .ref (o 6), .ref (o 7), .ref (o 8), .ref (o 9), .ref (o 10), .int 0])), (o 1, .inl (0, 6, .inl (seF told0 rowC))), (o 2, .inl (0, 3, .inl (maF rowC))), (o 3, .inl (0, 3, .inl (plX rowC))), (o 4, .inl (0, 3, .inl (plY rowC))), (o 5, .inl (1, 3, .inr (.inl (moX rowC)))), (o 6, .inl (1, 3, .inr (.inl (moY rowC)))), (o 7, .inl (0, 3, .inl zI)), (o 8, .inl (0, 3, .inl zI)), (o 9, .inl (1, 3, .inr (.inl zJ))), (o 10, .inl (1, 3, .inr (.inl zJ)))]) (fun _ h => h.get 6 rfl) (fun j9 hj9 => by
      rcases (show j9 = 0 ∨ j9 = 1 ∨ j9 = 2 by omega) with rfl | rfl | rfl <;> decide) (fun _ h => h.set 6 _ rfl) ?_
  exact r_vret hC (Nat.le_of_ble_eq_true rfl) (Nat.le_of_ble_eq_true rfl) (fun V9 h => hQ _ _ ⟨[(o 0, .inr (2, [.ref (o 1), .ref (o 2), .ref (o 3), .ref (o 4), .ref (o 5), .ref (o 6), .ref (o 7), .ref (o 8), .ref (o 9), .ref (o 10), .int 0])), (o 1, .inl (0, 6, .inl (seF told0 rowC))), (o 2, .inl (0, 3, .inl (maF rowC))), (o 3, .inl (0, 3, .inl (plX rowC))), (o 4, .inl (0, 3, .inl (plY rowC))), (o 5, .inl (1, 3, .inr (.inl (moX rowC)))), (o 6, .inl (1, 3, .inr (.inl (moY rowC)))), (o 7, .inl (0, 3, .inl zI)), (o 8, .inl (0, 3, .inl zI)), (o 9, .inl (1, 3, .inr (.inl zJ))), (o 10, .inl (1, 3, .inr (.inl zJ)))], ⟨o, rfl, rfl, rfl⟩, by rw [← hV0, ← hF]; exact h.sub [0, 1, 2, 3, 4, 5, 6, 7, 8, 9, 10] rfl rfl⟩) dX3_init_145
