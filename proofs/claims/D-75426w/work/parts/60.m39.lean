/-! ===== defaults; the reference's constructor ===== -/
set_option maxRecDepth 100000
theorem na_int {N : Nat} : ∀ cA : ClassId, vp_cell cA (N, .inl (fun _ => 0)) = arrV cA N (fun _ => defaultValue .int) := fun _ => rfl
theorem na_long {N : Nat} : ∀ cA : ClassId, vp_cell cA (N, .inr (.inl (fun _ => 0))) = arrV cA N (fun _ => defaultValue .long) := fun _ => rfl
theorem na_byte {N : Nat} : ∀ cA : ClassId, vp_cell cA (N, .inl (fun _ => 0)) = arrV cA N (fun _ => defaultValue .byte) := fun _ => rfl
theorem dfX1 : ∀ j, j < 12 → defaultValue (tyX1 j) = vp_V [.null, .int 0, .int 0, .null, .null, .null, .null, .null, .null, .null, .null, .null] j := fun j hj => match j, hj with
  | 0, _ => rfl
  | 1, _ => rfl
  | 2, _ => rfl
  | 3, _ => rfl
  | 4, _ => rfl
  | 5, _ => rfl
  | 6, _ => rfl
  | 7, _ => rfl
  | 8, _ => rfl
  | 9, _ => rfl
  | 10, _ => rfl
  | 11, _ => rfl
  | m + 12, h => absurd h (by omega)
theorem dfX2 : ∀ j, j < 8 → defaultValue (tyX2 j) = vp_V [.null, .null, .null, .null, .int 0, .int 0, .long 0, .long 0] j := fun j hj => match j, hj with
  | 0, _ => rfl
  | 1, _ => rfl
  | 2, _ => rfl
  | 3, _ => rfl
  | 4, _ => rfl
  | 5, _ => rfl
  | 6, _ => rfl
  | 7, _ => rfl
  | m + 8, h => absurd h (by omega)
theorem dfX3 : ∀ j, j < 11 → defaultValue (tyX3 j) = vp_V [.null, .null, .null, .null, .null, .null, .null, .null, .null, .null, .int 0] j := fun j hj => match j, hj with
  | 0, _ => rfl
  | 1, _ => rfl
  | 2, _ => rfl
  | 3, _ => rfl
  | 4, _ => rfl
  | 5, _ => rfl
  | 6, _ => rfl
  | 7, _ => rfl
  | 8, _ => rfl
  | 9, _ => rfl
  | 10, _ => rfl
  | m + 11, h => absurd h (by omega)
theorem dfX4 : ∀ j, j < 6 → defaultValue (tyX4 j) = vp_V [.null, .null, .null, .null, .null, .int 0] j := fun j hj => match j, hj with
  | 0, _ => rfl
  | 1, _ => rfl
  | 2, _ => rfl
  | 3, _ => rfl
  | 4, _ => rfl
  | 5, _ => rfl
  | m + 6, h => absurd h (by omega)
theorem dfX5 : ∀ j, j < 2 → defaultValue (tyX5 j) = vp_V [.null, .null] j := fun j hj => match j, hj with
  | 0, _ => rfl
  | 1, _ => rfl
  | m + 2, h => absurd h (by omega)
theorem dfX7 : ∀ j, j < 3 → defaultValue (tyX7 j) = vp_V [.null, .null, .null] j := fun j hj => match j, hj with
  | 0, _ => rfl
  | 1, _ => rfl
  | 2, _ => rfl
  | m + 3, h => absurd h (by omega)
theorem dfX8 : ∀ j, j < 8 → defaultValue (tyX8 j) = vp_V [.null, .int 0, .null, .int 0, .int 0, .int 0, .int 0, .null] j := fun j hj => match j, hj with
  | 0, _ => rfl
  | 1, _ => rfl
  | 2, _ => rfl
  | 3, _ => rfl
  | 4, _ => rfl
  | 5, _ => rfl
  | 6, _ => rfl
  | 7, _ => rfl
  | m + 8, h => absurd h (by omega)
theorem dfX10 : ∀ j, j < 7 → defaultValue (tyX10 j) = vp_V [.int 0, .null, .null, .null, .null, .null, .int 0] j := fun j hj => match j, hj with
  | 0, _ => rfl
  | 1, _ => rfl
  | 2, _ => rfl
  | 3, _ => rfl
  | 4, _ => rfl
  | 5, _ => rfl
  | 6, _ => rfl
  | m + 7, h => absurd h (by omega)
theorem dfX11 : ∀ j, j < 7 → defaultValue (tyX11 j) = vp_V [.int 0, .null, .null, .null, .null, .null, .int 0] j := fun j hj => match j, hj with
  | 0, _ => rfl
  | 1, _ => rfl
  | 2, _ => rfl
  | 3, _ => rfl
  | 4, _ => rfl
  | 5, _ => rfl
  | 6, _ => rfl
  | m + 7, h => absurd h (by omega)
theorem dfX12 : ∀ j, j < 7 → defaultValue (tyX12 j) = vp_V [.int 0, .null, .null, .null, .null, .null, .int 0] j := fun j hj => match j, hj with
  | 0, _ => rfl
  | 1, _ => rfl
  | 2, _ => rfl
  | 3, _ => rfl
  | 4, _ => rfl
  | 5, _ => rfl
  | 6, _ => rfl
  | m + 7, h => absurd h (by omega)
theorem dfX13 : ∀ j, j < 6 → defaultValue (tyX13 j) = vp_V [.null, .null, .null, .null, .null, .int 0] j := fun j hj => match j, hj with
  | 0, _ => rfl
  | 1, _ => rfl
  | 2, _ => rfl
  | 3, _ => rfl
  | 4, _ => rfl
  | 5, _ => rfl
  | m + 6, h => absurd h (by omega)
theorem dfX14 : ∀ j, j < 3 → defaultValue (tyX14 j) = vp_V [.int 0, .int 0, .int 0] j := fun j hj => match j, hj with
  | 0, _ => rfl
  | 1, _ => rfl
  | 2, _ => rfl
  | m + 3, h => absurd h (by omega)
theorem dfX15 : ∀ j, j < 3 → defaultValue (tyX15 j) = vp_V [.int 0, .int 0, .null] j := fun j hj => match j, hj with
  | 0, _ => rfl
  | 1, _ => rfl
  | 2, _ => rfl
  | m + 3, h => absurd h (by omega)
theorem dfX16 : ∀ j, j < 2 → defaultValue (tyX16 j) = vp_V [.int 0, .int 0] j := fun j hj => match j, hj with
  | 0, _ => rfl
  | 1, _ => rfl
  | m + 2, h => absurd h (by omega)
theorem dfX17 : ∀ j, j < 1 → defaultValue (tyX17 j) = vp_V [.int 0] j := fun j hj => match j, hj with
  | 0, _ => rfl
  | m + 1, h => absurd h (by omega)
theorem dfX18 : ∀ j, j < 3 → defaultValue (tyX18 j) = vp_V [.null, .int 0, .int 0] j := fun j hj => match j, hj with
  | 0, _ => rfl
  | 1, _ => rfl
  | 2, _ => rfl
  | m + 3, h => absurd h (by omega)
theorem dfX19 : ∀ j, j < 3 → defaultValue (tyX19 j) = vp_V [.int 0, .null, .int 0] j := fun j hj => match j, hj with
  | 0, _ => rfl
  | 1, _ => rfl
  | 2, _ => rfl
  | m + 3, h => absurd h (by omega)
theorem dfX20 : ∀ j, j < 7 → defaultValue (tyX20 j) = vp_V [.int 0, .null, .null, .null, .null, .null, .int 0] j := fun j hj => match j, hj with
  | 0, _ => rfl
  | 1, _ => rfl
  | 2, _ => rfl
  | 3, _ => rfl
  | 4, _ => rfl
  | 5, _ => rfl
  | 6, _ => rfl
  | m + 7, h => absurd h (by omega)
theorem dfJ1 : ∀ j, j < 3 → defaultValue (tyJ1 j) = vp_V [.null, .int 0, .int 0] j := fun j hj => match j, hj with
  | 0, _ => rfl
  | 1, _ => rfl
  | 2, _ => rfl
  | m + 3, h => absurd h (by omega)
theorem dfJ6 : ∀ j, j < 4 → defaultValue (tyJ6 j) = vp_V [.null, .int 0, .int 0, .int 0] j := fun j hj => match j, hj with
  | 0, _ => rfl
  | 1, _ => rfl
  | 2, _ => rfl
  | 3, _ => rfl
  | m + 4, h => absurd h (by omega)
theorem dfJ7 : ∀ j, j < 4 → defaultValue (tyJ7 j) = vp_V [.null, .int 0, .int 0, .int 0] j := fun j hj => match j, hj with
  | 0, _ => rfl
  | 1, _ => rfl
  | 2, _ => rfl
  | 3, _ => rfl
  | m + 4, h => absurd h (by omega)
theorem dfJ10 : ∀ j, j < 6 → defaultValue (tyJ10 j) = vp_V [.null, .null, .null, .null, .null, .int 0] j := fun j hj => match j, hj with
  | 0, _ => rfl
  | 1, _ => rfl
  | 2, _ => rfl
  | 3, _ => rfl
  | 4, _ => rfl
  | 5, _ => rfl
  | m + 6, h => absurd h (by omega)
theorem dfJ17 : ∀ j, j < 6 → defaultValue (tyJ17 j) = vp_V [.null, .null, .null, .null, .null, .int 0] j := fun j hj => match j, hj with
  | 0, _ => rfl
  | 1, _ => rfl
  | 2, _ => rfl
  | 3, _ => rfl
  | 4, _ => rfl
  | 5, _ => rfl
  | m + 6, h => absurd h (by omega)
theorem dfJ18 : ∀ j, j < 4 → defaultValue (tyJ18 j) = vp_V [.int 0, .int 0, .int 0, .null] j := fun j hj => match j, hj with
  | 0, _ => rfl
  | 1, _ => rfl
  | 2, _ => rfl
  | 3, _ => rfl
  | m + 4, h => absurd h (by omega)
theorem dfJ21 : ∀ j, j < 12 → defaultValue (tyJ21 j) = vp_V [.null, .null, .int 0, .int 0, .int 0, .float 0, .null, .null, .null, .null, .int 0, .int 0] j := fun j hj => match j, hj with
  | 0, _ => rfl
  | 1, _ => rfl
  | 2, _ => rfl
  | 3, _ => rfl
  | 4, _ => rfl
  | 5, _ => rfl
  | 6, _ => rfl
  | 7, _ => rfl
  | 8, _ => rfl
  | 9, _ => rfl
  | 10, _ => rfl
  | 11, _ => rfl
  | m + 12, h => absurd h (by omega)
theorem dfJ25 : ∀ j, j < 6 → defaultValue (tyJ25 j) = vp_V [.int 0, .null, .null, .null, .null, .null] j := fun j hj => match j, hj with
  | 0, _ => rfl
  | 1, _ => rfl
  | 2, _ => rfl
  | 3, _ => rfl
  | 4, _ => rfl
  | 5, _ => rfl
  | m + 6, h => absurd h (by omega)
theorem dfJ26 : ∀ j, j < 11 → defaultValue (tyJ26 j) = vp_V [.int 0, .null, .null, .null, .null, .null, .null, .null, .null, .null, .int 0] j := fun j hj => match j, hj with
  | 0, _ => rfl
  | 1, _ => rfl
  | 2, _ => rfl
  | 3, _ => rfl
  | 4, _ => rfl
  | 5, _ => rfl
  | 6, _ => rfl
  | 7, _ => rfl
  | 8, _ => rfl
  | 9, _ => rfl
  | 10, _ => rfl
  | m + 11, h => absurd h (by omega)
theorem dfJ28 : ∀ j, j < 2 → defaultValue (tyJ28 j) = vp_V [.int 0, .null] j := fun j hj => match j, hj with
  | 0, _ => rfl
  | 1, _ => rfl
  | m + 2, h => absurd h (by omega)
theorem dfJ30 : ∀ j, j < 5 → defaultValue (tyJ30 j) = vp_V [.null, .null, .int 0, .int 0, .null] j := fun j hj => match j, hj with
  | 0, _ => rfl
  | 1, _ => rfl
  | 2, _ => rfl
  | 3, _ => rfl
  | 4, _ => rfl
  | m + 5, h => absurd h (by omega)
def mV (f : Nat → Value) : List Value := [f 0, f 1, f 2, f 3, f 4, f 5, f 6, f 7, f 8, f 9, f 10, f 11, f 12, f 13, f 14, f 15, f 16, f 17, f 18, f 19, f 20, f 21, f 22, f 23, f 24, f 25, f 26, f 27, f 28, f 29, f 30, f 31, f 32, f 33, f 34, f 35, f 36, f 37, f 38]
def mV0 : Nat → Value := fun k => if k = 1 then .null else if k = 2 then .null else if k = 3 then .null else if k = 4 then .null else if k = 5 then .null else if k = 6 then .null else if k = 7 then .null else if k = 8 then .null else if k = 12 then .null else if k = 13 then .null else if k = 19 then .long 0 else if k = 20 then .long 0 else if k = 23 then .null else if k = 24 then .null else if k = 25 then .null else if k = 26 then .long 0 else if k = 27 then .null else if k = 28 then .null else if k = 29 then .null else if k = 31 then .null else if k = 33 then .null else if k = 34 then .null else if k = 35 then .null else .int 0
theorem dvX6 : ∀ j, j < 39 → defaultValue (tyX6 j) = vp_V (mV mV0) j := fun j hj => match j, hj with
  | 0, _ => rfl
  | 1, _ => rfl
  | 2, _ => rfl
  | 3, _ => rfl
  | 4, _ => rfl
  | 5, _ => rfl
  | 6, _ => rfl
  | 7, _ => rfl
  | 8, _ => rfl
  | 9, _ => rfl
  | 10, _ => rfl
  | 11, _ => rfl
  | 12, _ => rfl
  | 13, _ => rfl
  | 14, _ => rfl
  | 15, _ => rfl
  | 16, _ => rfl
  | 17, _ => rfl
  | 18, _ => rfl
  | 19, _ => rfl
  | 20, _ => rfl
  | 21, _ => rfl
  | 22, _ => rfl
  | 23, _ => rfl
  | 24, _ => rfl
  | 25, _ => rfl
  | 26, _ => rfl
  | 27, _ => rfl
  | 28, _ => rfl
  | 29, _ => rfl
  | 30, _ => rfl
  | 31, _ => rfl
  | 32, _ => rfl
  | 33, _ => rfl
  | 34, _ => rfl
  | 35, _ => rfl
  | 36, _ => rfl
  | 37, _ => rfl
  | 38, _ => rfl
  | m + 39, h => absurd h (by omega)
/-- the addresses of the reference's cells -/
def bL (L : List Nat) : Nat → Nat := fun k => L.getD k 0
def rowC : Nat → Int64 := va_up (va_up (va_up (va_up (va_up z0 6 1) 11 1) 16 1) 12 1000) 18 1000
theorem mOK_C : mOK rowC := by unfold mOK rowC; decide
set_option maxHeartbeats 4000000 in
set_option maxRecDepth 100000 in
theorem metX6_init (l : Launch) (G : xG) (hG : xGood G) (a : Nat) : xWm l G yX6_init (Cond.code yX6_init cX6_init 2 none) { frames := 7, locals := 161, cells := 20, slots := 5697 } [.ref a] [(a, .inr (5, mV mV0))] (fun v w' => ∃ b : Nat → Nat, b 0 = a ∧ v = none ∧ w' = [(b 0, .inr (5, mF b (va_up (va_up (va_up (va_up (fun _ => 0) 22 (-1)) 10 0) 9 0) 11 0) (fun _ => 0))), (b 1, .inl (1, 111, .inr (.inl (begR told0 rowC)))), (b 2, .inl (1, 111, .inr (.inl (fun _ => 0)))), (b 3, .inl (1, 111, .inr (.inl rowC))), (b 4, .inl (1, 111, .inr (.inl (fun _ => 0)))), (b 5, .inl (1, 111, .inr (.inl (fun _ => 0)))), (b 6, .inl (1, 1110, .inr (.inl (fun _ => 0)))), (b 7, .inl (1, 5, .inr (.inl told0))), (b 8, .inl (1, 5, .inr (.inl told0))), (b 12, .inl (1, 6, .inr (.inl (fun _ => 0)))), (b 13, .inl (0, 600, .inl (fun _ => 0))), (b 23, .inl (1, 6, .inr (.inl (fun _ => 0)))), (b 24, .inl (1, 21, .inr (.inl (fun _ => 0)))), (b 25, .inl (1, 1806, .inr (.inl (fun _ => 0)))), (b 27, .inl (1, 301, .inr (.inl (fun _ => 0)))), (b 28, .inl (1, 301, .inr (.inl (fun _ => 0)))), (b 29, .inl (0, 301, .inl (fun _ => 0))), (b 31, .inl (2, 80, .inl (fun _ => 0))), (b 33, .inl (0, 200, .inl (fun _ => 0))), (b 34, .inl (0, 200, .inl (fun _ => 0))), (b 35, .inl (0, 200, .inl (fun _ => 0)))]) (fun _ _ => False) := by
  intro V hV
  refine xMet_of RX6 hG rfl (by decide) (Nat.le_of_ble_eq_true rfl) fun C hC hQ hX hl hg hini => ?_
  subst hl hg
  replace hini := hini rfl
  obtain ⟨V0, hV0⟩ : ∃ V0, V0 = V := ⟨_, rfl⟩
  obtain ⟨F, hF⟩ : ∃ F, F = xF [(a, .inr (5, mV mV0))] := ⟨_, rfl⟩
  refine rn.mono (J := xSt F V0 [(a, .inr (5, mV mV0))]) (fun V9 h => by rw [h, hV0, hF]; exact hV.st) ?_
  show rn C (xSt F V0 [(a, .inr (5, mV mV0))]) 0 0 0 [(0, .ref a)] []
  refine r_aload_n hC 0 dX6_init_0 rfl 1 rfl ?_
  refine r_objInit hC q2703 (Nat.le_of_ble_eq_true rfl) (Nat.le_of_ble_eq_true rfl) (Nat.le_of_ble_eq_true rfl) dX6_init_1 4 rfl ?_
  refine r_aload_n hC 0 dX6_init_4 rfl 5 rfl ?_
  refine r_bipush hC 111 dX6_init_5 bp_111 7 rfl ?_
  refine r_newa (J := fun q1 => xSt F V0 [(a, .inr (5, mV mV0)), (q1, .inl (1, 111, .inr (.inl (fun _ => 0))))]) hC .long 1 111 (111, .inr (.inl (fun _ => 0))) rfl q226 rfl rfl na_long rfl (Nat.le_of_ble_eq_true rfl) (Nat.le_of_ble_eq_true rfl) (Nat.le_of_ble_eq_true rfl) dX6_init_7 (fun _ h => h.push _) 9 rfl (fun q1 => ?_)
  show rn C (xSt F V0 [(a, .inr (5, mV mV0)), (q1, .inl (1, 111, .inr (.inl (fun _ => 0))))]) 1 111 9 [(0, .ref a)] [.ref q1, .ref a]
  refine r_putF (J := xSt F V0 [(a, .inr (5, mV (va_up mV0 1 (.ref q1)))), (q1, .inl (1, 111, .inr (.inl (fun _ => 0))))]) hC hini kX6 1 rfl q2754 rfl rfl (fun _ h => h.get 0 rfl) (Nat.le_of_ble_eq_true rfl) rfl rfl dX6_init_9 (fun _ h => h.set 0 _ rfl) 12 rfl ?_
  refine r_aload_n hC 0 dX6_init_12 rfl 13 rfl ?_
  refine r_bipush hC 111 dX6_init_13 bp_111 15 rfl ?_
  refine r_newa (J := fun q2 => xSt F V0 [(a, .inr (5, mV (va_up mV0 1 (.ref q1)))), (q1, .inl (1, 111, .inr (.inl (fun _ => 0)))), (q2, .inl (1, 111, .inr (.inl (fun _ => 0))))]) hC .long 1 111 (111, .inr (.inl (fun _ => 0))) rfl q226 rfl rfl na_long rfl (Nat.le_of_ble_eq_true rfl) (Nat.le_of_ble_eq_true rfl) (Nat.le_of_ble_eq_true rfl) dX6_init_15 (fun _ h => h.push _) 17 rfl (fun q2 => ?_)
  show rn C (xSt F V0 [(a, .inr (5, mV (va_up mV0 1 (.ref q1)))), (q1, .inl (1, 111, .inr (.inl (fun _ => 0)))), (q2, .inl (1, 111, .inr (.inl (fun _ => 0))))]) 2 222 17 [(0, .ref a)] [.ref q2, .ref a]
  refine r_putF (J := xSt F V0 [(a, .inr (5, mV (va_up (va_up mV0 1 (.ref q1)) 2 (.ref q2)))), (q1, .inl (1, 111, .inr (.inl (fun _ => 0)))), (q2, .inl (1, 111, .inr (.inl (fun _ => 0))))]) hC hini kX6 2 rfl q2755 rfl rfl (fun _ h => h.get 0 rfl) (Nat.le_of_ble_eq_true rfl) rfl rfl dX6_init_17 (fun _ h => h.set 0 _ rfl) 20 rfl ?_
  refine r_aload_n hC 0 dX6_init_20 rfl 21 rfl ?_
  refine r_bipush hC 111 dX6_init_21 bp_111 23 rfl ?_
  refine r_newa (J := fun q3 => xSt F V0 [(a, .inr (5, mV (va_up (va_up mV0 1 (.ref q1)) 2 (.ref q2)))), (q1, .inl (1, 111, .inr (.inl (fun _ => 0)))), (q2, .inl (1, 111, .inr (.inl (fun _ => 0)))), (q3, .inl (1, 111, .inr (.inl (fun _ => 0))))]) hC .long 1 111 (111, .inr (.inl (fun _ => 0))) rfl q226 rfl rfl na_long rfl (Nat.le_of_ble_eq_true rfl) (Nat.le_of_ble_eq_true rfl) (Nat.le_of_ble_eq_true rfl) dX6_init_23 (fun _ h => h.push _) 25 rfl (fun q3 => ?_)
  show rn C (xSt F V0 [(a, .inr (5, mV (va_up (va_up mV0 1 (.ref q1)) 2 (.ref q2)))), (q1, .inl (1, 111, .inr (.inl (fun _ => 0)))), (q2, .inl (1, 111, .inr (.inl (fun _ => 0)))), (q3, .inl (1, 111, .inr (.inl (fun _ => 0))))]) 3 333 25 [(0, .ref a)] [.ref q3, .ref a]
  refine r_putF (J := xSt F V0 [(a, .inr (5, mV (va_up (va_up (va_up mV0 1 (.ref q1)) 2 (.ref q2)) 3 (.ref q3)))), (q1, .inl (1, 111, .inr (.inl (fun _ => 0)))), (q2, .inl (1, 111, .inr (.inl (fun _ => 0)))), (q3, .inl (1, 111, .inr (.inl (fun _ => 0))))]) hC hini kX6 3 rfl q2756 rfl rfl (fun _ h => h.get 0 rfl) (Nat.le_of_ble_eq_true rfl) rfl rfl dX6_init_25 (fun _ h => h.set 0 _ rfl) 28 rfl ?_
  refine r_aload_n hC 0 dX6_init_28 rfl 29 rfl ?_
  refine r_bipush hC 111 dX6_init_29 bp_111 31 rfl ?_
  refine r_newa (J := fun q4 => xSt F V0 [(a, .inr (5, mV (va_up (va_up (va_up mV0 1 (.ref q1)) 2 (.ref q2)) 3 (.ref q3)))), (q1, .inl (1, 111, .inr (.inl (fun _ => 0)))), (q2, .inl (1, 111, .inr (.inl (fun _ => 0)))), (q3, .inl (1, 111, .inr (.inl (fun _ => 0)))), (q4, .inl (1, 111, .inr (.inl (fun _ => 0))))]) hC .long 1 111 (111, .inr (.inl (fun _ => 0))) rfl q226 rfl rfl na_long rfl (Nat.le_of_ble_eq_true rfl) (Nat.le_of_ble_eq_true rfl) (Nat.le_of_ble_eq_true rfl) dX6_init_31 (fun _ h => h.push _) 33 rfl (fun q4 => ?_)
  show rn C (xSt F V0 [(a, .inr (5, mV (va_up (va_up (va_up mV0 1 (.ref q1)) 2 (.ref q2)) 3 (.ref q3)))), (q1, .inl (1, 111, .inr (.inl (fun _ => 0)))), (q2, .inl (1, 111, .inr (.inl (fun _ => 0)))), (q3, .inl (1, 111, .inr (.inl (fun _ => 0)))), (q4, .inl (1, 111, .inr (.inl (fun _ => 0))))]) 4 444 33 [(0, .ref a)] [.ref q4, .ref a]
  refine r_putF (J := xSt F V0 [(a, .inr (5, mV (va_up (va_up (va_up (va_up mV0 1 (.ref q1)) 2 (.ref q2)) 3 (.ref q3)) 4 (.ref q4)))), (q1, .inl (1, 111, .inr (.inl (fun _ => 0)))), (q2, .inl (1, 111, .inr (.inl (fun _ => 0)))), (q3, .inl (1, 111, .inr (.inl (fun _ => 0)))), (q4, .inl (1, 111, .inr (.inl (fun _ => 0))))]) hC hini kX6 4 rfl q2757 rfl rfl (fun _ h => h.get 0 rfl) (Nat.le_of_ble_eq_true rfl) rfl rfl dX6_init_33 (fun _ h => h.set 0 _ rfl) 36 rfl ?_
  refine r_aload_n hC 0 dX6_init_36 rfl 37 rfl ?_
  refine r_bipush hC 111 dX6_init_37 bp_111 39 rfl ?_
  refine r_newa (J := fun q5 => xSt F V0 [(a, .inr (5, mV (va_up (va_up (va_up (va_up mV0 1 (.ref q1)) 2 (.ref q2)) 3 (.ref q3)) 4 (.ref q4)))), (q1, .inl (1, 111, .inr (.inl (fun _ => 0)))), (q2, .inl (1, 111, .inr (.inl (fun _ => 0)))), (q3, .inl (1, 111, .inr (.inl (fun _ => 0)))), (q4, .inl (1, 111, .inr (.inl (fun _ => 0)))), (q5, .inl (1, 111, .inr (.inl (fun _ => 0))))]) hC .long 1 111 (111, .inr (.inl (fun _ => 0))) rfl q226 rfl rfl na_long rfl (Nat.le_of_ble_eq_true rfl) (Nat.le_of_ble_eq_true rfl) (Nat.le_of_ble_eq_true rfl) dX6_init_39 (fun _ h => h.push _) 41 rfl (fun q5 => ?_)
  show rn C (xSt F V0 [(a, .inr (5, mV (va_up (va_up (va_up (va_up mV0 1 (.ref q1)) 2 (.ref q2)) 3 (.ref q3)) 4 (.ref q4)))), (q1, .inl (1, 111, .inr (.inl (fun _ => 0)))), (q2, .inl (1, 111, .inr (.inl (fun _ => 0)))), (q3, .inl (1, 111, .inr (.inl (fun _ => 0)))), (q4, .inl (1, 111, .inr (.inl (fun _ => 0)))), (q5, .inl (1, 111, .inr (.inl (fun _ => 0))))]) 5 555 41 [(0, .ref a)] [.ref q5, .ref a]
  refine r_putF (J := xSt F V0 [(a, .inr (5, mV (va_up (va_up (va_up (va_up (va_up mV0 1 (.ref q1)) 2 (.ref q2)) 3 (.ref q3)) 4 (.ref q4)) 5 (.ref q5)))), (q1, .inl (1, 111, .inr (.inl (fun _ => 0)))), (q2, .inl (1, 111, .inr (.inl (fun _ => 0)))), (q3, .inl (1, 111, .inr (.inl (fun _ => 0)))), (q4, .inl (1, 111, .inr (.inl (fun _ => 0)))), (q5, .inl (1, 111, .inr (.inl (fun _ => 0))))]) hC hini kX6 5 rfl q2758 rfl rfl (fun _ h => h.get 0 rfl) (Nat.le_of_ble_eq_true rfl) rfl rfl dX6_init_41 (fun _ h => h.set 0 _ rfl) 44 rfl ?_
  refine r_aload_n hC 0 dX6_init_44 rfl 45 rfl ?_
  refine r_sipush hC 1110 dX6_init_45 sp_1110 48 rfl ?_
  refine r_newa (J := fun q6 => xSt F V0 [(a, .inr (5, mV (va_up (va_up (va_up (va_up (va_up mV0 1 (.ref q1)) 2 (.ref q2)) 3 (.ref q3)) 4 (.ref q4)) 5 (.ref q5)))), (q1, .inl (1, 111, .inr (.inl (fun _ => 0)))), (q2, .inl (1, 111, .inr (.inl (fun _ => 0)))), (q3, .inl (1, 111, .inr (.inl (fun _ => 0)))), (q4, .inl (1, 111, .inr (.inl (fun _ => 0)))), (q5, .inl (1, 111, .inr (.inl (fun _ => 0)))), (q6, .inl (1, 1110, .inr (.inl (fun _ => 0))))]) hC .long 1 1110 (1110, .inr (.inl (fun _ => 0))) rfl q226 rfl rfl na_long rfl (Nat.le_of_ble_eq_true rfl) (Nat.le_of_ble_eq_true rfl) (Nat.le_of_ble_eq_true rfl) dX6_init_48 (fun _ h => h.push _) 50 rfl (fun q6 => ?_)
  show rn C (xSt F V0 [(a, .inr (5, mV (va_up (va_up (va_up (va_up (va_up mV0 1 (.ref q1)) 2 (.ref q2)) 3 (.ref q3)) 4 (.ref q4)) 5 (.ref q5)))), (q1, .inl (1, 111, .inr (.inl (fun _ => 0)))), (q2, .inl (1, 111, .inr (.inl (fun _ => 0)))), (q3, .inl (1, 111, .inr (.inl (fun _ => 0)))), (q4, .inl (1, 111, .inr (.inl (fun _ => 0)))), (q5, .inl (1, 111, .inr (.inl (fun _ => 0)))), (q6, .inl (1, 1110, .inr (.inl (fun _ => 0))))]) 6 1665 50 [(0, .ref a)] [.ref q6, .ref a]
  refine r_putF (J := xSt F V0 [(a, .inr (5, mV (va_up (va_up (va_up (va_up (va_up (va_up mV0 1 (.ref q1)) 2 (.ref q2)) 3 (.ref q3)) 4 (.ref q4)) 5 (.ref q5)) 6 (.ref q6)))), (q1, .inl (1, 111, .inr (.inl (fun _ => 0)))), (q2, .inl (1, 111, .inr (.inl (fun _ => 0)))), (q3, .inl (1, 111, .inr (.inl (fun _ => 0)))), (q4, .inl (1, 111, .inr (.inl (fun _ => 0)))), (q5, .inl (1, 111, .inr (.inl (fun _ => 0)))), (q6, .inl (1, 1110, .inr (.inl (fun _ => 0))))]) hC hini kX6 6 rfl q2759 rfl rfl (fun _ h => h.get 0 rfl) (Nat.le_of_ble_eq_true rfl) rfl rfl dX6_init_50 (fun _ h => h.set 0 _ rfl) 53 rfl ?_
  refine r_aload_n hC 0 dX6_init_53 rfl 54 rfl ?_
  refine r_iconst hC 5 dX6_init_54 ic_5 55 rfl ?_
  refine r_newa (J := fun q7 => xSt F V0 [(a, .inr (5, mV (va_up (va_up (va_up (va_up (va_up (va_up mV0 1 (.ref q1)) 2 (.ref q2)) 3 (.ref q3)) 4 (.ref q4)) 5 (.ref q5)) 6 (.ref q6)))), (q1, .inl (1, 111, .inr (.inl (fun _ => 0)))), (q2, .inl (1, 111, .inr (.inl (fun _ => 0)))), (q3, .inl (1, 111, .inr (.inl (fun _ => 0)))), (q4, .inl (1, 111, .inr (.inl (fun _ => 0)))), (q5, .inl (1, 111, .inr (.inl (fun _ => 0)))), (q6, .inl (1, 1110, .inr (.inl (fun _ => 0)))), (q7, .inl (1, 5, .inr (.inl (fun _ => 0))))]) hC .long 1 5 (5, .inr (.inl (fun _ => 0))) rfl q226 rfl rfl na_long rfl (Nat.le_of_ble_eq_true rfl) (Nat.le_of_ble_eq_true rfl) (Nat.le_of_ble_eq_true rfl) dX6_init_55 (fun _ h => h.push _) 57 rfl (fun q7 => ?_)
  show rn C (xSt F V0 [(a, .inr (5, mV (va_up (va_up (va_up (va_up (va_up (va_up mV0 1 (.ref q1)) 2 (.ref q2)) 3 (.ref q3)) 4 (.ref q4)) 5 (.ref q5)) 6 (.ref q6)))), (q1, .inl (1, 111, .inr (.inl (fun _ => 0)))), (q2, .inl (1, 111, .inr (.inl (fun _ => 0)))), (q3, .inl (1, 111, .inr (.inl (fun _ => 0)))), (q4, .inl (1, 111, .inr (.inl (fun _ => 0)))), (q5, .inl (1, 111, .inr (.inl (fun _ => 0)))), (q6, .inl (1, 1110, .inr (.inl (fun _ => 0)))), (q7, .inl (1, 5, .inr (.inl (fun _ => 0))))]) 7 1670 57 [(0, .ref a)] [.ref q7, .ref a]
  refine r_putF (J := xSt F V0 [(a, .inr (5, mV (va_up (va_up (va_up (va_up (va_up (va_up (va_up mV0 1 (.ref q1)) 2 (.ref q2)) 3 (.ref q3)) 4 (.ref q4)) 5 (.ref q5)) 6 (.ref q6)) 7 (.ref q7)))), (q1, .inl (1, 111, .inr (.inl (fun _ => 0)))), (q2, .inl (1, 111, .inr (.inl (fun _ => 0)))), (q3, .inl (1, 111, .inr (.inl (fun _ => 0)))), (q4, .inl (1, 111, .inr (.inl (fun _ => 0)))), (q5, .inl (1, 111, .inr (.inl (fun _ => 0)))), (q6, .inl (1, 1110, .inr (.inl (fun _ => 0)))), (q7, .inl (1, 5, .inr (.inl (fun _ => 0))))]) hC hini kX6 7 rfl q2760 rfl rfl (fun _ h => h.get 0 rfl) (Nat.le_of_ble_eq_true rfl) rfl rfl dX6_init_57 (fun _ h => h.set 0 _ rfl) 60 rfl ?_
  refine r_aload_n hC 0 dX6_init_60 rfl 61 rfl ?_
  refine r_iconst hC 5 dX6_init_61 ic_5 62 rfl ?_
  refine r_newa (J := fun q8 => xSt F V0 [(a, .inr (5, mV (va_up (va_up (va_up (va_up (va_up (va_up (va_up mV0 1 (.ref q1)) 2 (.ref q2)) 3 (.ref q3)) 4 (.ref q4)) 5 (.ref q5)) 6 (.ref q6)) 7 (.ref q7)))), (q1, .inl (1, 111, .inr (.inl (fun _ => 0)))), (q2, .inl (1, 111, .inr (.inl (fun _ => 0)))), (q3, .inl (1, 111, .inr (.inl (fun _ => 0)))), (q4, .inl (1, 111, .inr (.inl (fun _ => 0)))), (q5, .inl (1, 111, .inr (.inl (fun _ => 0)))), (q6, .inl (1, 1110, .inr (.inl (fun _ => 0)))), (q7, .inl (1, 5, .inr (.inl (fun _ => 0)))), (q8, .inl (1, 5, .inr (.inl (fun _ => 0))))]) hC .long 1 5 (5, .inr (.inl (fun _ => 0))) rfl q226 rfl rfl na_long rfl (Nat.le_of_ble_eq_true rfl) (Nat.le_of_ble_eq_true rfl) (Nat.le_of_ble_eq_true rfl) dX6_init_62 (fun _ h => h.push _) 64 rfl (fun q8 => ?_)
  show rn C (xSt F V0 [(a, .inr (5, mV (va_up (va_up (va_up (va_up (va_up (va_up (va_up mV0 1 (.ref q1)) 2 (.ref q2)) 3 (.ref q3)) 4 (.ref q4)) 5 (.ref q5)) 6 (.ref q6)) 7 (.ref q7)))), (q1, .inl (1, 111, .inr (.inl (fun _ => 0)))), (q2, .inl (1, 111, .inr (.inl (fun _ => 0)))), (q3, .inl (1, 111, .inr (.inl (fun _ => 0)))), (q4, .inl (1, 111, .inr (.inl (fun _ => 0)))), (q5, .inl (1, 111, .inr (.inl (fun _ => 0)))), (q6, .inl (1, 1110, .inr (.inl (fun _ => 0)))), (q7, .inl (1, 5, .inr (.inl (fun _ => 0)))), (q8, .inl (1, 5, .inr (.inl (fun _ => 0))))]) 8 1675 64 [(0, .ref a)] [.ref q8, .ref a]
  refine r_putF (J := xSt F V0 [(a, .inr (5, mV (va_up (va_up (va_up (va_up (va_up (va_up (va_up (va_up mV0 1 (.ref q1)) 2 (.ref q2)) 3 (.ref q3)) 4 (.ref q4)) 5 (.ref q5)) 6 (.ref q6)) 7 (.ref q7)) 8 (.ref q8)))), (q1, .inl (1, 111, .inr (.inl (fun _ => 0)))), (q2, .inl (1, 111, .inr (.inl (fun _ => 0)))), (q3, .inl (1, 111, .inr (.inl (fun _ => 0)))), (q4, .inl (1, 111, .inr (.inl (fun _ => 0)))), (q5, .inl (1, 111, .inr (.inl (fun _ => 0)))), (q6, .inl (1, 1110, .inr (.inl (fun _ => 0)))), (q7, .inl (1, 5, .inr (.inl (fun _ => 0)))), (q8, .inl (1, 5, .inr (.inl (fun _ => 0))))]) hC hini kX6 8 rfl q2761 rfl rfl (fun _ h => h.get 0 rfl) (Nat.le_of_ble_eq_true rfl) rfl rfl dX6_init_64 (fun _ h => h.set 0 _ rfl) 67 rfl ?_
  refine r_aload_n hC 0 dX6_init_67 rfl 68 rfl ?_
  refine r_bipush hC 6 dX6_init_68 bp_6 70 rfl ?_
  refine r_newa (J := fun q9 => xSt F V0 [(a, .inr (5, mV (va_up (va_up (va_up (va_up (va_up (va_up (va_up (va_up mV0 1 (.ref q1)) 2 (.ref q2)) 3 (.ref q3)) 4 (.ref q4)) 5 (.ref q5)) 6 (.ref q6)) 7 (.ref q7)) 8 (.ref q8)))), (q1, .inl (1, 111, .inr (.inl (fun _ => 0)))), (q2, .inl (1, 111, .inr (.inl (fun _ => 0)))), (q3, .inl (1, 111, .inr (.inl (fun _ => 0)))), (q4, .inl (1, 111, .inr (.inl (fun _ => 0)))), (q5, .inl (1, 111, .inr (.inl (fun _ => 0)))), (q6, .inl (1, 1110, .inr (.inl (fun _ => 0)))), (q7, .inl (1, 5, .inr (.inl (fun _ => 0)))), (q8, .inl (1, 5, .inr (.inl (fun _ => 0)))), (q9, .inl (1, 6, .inr (.inl (fun _ => 0))))]) hC .long 1 6 (6, .inr (.inl (fun _ => 0))) rfl q226 rfl rfl na_long rfl (Nat.le_of_ble_eq_true rfl) (Nat.le_of_ble_eq_true rfl) (Nat.le_of_ble_eq_true rfl) dX6_init_70 (fun _ h => h.push _) 72 rfl (fun q9 => ?_)
  show rn C (xSt F V0 [(a, .inr (5, mV (va_up (va_up (va_up (va_up (va_up (va_up (va_up (va_up mV0 1 (.ref q1)) 2 (.ref q2)) 3 (.ref q3)) 4 (.ref q4)) 5 (.ref q5)) 6 (.ref q6)) 7 (.ref q7)) 8 (.ref q8)))), (q1, .inl (1, 111, .inr (.inl (fun _ => 0)))), (q2, .inl (1, 111, .inr (.inl (fun _ => 0)))), (q3, .inl (1, 111, .inr (.inl (fun _ => 0)))), (q4, .inl (1, 111, .inr (.inl (fun _ => 0)))), (q5, .inl (1, 111, .inr (.inl (fun _ => 0)))), (q6, .inl (1, 1110, .inr (.inl (fun _ => 0)))), (q7, .inl (1, 5, .inr (.inl (fun _ => 0)))), (q8, .inl (1, 5, .inr (.inl (fun _ => 0)))), (q9, .inl (1, 6, .inr (.inl (fun _ => 0))))]) 9 1681 72 [(0, .ref a)] [.ref q9, .ref a]
  refine r_putF (J := xSt F V0 [(a, .inr (5, mV (va_up (va_up (va_up (va_up (va_up (va_up (va_up (va_up (va_up mV0 1 (.ref q1)) 2 (.ref q2)) 3 (.ref q3)) 4 (.ref q4)) 5 (.ref q5)) 6 (.ref q6)) 7 (.ref q7)) 8 (.ref q8)) 12 (.ref q9)))), (q1, .inl (1, 111, .inr (.inl (fun _ => 0)))), (q2, .inl (1, 111, .inr (.inl (fun _ => 0)))), (q3, .inl (1, 111, .inr (.inl (fun _ => 0)))), (q4, .inl (1, 111, .inr (.inl (fun _ => 0)))), (q5, .inl (1, 111, .inr (.inl (fun _ => 0)))), (q6, .inl (1, 1110, .inr (.inl (fun _ => 0)))), (q7, .inl (1, 5, .inr (.inl (fun _ => 0)))), (q8, .inl (1, 5, .inr (.inl (fun _ => 0)))), (q9, .inl (1, 6, .inr (.inl (fun _ => 0))))]) hC hini kX6 12 rfl q2765 rfl rfl (fun _ h => h.get 0 rfl) (Nat.le_of_ble_eq_true rfl) rfl rfl dX6_init_72 (fun _ h => h.set 0 _ rfl) 75 rfl ?_
  refine r_aload_n hC 0 dX6_init_75 rfl 76 rfl ?_
  refine r_sipush hC 600 dX6_init_76 sp_600 79 rfl ?_
  refine r_newa (J := fun q10 => xSt F V0 [(a, .inr (5, mV (va_up (va_up (va_up (va_up (va_up (va_up (va_up (va_up (va_up mV0 1 (.ref q1)) 2 (.ref q2)) 3 (.ref q3)) 4 (.ref q4)) 5 (.ref q5)) 6 (.ref q6)) 7 (.ref q7)) 8 (.ref q8)) 12 (.ref q9)))), (q1, .inl (1, 111, .inr (.inl (fun _ => 0)))), (q2, .inl (1, 111, .inr (.inl (fun _ => 0)))), (q3, .inl (1, 111, .inr (.inl (fun _ => 0)))), (q4, .inl (1, 111, .inr (.inl (fun _ => 0)))), (q5, .inl (1, 111, .inr (.inl (fun _ => 0)))), (q6, .inl (1, 1110, .inr (.inl (fun _ => 0)))), (q7, .inl (1, 5, .inr (.inl (fun _ => 0)))), (q8, .inl (1, 5, .inr (.inl (fun _ => 0)))), (q9, .inl (1, 6, .inr (.inl (fun _ => 0)))), (q10, .inl (0, 600, .inl (fun _ => 0)))]) hC .int 0 600 (600, .inl (fun _ => 0)) rfl q225 rfl rfl na_int rfl (Nat.le_of_ble_eq_true rfl) (Nat.le_of_ble_eq_true rfl) (Nat.le_of_ble_eq_true rfl) dX6_init_79 (fun _ h => h.push _) 81 rfl (fun q10 => ?_)
  show rn C (xSt F V0 [(a, .inr (5, mV (va_up (va_up (va_up (va_up (va_up (va_up (va_up (va_up (va_up mV0 1 (.ref q1)) 2 (.ref q2)) 3 (.ref q3)) 4 (.ref q4)) 5 (.ref q5)) 6 (.ref q6)) 7 (.ref q7)) 8 (.ref q8)) 12 (.ref q9)))), (q1, .inl (1, 111, .inr (.inl (fun _ => 0)))), (q2, .inl (1, 111, .inr (.inl (fun _ => 0)))), (q3, .inl (1, 111, .inr (.inl (fun _ => 0)))), (q4, .inl (1, 111, .inr (.inl (fun _ => 0)))), (q5, .inl (1, 111, .inr (.inl (fun _ => 0)))), (q6, .inl (1, 1110, .inr (.inl (fun _ => 0)))), (q7, .inl (1, 5, .inr (.inl (fun _ => 0)))), (q8, .inl (1, 5, .inr (.inl (fun _ => 0)))), (q9, .inl (1, 6, .inr (.inl (fun _ => 0)))), (q10, .inl (0, 600, .inl (fun _ => 0)))]) 10 2281 81 [(0, .ref a)] [.ref q10, .ref a]
  refine r_putF (J := xSt F V0 [(a, .inr (5, mV (va_up (va_up (va_up (va_up (va_up (va_up (va_up (va_up (va_up (va_up mV0 1 (.ref q1)) 2 (.ref q2)) 3 (.ref q3)) 4 (.ref q4)) 5 (.ref q5)) 6 (.ref q6)) 7 (.ref q7)) 8 (.ref q8)) 12 (.ref q9)) 13 (.ref q10)))), (q1, .inl (1, 111, .inr (.inl (fun _ => 0)))), (q2, .inl (1, 111, .inr (.inl (fun _ => 0)))), (q3, .inl (1, 111, .inr (.inl (fun _ => 0)))), (q4, .inl (1, 111, .inr (.inl (fun _ => 0)))), (q5, .inl (1, 111, .inr (.inl (fun _ => 0)))), (q6, .inl (1, 1110, .inr (.inl (fun _ => 0)))), (q7, .inl (1, 5, .inr (.inl (fun _ => 0)))), (q8, .inl (1, 5, .inr (.inl (fun _ => 0)))), (q9, .inl (1, 6, .inr (.inl (fun _ => 0)))), (q10, .inl (0, 600, .inl (fun _ => 0)))]) hC hini kX6 13 rfl q2766 rfl rfl (fun _ h => h.get 0 rfl) (Nat.le_of_ble_eq_true rfl) rfl rfl dX6_init_81 (fun _ h => h.set 0 _ rfl) 84 rfl ?_
  refine r_aload_n hC 0 dX6_init_84 rfl 85 rfl ?_
  refine r_iconst hC (-1) dX6_init_85 ic_m1 86 rfl ?_
  refine r_put (J := xSt F V0 [(a, .inr (5, mV (va_up (va_up (va_up (va_up (va_up (va_up (va_up (va_up (va_up (va_up (va_up mV0 1 (.ref q1)) 2 (.ref q2)) 3 (.ref q3)) 4 (.ref q4)) 5 (.ref q5)) 6 (.ref q6)) 7 (.ref q7)) 8 (.ref q8)) 12 (.ref q9)) 13 (.ref q10)) 22 (.int (-1))))), (q1, .inl (1, 111, .inr (.inl (fun _ => 0)))), (q2, .inl (1, 111, .inr (.inl (fun _ => 0)))), (q3, .inl (1, 111, .inr (.inl (fun _ => 0)))), (q4, .inl (1, 111, .inr (.inl (fun _ => 0)))), (q5, .inl (1, 111, .inr (.inl (fun _ => 0)))), (q6, .inl (1, 1110, .inr (.inl (fun _ => 0)))), (q7, .inl (1, 5, .inr (.inl (fun _ => 0)))), (q8, .inl (1, 5, .inr (.inl (fun _ => 0)))), (q9, .inl (1, 6, .inr (.inl (fun _ => 0)))), (q10, .inl (0, 600, .inl (fun _ => 0)))]) hC kX6 22 rfl q2775 rfl (fun _ h => h.get 0 rfl) (Nat.le_of_ble_eq_true rfl) rfl rfl dX6_init_86 (fun _ h => h.set 0 _ rfl) 89 rfl ?_
  refine r_aload_n hC 0 dX6_init_89 rfl 90 rfl ?_
  refine r_bipush hC 6 dX6_init_90 bp_6 92 rfl ?_
  refine r_newa (J := fun q11 => xSt F V0 [(a, .inr (5, mV (va_up (va_up (va_up (va_up (va_up (va_up (va_up (va_up (va_up (va_up (va_up mV0 1 (.ref q1)) 2 (.ref q2)) 3 (.ref q3)) 4 (.ref q4)) 5 (.ref q5)) 6 (.ref q6)) 7 (.ref q7)) 8 (.ref q8)) 12 (.ref q9)) 13 (.ref q10)) 22 (.int (-1))))), (q1, .inl (1, 111, .inr (.inl (fun _ => 0)))), (q2, .inl (1, 111, .inr (.inl (fun _ => 0)))), (q3, .inl (1, 111, .inr (.inl (fun _ => 0)))), (q4, .inl (1, 111, .inr (.inl (fun _ => 0)))), (q5, .inl (1, 111, .inr (.inl (fun _ => 0)))), (q6, .inl (1, 1110, .inr (.inl (fun _ => 0)))), (q7, .inl (1, 5, .inr (.inl (fun _ => 0)))), (q8, .inl (1, 5, .inr (.inl (fun _ => 0)))), (q9, .inl (1, 6, .inr (.inl (fun _ => 0)))), (q10, .inl (0, 600, .inl (fun _ => 0))), (q11, .inl (1, 6, .inr (.inl (fun _ => 0))))]) hC .long 1 6 (6, .inr (.inl (fun _ => 0))) rfl q226 rfl rfl na_long rfl (Nat.le_of_ble_eq_true rfl) (Nat.le_of_ble_eq_true rfl) (Nat.le_of_ble_eq_true rfl) dX6_init_92 (fun _ h => h.push _) 94 rfl (fun q11 => ?_)
  show rn C (xSt F V0 [(a, .inr (5, mV (va_up (va_up (va_up (va_up (va_up (va_up (va_up (va_up (va_up (va_up (va_up mV0 1 (.ref q1)) 2 (.ref q2)) 3 (.ref q3)) 4 (.ref q4)) 5 (.ref q5)) 6 (.ref q6)) 7 (.ref q7)) 8 (.ref q8)) 12 (.ref q9)) 13 (.ref q10)) 22 (.int (-1))))), (q1, .inl (1, 111, .inr (.inl (fun _ => 0)))), (q2, .inl (1, 111, .inr (.inl (fun _ => 0)))), (q3, .inl (1, 111, .inr (.inl (fun _ => 0)))), (q4, .inl (1, 111, .inr (.inl (fun _ => 0)))), (q5, .inl (1, 111, .inr (.inl (fun _ => 0)))), (q6, .inl (1, 1110, .inr (.inl (fun _ => 0)))), (q7, .inl (1, 5, .inr (.inl (fun _ => 0)))), (q8, .inl (1, 5, .inr (.inl (fun _ => 0)))), (q9, .inl (1, 6, .inr (.inl (fun _ => 0)))), (q10, .inl (0, 600, .inl (fun _ => 0))), (q11, .inl (1, 6, .inr (.inl (fun _ => 0))))]) 11 2287 94 [(0, .ref a)] [.ref q11, .ref a]
  refine r_putF (J := xSt F V0 [(a, .inr (5, mV (va_up (va_up (va_up (va_up (va_up (va_up (va_up (va_up (va_up (va_up (va_up (va_up mV0 1 (.ref q1)) 2 (.ref q2)) 3 (.ref q3)) 4 (.ref q4)) 5 (.ref q5)) 6 (.ref q6)) 7 (.ref q7)) 8 (.ref q8)) 12 (.ref q9)) 13 (.ref q10)) 22 (.int (-1))) 23 (.ref q11)))), (q1, .inl (1, 111, .inr (.inl (fun _ => 0)))), (q2, .inl (1, 111, .inr (.inl (fun _ => 0)))), (q3, .inl (1, 111, .inr (.inl (fun _ => 0)))), (q4, .inl (1, 111, .inr (.inl (fun _ => 0)))), (q5, .inl (1, 111, .inr (.inl (fun _ => 0)))), (q6, .inl (1, 1110, .inr (.inl (fun _ => 0)))), (q7, .inl (1, 5, .inr (.inl (fun _ => 0)))), (q8, .inl (1, 5, .inr (.inl (fun _ => 0)))), (q9, .inl (1, 6, .inr (.inl (fun _ => 0)))), (q10, .inl (0, 600, .inl (fun _ => 0))), (q11, .inl (1, 6, .inr (.inl (fun _ => 0))))]) hC hini kX6 23 rfl q2776 rfl rfl (fun _ h => h.get 0 rfl) (Nat.le_of_ble_eq_true rfl) rfl rfl dX6_init_94 (fun _ h => h.set 0 _ rfl) 97 rfl ?_
  refine r_aload_n hC 0 dX6_init_97 rfl 98 rfl ?_
  refine r_bipush hC 21 dX6_init_98 bp_21 100 rfl ?_
  refine r_newa (J := fun q12 => xSt F V0 [(a, .inr (5, mV (va_up (va_up (va_up (va_up (va_up (va_up (va_up (va_up (va_up (va_up (va_up (va_up mV0 1 (.ref q1)) 2 (.ref q2)) 3 (.ref q3)) 4 (.ref q4)) 5 (.ref q5)) 6 (.ref q6)) 7 (.ref q7)) 8 (.ref q8)) 12 (.ref q9)) 13 (.ref q10)) 22 (.int (-1))) 23 (.ref q11)))), (q1, .inl (1, 111, .inr (.inl (fun _ => 0)))), (q2, .inl (1, 111, .inr (.inl (fun _ => 0)))), (q3, .inl (1, 111, .inr (.inl (fun _ => 0)))), (q4, .inl (1, 111, .inr (.inl (fun _ => 0)))), (q5, .inl (1, 111, .inr (.inl (fun _ => 0)))), (q6, .inl (1, 1110, .inr (.inl (fun _ => 0)))), (q7, .inl (1, 5, .inr (.inl (fun _ => 0)))), (q8, .inl (1, 5, .inr (.inl (fun _ => 0)))), (q9, .inl (1, 6, .inr (.inl (fun _ => 0)))), (q10, .inl (0, 600, .inl (fun _ => 0))), (q11, .inl (1, 6, .inr (.inl (fun _ => 0)))), (q12, .inl (1, 21, .inr (.inl (fun _ => 0))))]) hC .long 1 21 (21, .inr (.inl (fun _ => 0))) rfl q226 rfl rfl na_long rfl (Nat.le_of_ble_eq_true rfl) (Nat.le_of_ble_eq_true rfl) (Nat.le_of_ble_eq_true rfl) dX6_init_100 (fun _ h => h.push _) 102 rfl (fun q12 => ?_)
  show rn C (xSt F V0 [(a, .inr (5, mV (va_up (va_up (va_up (va_up (va_up (va_up (va_up (va_up (va_up (va_up (va_up (va_up mV0 1 (.ref q1)) 2 (.ref q2)) 3 (.ref q3)) 4 (.ref q4)) 5 (.ref q5)) 6 (.ref q6)) 7 (.ref q7)) 8 (.ref q8)) 12 (.ref q9)) 13 (.ref q10)) 22 (.int (-1))) 23 (.ref q11)))), (q1, .inl (1, 111, .inr (.inl (fun _ => 0)))), (q2, .inl (1, 111, .inr (.inl (fun _ => 0)))), (q3, .inl (1, 111, .inr (.inl (fun _ => 0)))), (q4, .inl (1, 111, .inr (.inl (fun _ => 0)))), (q5, .inl (1, 111, .inr (.inl (fun _ => 0)))), (q6, .inl (1, 1110, .inr (.inl (fun _ => 0)))), (q7, .inl (1, 5, .inr (.inl (fun _ => 0)))), (q8, .inl (1, 5, .inr (.inl (fun _ => 0)))), (q9, .inl (1, 6, .inr (.inl (fun _ => 0)))), (q10, .inl (0, 600, .inl (fun _ => 0))), (q11, .inl (1, 6, .inr (.inl (fun _ => 0)))), (q12, .inl (1, 21, .inr (.inl (fun _ => 0))))]) 12 2308 102 [(0, .ref a)] [.ref q12, .ref a]
  refine r_putF (J := xSt F V0 [(a, .inr (5, mV (va_up (va_up (va_up (va_up (va_up (va_up (va_up (va_up (va_up (va_up (va_up (va_up (va_up mV0 1 (.ref q1)) 2 (.ref q2)) 3 (.ref q3)) 4 (.ref q4)) 5 (.ref q5)) 6 (.ref q6)) 7 (.ref q7)) 8 (.ref q8)) 12 (.ref q9)) 13 (.ref q10)) 22 (.int (-1))) 23 (.ref q11)) 24 (.ref q12)))), (q1, .inl (1, 111, .inr (.inl (fun _ => 0)))), (q2, .inl (1, 111, .inr (.inl (fun _ => 0)))), (q3, .inl (1, 111, .inr (.inl (fun _ => 0)))), (q4, .inl (1, 111, .inr (.inl (fun _ => 0)))), (q5, .inl (1, 111, .inr (.inl (fun _ => 0)))), (q6, .inl (1, 1110, .inr (.inl (fun _ => 0)))), (q7, .inl (1, 5, .inr (.inl (fun _ => 0)))), (q8, .inl (1, 5, .inr (.inl (fun _ => 0)))), (q9, .inl (1, 6, .inr (.inl (fun _ => 0)))), (q10, .inl (0, 600, .inl (fun _ => 0))), (q11, .inl (1, 6, .inr (.inl (fun _ => 0)))), (q12, .inl (1, 21, .inr (.inl (fun _ => 0))))]) hC hini kX6 24 rfl q2777 rfl rfl (fun _ h => h.get 0 rfl) (Nat.le_of_ble_eq_true rfl) rfl rfl dX6_init_102 (fun _ h => h.set 0 _ rfl) 105 rfl ?_
  refine r_aload_n hC 0 dX6_init_105 rfl 106 rfl ?_
  refine r_sipush hC 1806 dX6_init_106 sp_1806 109 rfl ?_
  refine r_newa (J := fun q13 => xSt F V0 [(a, .inr (5, mV (va_up (va_up (va_up (va_up (va_up (va_up (va_up (va_up (va_up (va_up (va_up (va_up (va_up mV0 1 (.ref q1)) 2 (.ref q2)) 3 (.ref q3)) 4 (.ref q4)) 5 (.ref q5)) 6 (.ref q6)) 7 (.ref q7)) 8 (.ref q8)) 12 (.ref q9)) 13 (.ref q10)) 22 (.int (-1))) 23 (.ref q11)) 24 (.ref q12)))), (q1, .inl (1, 111, .inr (.inl (fun _ => 0)))), (q2, .inl (1, 111, .inr (.inl (fun _ => 0)))), (q3, .inl (1, 111, .inr (.inl (fun _ => 0)))), (q4, .inl (1, 111, .inr (.inl (fun _ => 0)))), (q5, .inl (1, 111, .inr (.inl (fun _ => 0)))), (q6, .inl (1, 1110, .inr (.inl (fun _ => 0)))), (q7, .inl (1, 5, .inr (.inl (fun _ => 0)))), (q8, .inl (1, 5, .inr (.inl (fun _ => 0)))), (q9, .inl (1, 6, .inr (.inl (fun _ => 0)))), (q10, .inl (0, 600, .inl (fun _ => 0))), (q11, .inl (1, 6, .inr (.inl (fun _ => 0)))), (q12, .inl (1, 21, .inr (.inl (fun _ => 0)))), (q13, .inl (1, 1806, .inr (.inl (fun _ => 0))))]) hC .long 1 1806 (1806, .inr (.inl (fun _ => 0))) rfl q226 rfl rfl na_long rfl (Nat.le_of_ble_eq_true rfl) (Nat.le_of_ble_eq_true rfl) (Nat.le_of_ble_eq_true rfl) dX6_init_109 (fun _ h => h.push _) 111 rfl (fun q13 => ?_)
  show rn C (xSt F V0 [(a, .inr (5, mV (va_up (va_up (va_up (va_up (va_up (va_up (va_up (va_up (va_up (va_up (va_up (va_up (va_up mV0 1 (.ref q1)) 2 (.ref q2)) 3 (.ref q3)) 4 (.ref q4)) 5 (.ref q5)) 6 (.ref q6)) 7 (.ref q7)) 8 (.ref q8)) 12 (.ref q9)) 13 (.ref q10)) 22 (.int (-1))) 23 (.ref q11)) 24 (.ref q12)))), (q1, .inl (1, 111, .inr (.inl (fun _ => 0)))), (q2, .inl (1, 111, .inr (.inl (fun _ => 0)))), (q3, .inl (1, 111, .inr (.inl (fun _ => 0)))), (q4, .inl (1, 111, .inr (.inl (fun _ => 0)))), (q5, .inl (1, 111, .inr (.inl (fun _ => 0)))), (q6, .inl (1, 1110, .inr (.inl (fun _ => 0)))), (q7, .inl (1, 5, .inr (.inl (fun _ => 0)))), (q8, .inl (1, 5, .inr (.inl (fun _ => 0)))), (q9, .inl (1, 6, .inr (.inl (fun _ => 0)))), (q10, .inl (0, 600, .inl (fun _ => 0))), (q11, .inl (1, 6, .inr (.inl (fun _ => 0)))), (q12, .inl (1, 21, .inr (.inl (fun _ => 0)))), (q13, .inl (1, 1806, .inr (.inl (fun _ => 0))))]) 13 4114 111 [(0, .ref a)] [.ref q13, .ref a]
  refine r_putF (J := xSt F V0 [(a, .inr (5, mV (va_up (va_up (va_up (va_up (va_up (va_up (va_up (va_up (va_up (va_up (va_up (va_up (va_up (va_up mV0 1 (.ref q1)) 2 (.ref q2)) 3 (.ref q3)) 4 (.ref q4)) 5 (.ref q5)) 6 (.ref q6)) 7 (.ref q7)) 8 (.ref q8)) 12 (.ref q9)) 13 (.ref q10)) 22 (.int (-1))) 23 (.ref q11)) 24 (.ref q12)) 25 (.ref q13)))), (q1, .inl (1, 111, .inr (.inl (fun _ => 0)))), (q2, .inl (1, 111, .inr (.inl (fun _ => 0)))), (q3, .inl (1, 111, .inr (.inl (fun _ => 0)))), (q4, .inl (1, 111, .inr (.inl (fun _ => 0)))), (q5, .inl (1, 111, .inr (.inl (fun _ => 0)))), (q6, .inl (1, 1110, .inr (.inl (fun _ => 0)))), (q7, .inl (1, 5, .inr (.inl (fun _ => 0)))), (q8, .inl (1, 5, .inr (.inl (fun _ => 0)))), (q9, .inl (1, 6, .inr (.inl (fun _ => 0)))), (q10, .inl (0, 600, .inl (fun _ => 0))), (q11, .inl (1, 6, .inr (.inl (fun _ => 0)))), (q12, .inl (1, 21, .inr (.inl (fun _ => 0)))), (q13, .inl (1, 1806, .inr (.inl (fun _ => 0))))]) hC hini kX6 25 rfl q2778 rfl rfl (fun _ h => h.get 0 rfl) (Nat.le_of_ble_eq_true rfl) rfl rfl dX6_init_111 (fun _ h => h.set 0 _ rfl) 114 rfl ?_
  refine r_aload_n hC 0 dX6_init_114 rfl 115 rfl ?_
  refine r_sipush hC 301 dX6_init_115 sp_301 118 rfl ?_
  refine r_newa (J := fun q14 => xSt F V0 [(a, .inr (5, mV (va_up (va_up (va_up (va_up (va_up (va_up (va_up (va_up (va_up (va_up (va_up (va_up (va_up (va_up mV0 1 (.ref q1)) 2 (.ref q2)) 3 (.ref q3)) 4 (.ref q4)) 5 (.ref q5)) 6 (.ref q6)) 7 (.ref q7)) 8 (.ref q8)) 12 (.ref q9)) 13 (.ref q10)) 22 (.int (-1))) 23 (.ref q11)) 24 (.ref q12)) 25 (.ref q13)))), (q1, .inl (1, 111, .inr (.inl (fun _ => 0)))), (q2, .inl (1, 111, .inr (.inl (fun _ => 0)))), (q3, .inl (1, 111, .inr (.inl (fun _ => 0)))), (q4, .inl (1, 111, .inr (.inl (fun _ => 0)))), (q5, .inl (1, 111, .inr (.inl (fun _ => 0)))), (q6, .inl (1, 1110, .inr (.inl (fun _ => 0)))), (q7, .inl (1, 5, .inr (.inl (fun _ => 0)))), (q8, .inl (1, 5, .inr (.inl (fun _ => 0)))), (q9, .inl (1, 6, .inr (.inl (fun _ => 0)))), (q10, .inl (0, 600, .inl (fun _ => 0))), (q11, .inl (1, 6, .inr (.inl (fun _ => 0)))), (q12, .inl (1, 21, .inr (.inl (fun _ => 0)))), (q13, .inl (1, 1806, .inr (.inl (fun _ => 0)))), (q14, .inl (1, 301, .inr (.inl (fun _ => 0))))]) hC .long 1 301 (301, .inr (.inl (fun _ => 0))) rfl q226 rfl rfl na_long rfl (Nat.le_of_ble_eq_true rfl) (Nat.le_of_ble_eq_true rfl) (Nat.le_of_ble_eq_true rfl) dX6_init_118 (fun _ h => h.push _) 120 rfl (fun q14 => ?_)
  show rn C (xSt F V0 [(a, .inr (5, mV (va_up (va_up (va_up (va_up (va_up (va_up (va_up (va_up (va_up (va_up (va_up (va_up (va_up (va_up mV0 1 (.ref q1)) 2 (.ref q2)) 3 (.ref q3)) 4 (.ref q4)) 5 (.ref q5)) 6 (.ref q6)) 7 (.ref q7)) 8 (.ref q8)) 12 (.ref q9)) 13 (.ref q10)) 22 (.int (-1))) 23 (.ref q11)) 24 (.ref q12)) 25 (.ref q13)))), (q1, .inl (1, 111, .inr (.inl (fun _ => 0)))), (q2, .inl (1, 111, .inr (.inl (fun _ => 0)))), (q3, .inl (1, 111, .inr (.inl (fun _ => 0)))), (q4, .inl (1, 111, .inr (.inl (fun _ => 0)))), (q5, .inl (1, 111, .inr (.inl (fun _ => 0)))), (q6, .inl (1, 1110, .inr (.inl (fun _ => 0)))), (q7, .inl (1, 5, .inr (.inl (fun _ => 0)))), (q8, .inl (1, 5, .inr (.inl (fun _ => 0)))), (q9, .inl (1, 6, .inr (.inl (fun _ => 0)))), (q10, .inl (0, 600, .inl (fun _ => 0))), (q11, .inl (1, 6, .inr (.inl (fun _ => 0)))), (q12, .inl (1, 21, .inr (.inl (fun _ => 0)))), (q13, .inl (1, 1806, .inr (.inl (fun _ => 0)))), (q14, .inl (1, 301, .inr (.inl (fun _ => 0))))]) 14 4415 120 [(0, .ref a)] [.ref q14, .ref a]
  refine r_putF (J := xSt F V0 [(a, .inr (5, mV (va_up (va_up (va_up (va_up (va_up (va_up (va_up (va_up (va_up (va_up (va_up (va_up (va_up (va_up (va_up mV0 1 (.ref q1)) 2 (.ref q2)) 3 (.ref q3)) 4 (.ref q4)) 5 (.ref q5)) 6 (.ref q6)) 7 (.ref q7)) 8 (.ref q8)) 12 (.ref q9)) 13 (.ref q10)) 22 (.int (-1))) 23 (.ref q11)) 24 (.ref q12)) 25 (.ref q13)) 27 (.ref q14)))), (q1, .inl (1, 111, .inr (.inl (fun _ => 0)))), (q2, .inl (1, 111, .inr (.inl (fun _ => 0)))), (q3, .inl (1, 111, .inr (.inl (fun _ => 0)))), (q4, .inl (1, 111, .inr (.inl (fun _ => 0)))), (q5, .inl (1, 111, .inr (.inl (fun _ => 0)))), (q6, .inl (1, 1110, .inr (.inl (fun _ => 0)))), (q7, .inl (1, 5, .inr (.inl (fun _ => 0)))), (q8, .inl (1, 5, .inr (.inl (fun _ => 0)))), (q9, .inl (1, 6, .inr (.inl (fun _ => 0)))), (q10, .inl (0, 600, .inl (fun _ => 0))), (q11, .inl (1, 6, .inr (.inl (fun _ => 0)))), (q12, .inl (1, 21, .inr (.inl (fun _ => 0)))), (q13, .inl (1, 1806, .inr (.inl (fun _ => 0)))), (q14, .inl (1, 301, .inr (.inl (fun _ => 0))))]) hC hini kX6 27 rfl q2780 rfl rfl (fun _ h => h.get 0 rfl) (Nat.le_of_ble_eq_true rfl) rfl rfl dX6_init_120 (fun _ h => h.set 0 _ rfl) 123 rfl ?_
  refine r_aload_n hC 0 dX6_init_123 rfl 124 rfl ?_
  refine r_sipush hC 301 dX6_init_124 sp_301 127 rfl ?_
  refine r_newa (J := fun q15 => xSt F V0 [(a, .inr (5, mV (va_up (va_up (va_up (va_up (va_up (va_up (va_up (va_up (va_up (va_up (va_up (va_up (va_up (va_up (va_up mV0 1 (.ref q1)) 2 (.ref q2)) 3 (.ref q3)) 4 (.ref q4)) 5 (.ref q5)) 6 (.ref q6)) 7 (.ref q7)) 8 (.ref q8)) 12 (.ref q9)) 13 (.ref q10)) 22 (.int (-1))) 23 (.ref q11)) 24 (.ref q12)) 25 (.ref q13)) 27 (.ref q14)))), (q1, .inl (1, 111, .inr (.inl (fun _ => 0)))), (q2, .inl (1, 111, .inr (.inl (fun _ => 0)))), (q3, .inl (1, 111, .inr (.inl (fun _ => 0)))), (q4, .inl (1, 111, .inr (.inl (fun _ => 0)))), (q5, .inl (1, 111, .inr (.inl (fun _ => 0)))), (q6, .inl (1, 1110, .inr (.inl (fun _ => 0)))), (q7, .inl (1, 5, .inr (.inl (fun _ => 0)))), (q8, .inl (1, 5, .inr (.inl (fun _ => 0)))), (q9, .inl (1, 6, .inr (.inl (fun _ => 0)))), (q10, .inl (0, 600, .inl (fun _ => 0))), (q11, .inl (1, 6, .inr (.inl (fun _ => 0)))), (q12, .inl (1, 21, .inr (.inl (fun _ => 0)))), (q13, .inl (1, 1806, .inr (.inl (fun _ => 0)))), (q14, .inl (1, 301, .inr (.inl (fun _ => 0)))), (q15, .inl (1, 301, .inr (.inl (fun _ => 0))))]) hC .long 1 301 (301, .inr (.inl (fun _ => 0))) rfl q226 rfl rfl na_long rfl (Nat.le_of_ble_eq_true rfl) (Nat.le_of_ble_eq_true rfl) (Nat.le_of_ble_eq_true rfl) dX6_init_127 (fun _ h => h.push _) 129 rfl (fun q15 => ?_)
  show rn C (xSt F V0 [(a, .inr (5, mV (va_up (va_up (va_up (va_up (va_up (va_up (va_up (va_up (va_up (va_up (va_up (va_up (va_up (va_up (va_up mV0 1 (.ref q1)) 2 (.ref q2)) 3 (.ref q3)) 4 (.ref q4)) 5 (.ref q5)) 6 (.ref q6)) 7 (.ref q7)) 8 (.ref q8)) 12 (.ref q9)) 13 (.ref q10)) 22 (.int (-1))) 23 (.ref q11)) 24 (.ref q12)) 25 (.ref q13)) 27 (.ref q14)))), (q1, .inl (1, 111, .inr (.inl (fun _ => 0)))), (q2, .inl (1, 111, .inr (.inl (fun _ => 0)))), (q3, .inl (1, 111, .inr (.inl (fun _ => 0)))), (q4, .inl (1, 111, .inr (.inl (fun _ => 0)))), (q5, .inl (1, 111, .inr (.inl (fun _ => 0)))), (q6, .inl (1, 1110, .inr (.inl (fun _ => 0)))), (q7, .inl (1, 5, .inr (.inl (fun _ => 0)))), (q8, .inl (1, 5, .inr (.inl (fun _ => 0)))), (q9, .inl (1, 6, .inr (.inl (fun _ => 0)))), (q10, .inl (0, 600, .inl (fun _ => 0))), (q11, .inl (1, 6, .inr (.inl (fun _ => 0)))), (q12, .inl (1, 21, .inr (.inl (fun _ => 0)))), (q13, .inl (1, 1806, .inr (.inl (fun _ => 0)))), (q14, .inl (1, 301, .inr (.inl (fun _ => 0)))), (q15, .inl (1, 301, .inr (.inl (fun _ => 0))))]) 15 4716 129 [(0, .ref a)] [.ref q15, .ref a]
  refine r_putF (J := xSt F V0 [(a, .inr (5, mV (va_up (va_up (va_up (va_up (va_up (va_up (va_up (va_up (va_up (va_up (va_up (va_up (va_up (va_up (va_up (va_up mV0 1 (.ref q1)) 2 (.ref q2)) 3 (.ref q3)) 4 (.ref q4)) 5 (.ref q5)) 6 (.ref q6)) 7 (.ref q7)) 8 (.ref q8)) 12 (.ref q9)) 13 (.ref q10)) 22 (.int (-1))) 23 (.ref q11)) 24 (.ref q12)) 25 (.ref q13)) 27 (.ref q14)) 28 (.ref q15)))), (q1, .inl (1, 111, .inr (.inl (fun _ => 0)))), (q2, .inl (1, 111, .inr (.inl (fun _ => 0)))), (q3, .inl (1, 111, .inr (.inl (fun _ => 0)))), (q4, .inl (1, 111, .inr (.inl (fun _ => 0)))), (q5, .inl (1, 111, .inr (.inl (fun _ => 0)))), (q6, .inl (1, 1110, .inr (.inl (fun _ => 0)))), (q7, .inl (1, 5, .inr (.inl (fun _ => 0)))), (q8, .inl (1, 5, .inr (.inl (fun _ => 0)))), (q9, .inl (1, 6, .inr (.inl (fun _ => 0)))), (q10, .inl (0, 600, .inl (fun _ => 0))), (q11, .inl (1, 6, .inr (.inl (fun _ => 0)))), (q12, .inl (1, 21, .inr (.inl (fun _ => 0)))), (q13, .inl (1, 1806, .inr (.inl (fun _ => 0)))), (q14, .inl (1, 301, .inr (.inl (fun _ => 0)))), (q15, .inl (1, 301, .inr (.inl (fun _ => 0))))]) hC hini kX6 28 rfl q2781 rfl rfl (fun _ h => h.get 0 rfl) (Nat.le_of_ble_eq_true rfl) rfl rfl dX6_init_129 (fun _ h => h.set 0 _ rfl) 132 rfl ?_
  refine r_aload_n hC 0 dX6_init_132 rfl 133 rfl ?_
  refine r_sipush hC 301 dX6_init_133 sp_301 136 rfl ?_
  refine r_newa (J := fun q16 => xSt F V0 [(a, .inr (5, mV (va_up (va_up (va_up (va_up (va_up (va_up (va_up (va_up (va_up (va_up (va_up (va_up (va_up (va_up (va_up (va_up mV0 1 (.ref q1)) 2 (.ref q2)) 3 (.ref q3)) 4 (.ref q4)) 5 (.ref q5)) 6 (.ref q6)) 7 (.ref q7)) 8 (.ref q8)) 12 (.ref q9)) 13 (.ref q10)) 22 (.int (-1))) 23 (.ref q11)) 24 (.ref q12)) 25 (.ref q13)) 27 (.ref q14)) 28 (.ref q15)))), (q1, .inl (1, 111, .inr (.inl (fun _ => 0)))), (q2, .inl (1, 111, .inr (.inl (fun _ => 0)))), (q3, .inl (1, 111, .inr (.inl (fun _ => 0)))), (q4, .inl (1, 111, .inr (.inl (fun _ => 0)))), (q5, .inl (1, 111, .inr (.inl (fun _ => 0)))), (q6, .inl (1, 1110, .inr (.inl (fun _ => 0)))), (q7, .inl (1, 5, .inr (.inl (fun _ => 0)))), (q8, .inl (1, 5, .inr (.inl (fun _ => 0)))), (q9, .inl (1, 6, .inr (.inl (fun _ => 0)))), (q10, .inl (0, 600, .inl (fun _ => 0))), (q11, .inl (1, 6, .inr (.inl (fun _ => 0)))), (q12, .inl (1, 21, .inr (.inl (fun _ => 0)))), (q13, .inl (1, 1806, .inr (.inl (fun _ => 0)))), (q14, .inl (1, 301, .inr (.inl (fun _ => 0)))), (q15, .inl (1, 301, .inr (.inl (fun _ => 0)))), (q16, .inl (0, 301, .inl (fun _ => 0)))]) hC .int 0 301 (301, .inl (fun _ => 0)) rfl q225 rfl rfl na_int rfl (Nat.le_of_ble_eq_true rfl) (Nat.le_of_ble_eq_true rfl) (Nat.le_of_ble_eq_true rfl) dX6_init_136 (fun _ h => h.push _) 138 rfl (fun q16 => ?_)
  show rn C (xSt F V0 [(a, .inr (5, mV (va_up (va_up (va_up (va_up (va_up (va_up (va_up (va_up (va_up (va_up (va_up (va_up (va_up (va_up (va_up (va_up mV0 1 (.ref q1)) 2 (.ref q2)) 3 (.ref q3)) 4 (.ref q4)) 5 (.ref q5)) 6 (.ref q6)) 7 (.ref q7)) 8 (.ref q8)) 12 (.ref q9)) 13 (.ref q10)) 22 (.int (-1))) 23 (.ref q11)) 24 (.ref q12)) 25 (.ref q13)) 27 (.ref q14)) 28 (.ref q15)))), (q1, .inl (1, 111, .inr (.inl (fun _ => 0)))), (q2, .inl (1, 111, .inr (.inl (fun _ => 0)))), (q3, .inl (1, 111, .inr (.inl (fun _ => 0)))), (q4, .inl (1, 111, .inr (.inl (fun _ => 0)))), (q5, .inl (1, 111, .inr (.inl (fun _ => 0)))), (q6, .inl (1, 1110, .inr (.inl (fun _ => 0)))), (q7, .inl (1, 5, .inr (.inl (fun _ => 0)))), (q8, .inl (1, 5, .inr (.inl (fun _ => 0)))), (q9, .inl (1, 6, .inr (.inl (fun _ => 0)))), (q10, .inl (0, 600, .inl (fun _ => 0))), (q11, .inl (1, 6, .inr (.inl (fun _ => 0)))), (q12, .inl (1, 21, .inr (.inl (fun _ => 0)))), (q13, .inl (1, 1806, .inr (.inl (fun _ => 0)))), (q14, .inl (1, 301, .inr (.inl (fun _ => 0)))), (q15, .inl (1, 301, .inr (.inl (fun _ => 0)))), (q16, .inl (0, 301, .inl (fun _ => 0)))]) 16 5017 138 [(0, .ref a)] [.ref q16, .ref a]
  refine r_putF (J := xSt F V0 [(a, .inr (5, mV (va_up (va_up (va_up (va_up (va_up (va_up (va_up (va_up (va_up (va_up (va_up (va_up (va_up (va_up (va_up (va_up (va_up mV0 1 (.ref q1)) 2 (.ref q2)) 3 (.ref q3)) 4 (.ref q4)) 5 (.ref q5)) 6 (.ref q6)) 7 (.ref q7)) 8 (.ref q8)) 12 (.ref q9)) 13 (.ref q10)) 22 (.int (-1))) 23 (.ref q11)) 24 (.ref q12)) 25 (.ref q13)) 27 (.ref q14)) 28 (.ref q15)) 29 (.ref q16)))), (q1, .inl (1, 111, .inr (.inl (fun _ => 0)))), (q2, .inl (1, 111, .inr (.inl (fun _ => 0)))), (q3, .inl (1, 111, .inr (.inl (fun _ => 0)))), (q4, .inl (1, 111, .inr (.inl (fun _ => 0)))), (q5, .inl (1, 111, .inr (.inl (fun _ => 0)))), (q6, .inl (1, 1110, .inr (.inl (fun _ => 0)))), (q7, .inl (1, 5, .inr (.inl (fun _ => 0)))), (q8, .inl (1, 5, .inr (.inl (fun _ => 0)))), (q9, .inl (1, 6, .inr (.inl (fun _ => 0)))), (q10, .inl (0, 600, .inl (fun _ => 0))), (q11, .inl (1, 6, .inr (.inl (fun _ => 0)))), (q12, .inl (1, 21, .inr (.inl (fun _ => 0)))), (q13, .inl (1, 1806, .inr (.inl (fun _ => 0)))), (q14, .inl (1, 301, .inr (.inl (fun _ => 0)))), (q15, .inl (1, 301, .inr (.inl (fun _ => 0)))), (q16, .inl (0, 301, .inl (fun _ => 0)))]) hC hini kX6 29 rfl q2782 rfl rfl (fun _ h => h.get 0 rfl) (Nat.le_of_ble_eq_true rfl) rfl rfl dX6_init_138 (fun _ h => h.set 0 _ rfl) 141 rfl ?_
  refine r_aload_n hC 0 dX6_init_141 rfl 142 rfl ?_
  refine r_bipush hC 80 dX6_init_142 bp_80 144 rfl ?_
  refine r_newa (J := fun q17 => xSt F V0 [(a, .inr (5, mV (va_up (va_up (va_up (va_up (va_up (va_up (va_up (va_up (va_up (va_up (va_up (va_up (va_up (va_up (va_up (va_up (va_up mV0 1 (.ref q1)) 2 (.ref q2)) 3 (.ref q3)) 4 (.ref q4)) 5 (.ref q5)) 6 (.ref q6)) 7 (.ref q7)) 8 (.ref q8)) 12 (.ref q9)) 13 (.ref q10)) 22 (.int (-1))) 23 (.ref q11)) 24 (.ref q12)) 25 (.ref q13)) 27 (.ref q14)) 28 (.ref q15)) 29 (.ref q16)))), (q1, .inl (1, 111, .inr (.inl (fun _ => 0)))), (q2, .inl (1, 111, .inr (.inl (fun _ => 0)))), (q3, .inl (1, 111, .inr (.inl (fun _ => 0)))), (q4, .inl (1, 111, .inr (.inl (fun _ => 0)))), (q5, .inl (1, 111, .inr (.inl (fun _ => 0)))), (q6, .inl (1, 1110, .inr (.inl (fun _ => 0)))), (q7, .inl (1, 5, .inr (.inl (fun _ => 0)))), (q8, .inl (1, 5, .inr (.inl (fun _ => 0)))), (q9, .inl (1, 6, .inr (.inl (fun _ => 0)))), (q10, .inl (0, 600, .inl (fun _ => 0))), (q11, .inl (1, 6, .inr (.inl (fun _ => 0)))), (q12, .inl (1, 21, .inr (.inl (fun _ => 0)))), (q13, .inl (1, 1806, .inr (.inl (fun _ => 0)))), (q14, .inl (1, 301, .inr (.inl (fun _ => 0)))), (q15, .inl (1, 301, .inr (.inl (fun _ => 0)))), (q16, .inl (0, 301, .inl (fun _ => 0))), (q17, .inl (2, 80, .inl (fun _ => 0)))]) hC .byte 2 80 (80, .inl (fun _ => 0)) rfl q224 rfl rfl na_byte rfl (Nat.le_of_ble_eq_true rfl) (Nat.le_of_ble_eq_true rfl) (Nat.le_of_ble_eq_true rfl) dX6_init_144 (fun _ h => h.push _) 146 rfl (fun q17 => ?_)
  show rn C (xSt F V0 [(a, .inr (5, mV (va_up (va_up (va_up (va_up (va_up (va_up (va_up (va_up (va_up (va_up (va_up (va_up (va_up (va_up (va_up (va_up (va_up mV0 1 (.ref q1)) 2 (.ref q2)) 3 (.ref q3)) 4 (.ref q4)) 5 (.ref q5)) 6 (.ref q6)) 7 (.ref q7)) 8 (.ref q8)) 12 (.ref q9)) 13 (.ref q10)) 22 (.int (-1))) 23 (.ref q11)) 24 (.ref q12)) 25 (.ref q13)) 27 (.ref q14)) 28 (.ref q15)) 29 (.ref q16)))), (q1, .inl (1, 111, .inr (.inl (fun _ => 0)))), (q2, .inl (1, 111, .inr (.inl (fun _ => 0)))), (q3, .inl (1, 111, .inr (.inl (fun _ => 0)))), (q4, .inl (1, 111, .inr (.inl (fun _ => 0)))), (q5, .inl (1, 111, .inr (.inl (fun _ => 0)))), (q6, .inl (1, 1110, .inr (.inl (fun _ => 0)))), (q7, .inl (1, 5, .inr (.inl (fun _ => 0)))), (q8, .inl (1, 5, .inr (.inl (fun _ => 0)))), (q9, .inl (1, 6, .inr (.inl (fun _ => 0)))), (q10, .inl (0, 600, .inl (fun _ => 0))), (q11, .inl (1, 6, .inr (.inl (fun _ => 0)))), (q12, .inl (1, 21, .inr (.inl (fun _ => 0)))), (q13, .inl (1, 1806, .inr (.inl (fun _ => 0)))), (q14, .inl (1, 301, .inr (.inl (fun _ => 0)))), (q15, .inl (1, 301, .inr (.inl (fun _ => 0)))), (q16, .inl (0, 301, .inl (fun _ => 0))), (q17, .inl (2, 80, .inl (fun _ => 0)))]) 17 5097 146 [(0, .ref a)] [.ref q17, .ref a]
  refine r_putF (J := xSt F V0 [(a, .inr (5, mV (va_up (va_up (va_up (va_up (va_up (va_up (va_up (va_up (va_up (va_up (va_up (va_up (va_up (va_up (va_up (va_up (va_up (va_up mV0 1 (.ref q1)) 2 (.ref q2)) 3 (.ref q3)) 4 (.ref q4)) 5 (.ref q5)) 6 (.ref q6)) 7 (.ref q7)) 8 (.ref q8)) 12 (.ref q9)) 13 (.ref q10)) 22 (.int (-1))) 23 (.ref q11)) 24 (.ref q12)) 25 (.ref q13)) 27 (.ref q14)) 28 (.ref q15)) 29 (.ref q16)) 31 (.ref q17)))), (q1, .inl (1, 111, .inr (.inl (fun _ => 0)))), (q2, .inl (1, 111, .inr (.inl (fun _ => 0)))), (q3, .inl (1, 111, .inr (.inl (fun _ => 0)))), (q4, .inl (1, 111, .inr (.inl (fun _ => 0)))), (q5, .inl (1, 111, .inr (.inl (fun _ => 0)))), (q6, .inl (1, 1110, .inr (.inl (fun _ => 0)))), (q7, .inl (1, 5, .inr (.inl (fun _ => 0)))), (q8, .inl (1, 5, .inr (.inl (fun _ => 0)))), (q9, .inl (1, 6, .inr (.inl (fun _ => 0)))), (q10, .inl (0, 600, .inl (fun _ => 0))), (q11, .inl (1, 6, .inr (.inl (fun _ => 0)))), (q12, .inl (1, 21, .inr (.inl (fun _ => 0)))), (q13, .inl (1, 1806, .inr (.inl (fun _ => 0)))), (q14, .inl (1, 301, .inr (.inl (fun _ => 0)))), (q15, .inl (1, 301, .inr (.inl (fun _ => 0)))), (q16, .inl (0, 301, .inl (fun _ => 0))), (q17, .inl (2, 80, .inl (fun _ => 0)))]) hC hini kX6 31 rfl q2784 rfl rfl (fun _ h => h.get 0 rfl) (Nat.le_of_ble_eq_true rfl) rfl rfl dX6_init_146 (fun _ h => h.set 0 _ rfl) 149 rfl ?_
  refine r_aload_n hC 0 dX6_init_149 rfl 150 rfl ?_
  refine r_sipush hC 200 dX6_init_150 sp_200 153 rfl ?_
  refine r_newa (J := fun q18 => xSt F V0 [(a, .inr (5, mV (va_up (va_up (va_up (va_up (va_up (va_up (va_up (va_up (va_up (va_up (va_up (va_up (va_up (va_up (va_up (va_up (va_up (va_up mV0 1 (.ref q1)) 2 (.ref q2)) 3 (.ref q3)) 4 (.ref q4)) 5 (.ref q5)) 6 (.ref q6)) 7 (.ref q7)) 8 (.ref q8)) 12 (.ref q9)) 13 (.ref q10)) 22 (.int (-1))) 23 (.ref q11)) 24 (.ref q12)) 25 (.ref q13)) 27 (.ref q14)) 28 (.ref q15)) 29 (.ref q16)) 31 (.ref q17)))), (q1, .inl (1, 111, .inr (.inl (fun _ => 0)))), (q2, .inl (1, 111, .inr (.inl (fun _ => 0)))), (q3, .inl (1, 111, .inr (.inl (fun _ => 0)))), (q4, .inl (1, 111, .inr (.inl (fun _ => 0)))), (q5, .inl (1, 111, .inr (.inl (fun _ => 0)))), (q6, .inl (1, 1110, .inr (.inl (fun _ => 0)))), (q7, .inl (1, 5, .inr (.inl (fun _ => 0)))), (q8, .inl (1, 5, .inr (.inl (fun _ => 0)))), (q9, .inl (1, 6, .inr (.inl (fun _ => 0)))), (q10, .inl (0, 600, .inl (fun _ => 0))), (q11, .inl (1, 6, .inr (.inl (fun _ => 0)))), (q12, .inl (1, 21, .inr (.inl (fun _ => 0)))), (q13, .inl (1, 1806, .inr (.inl (fun _ => 0)))), (q14, .inl (1, 301, .inr (.inl (fun _ => 0)))), (q15, .inl (1, 301, .inr (.inl (fun _ => 0)))), (q16, .inl (0, 301, .inl (fun _ => 0))), (q17, .inl (2, 80, .inl (fun _ => 0))), (q18, .inl (0, 200, .inl (fun _ => 0)))]) hC .int 0 200 (200, .inl (fun _ => 0)) rfl q225 rfl rfl na_int rfl (Nat.le_of_ble_eq_true rfl) (Nat.le_of_ble_eq_true rfl) (Nat.le_of_ble_eq_true rfl) dX6_init_153 (fun _ h => h.push _) 155 rfl (fun q18 => ?_)
  show rn C (xSt F V0 [(a, .inr (5, mV (va_up (va_up (va_up (va_up (va_up (va_up (va_up (va_up (va_up (va_up (va_up (va_up (va_up (va_up (va_up (va_up (va_up (va_up mV0 1 (.ref q1)) 2 (.ref q2)) 3 (.ref q3)) 4 (.ref q4)) 5 (.ref q5)) 6 (.ref q6)) 7 (.ref q7)) 8 (.ref q8)) 12 (.ref q9)) 13 (.ref q10)) 22 (.int (-1))) 23 (.ref q11)) 24 (.ref q12)) 25 (.ref q13)) 27 (.ref q14)) 28 (.ref q15)) 29 (.ref q16)) 31 (.ref q17)))), (q1, .inl (1, 111, .inr (.inl (fun _ => 0)))), (q2, .inl (1, 111, .inr (.inl (fun _ => 0)))), (q3, .inl (1, 111, .inr (.inl (fun _ => 0)))), (q4, .inl (1, 111, .inr (.inl (fun _ => 0)))), (q5, .inl (1, 111, .inr (.inl (fun _ => 0)))), (q6, .inl (1, 1110, .inr (.inl (fun _ => 0)))), (q7, .inl (1, 5, .inr (.inl (fun _ => 0)))), (q8, .inl (1, 5, .inr (.inl (fun _ => 0)))), (q9, .inl (1, 6, .inr (.inl (fun _ => 0)))), (q10, .inl (0, 600, .inl (fun _ => 0))), (q11, .inl (1, 6, .inr (.inl (fun _ => 0)))), (q12, .inl (1, 21, .inr (.inl (fun _ => 0)))), (q13, .inl (1, 1806, .inr (.inl (fun _ => 0)))), (q14, .inl (1, 301, .inr (.inl (fun _ => 0)))), (q15, .inl (1, 301, .inr (.inl (fun _ => 0)))), (q16, .inl (0, 301, .inl (fun _ => 0))), (q17, .inl (2, 80, .inl (fun _ => 0))), (q18, .inl (0, 200, .inl (fun _ => 0)))]) 18 5297 155 [(0, .ref a)] [.ref q18, .ref a]
  refine r_putF (J := xSt F V0 [(a, .inr (5, mV (va_up (va_up (va_up (va_up (va_up (va_up (va_up (va_up (va_up (va_up (va_up (va_up (va_up (va_up (va_up (va_up (va_up (va_up (va_up mV0 1 (.ref q1)) 2 (.ref q2)) 3 (.ref q3)) 4 (.ref q4)) 5 (.ref q5)) 6 (.ref q6)) 7 (.ref q7)) 8 (.ref q8)) 12 (.ref q9)) 13 (.ref q10)) 22 (.int (-1))) 23 (.ref q11)) 24 (.ref q12)) 25 (.ref q13)) 27 (.ref q14)) 28 (.ref q15)) 29 (.ref q16)) 31 (.ref q17)) 33 (.ref q18)))), (q1, .inl (1, 111, .inr (.inl (fun _ => 0)))), (q2, .inl (1, 111, .inr (.inl (fun _ => 0)))), (q3, .inl (1, 111, .inr (.inl (fun _ => 0)))), (q4, .inl (1, 111, .inr (.inl (fun _ => 0)))), (q5, .inl (1, 111, .inr (.inl (fun _ => 0)))), (q6, .inl (1, 1110, .inr (.inl (fun _ => 0)))), (q7, .inl (1, 5, .inr (.inl (fun _ => 0)))), (q8, .inl (1, 5, .inr (.inl (fun _ => 0)))), (q9, .inl (1, 6, .inr (.inl (fun _ => 0)))), (q10, .inl (0, 600, .inl (fun _ => 0))), (q11, .inl (1, 6, .inr (.inl (fun _ => 0)))), (q12, .inl (1, 21, .inr (.inl (fun _ => 0)))), (q13, .inl (1, 1806, .inr (.inl (fun _ => 0)))), (q14, .inl (1, 301, .inr (.inl (fun _ => 0)))), (q15, .inl (1, 301, .inr (.inl (fun _ => 0)))), (q16, .inl (0, 301, .inl (fun _ => 0))), (q17, .inl (2, 80, .inl (fun _ => 0))), (q18, .inl (0, 200, .inl (fun _ => 0)))]) hC hini kX6 33 rfl q2786 rfl rfl (fun _ h => h.get 0 rfl) (Nat.le_of_ble_eq_true rfl) rfl rfl dX6_init_155 (fun _ h => h.set 0 _ rfl) 158 rfl ?_
  refine r_aload_n hC 0 dX6_init_158 rfl 159 rfl ?_
  refine r_sipush hC 200 dX6_init_159 sp_200 162 rfl ?_
  refine r_newa (J := fun q19 => xSt F V0 [(a, .inr (5, mV (va_up (va_up (va_up (va_up (va_up (va_up (va_up (va_up (va_up (va_up (va_up (va_up (va_up (va_up (va_up (va_up (va_up (va_up (va_up mV0 1 (.ref q1)) 2 (.ref q2)) 3 (.ref q3)) 4 (.ref q4)) 5 (.ref q5)) 6 (.ref q6)) 7 (.ref q7)) 8 (.ref q8)) 12 (.ref q9)) 13 (.ref q10)) 22 (.int (-1))) 23 (.ref q11)) 24 (.ref q12)) 25 (.ref q13)) 27 (.ref q14)) 28 (.ref q15)) 29 (.ref q16)) 31 (.ref q17)) 33 (.ref q18)))), (q1, .inl (1, 111, .inr (.inl (fun _ => 0)))), (q2, .inl (1, 111, .inr (.inl (fun _ => 0)))), (q3, .inl (1, 111, .inr (.inl (fun _ => 0)))), (q4, .inl (1, 111, .inr (.inl (fun _ => 0)))), (q5, .inl (1, 111, .inr (.inl (fun _ => 0)))), (q6, .inl (1, 1110, .inr (.inl (fun _ => 0)))), (q7, .inl (1, 5, .inr (.inl (fun _ => 0)))), (q8, .inl (1, 5, .inr (.inl (fun _ => 0)))), (q9, .inl (1, 6, .inr (.inl (fun _ => 0)))), (q10, .inl (0, 600, .inl (fun _ => 0))), (q11, .inl (1, 6, .inr (.inl (fun _ => 0)))), (q12, .inl (1, 21, .inr (.inl (fun _ => 0)))), (q13, .inl (1, 1806, .inr (.inl (fun _ => 0)))), (q14, .inl (1, 301, .inr (.inl (fun _ => 0)))), (q15, .inl (1, 301, .inr (.inl (fun _ => 0)))), (q16, .inl (0, 301, .inl (fun _ => 0))), (q17, .inl (2, 80, .inl (fun _ => 0))), (q18, .inl (0, 200, .inl (fun _ => 0))), (q19, .inl (0, 200, .inl (fun _ => 0)))]) hC .int 0 200 (200, .inl (fun _ => 0)) rfl q225 rfl rfl na_int rfl (Nat.le_of_ble_eq_true rfl) (Nat.le_of_ble_eq_true rfl) (Nat.le_of_ble_eq_true rfl) dX6_init_162 (fun _ h => h.push _) 164 rfl (fun q19 => ?_)
  show rn C (xSt F V0 [(a, .inr (5, mV (va_up (va_up (va_up (va_up (va_up (va_up (va_up (va_up (va_up (va_up (va_up (va_up (va_up (va_up (va_up (va_up (va_up (va_up (va_up mV0 1 (.ref q1)) 2 (.ref q2)) 3 (.ref q3)) 4 (.ref q4)) 5 (.ref q5)) 6 (.ref q6)) 7 (.ref q7)) 8 (.ref q8)) 12 (.ref q9)) 13 (.ref q10)) 22 (.int (-1))) 23 (.ref q11)) 24 (.ref q12)) 25 (.ref q13)) 27 (.ref q14)) 28 (.ref q15)) 29 (.ref q16)) 31 (.ref q17)) 33 (.ref q18)))), (q1, .inl (1, 111, .inr (.inl (fun _ => 0)))), (q2, .inl (1, 111, .inr (.inl (fun _ => 0)))), (q3, .inl (1, 111, .inr (.inl (fun _ => 0)))), (q4, .inl (1, 111, .inr (.inl (fun _ => 0)))), (q5, .inl (1, 111, .inr (.inl (fun _ => 0)))), (q6, .inl (1, 1110, .inr (.inl (fun _ => 0)))), (q7, .inl (1, 5, .inr (.inl (fun _ => 0)))), (q8, .inl (1, 5, .inr (.inl (fun _ => 0)))), (q9, .inl (1, 6, .inr (.inl (fun _ => 0)))), (q10, .inl (0, 600, .inl (fun _ => 0))), (q11, .inl (1, 6, .inr (.inl (fun _ => 0)))), (q12, .inl (1, 21, .inr (.inl (fun _ => 0)))), (q13, .inl (1, 1806, .inr (.inl (fun _ => 0)))), (q14, .inl (1, 301, .inr (.inl (fun _ => 0)))), (q15, .inl (1, 301, .inr (.inl (fun _ => 0)))), (q16, .inl (0, 301, .inl (fun _ => 0))), (q17, .inl (2, 80, .inl (fun _ => 0))), (q18, .inl (0, 200, .inl (fun _ => 0))), (q19, .inl (0, 200, .inl (fun _ => 0)))]) 19 5497 164 [(0, .ref a)] [.ref q19, .ref a]
  refine r_putF (J := xSt F V0 [(a, .inr (5, mV (va_up (va_up (va_up (va_up (va_up (va_up (va_up (va_up (va_up (va_up (va_up (va_up (va_up (va_up (va_up (va_up (va_up (va_up (va_up (va_up mV0 1 (.ref q1)) 2 (.ref q2)) 3 (.ref q3)) 4 (.ref q4)) 5 (.ref q5)) 6 (.ref q6)) 7 (.ref q7)) 8 (.ref q8)) 12 (.ref q9)) 13 (.ref q10)) 22 (.int (-1))) 23 (.ref q11)) 24 (.ref q12)) 25 (.ref q13)) 27 (.ref q14)) 28 (.ref q15)) 29 (.ref q16)) 31 (.ref q17)) 33 (.ref q18)) 34 (.ref q19)))), (q1, .inl (1, 111, .inr (.inl (fun _ => 0)))), (q2, .inl (1, 111, .inr (.inl (fun _ => 0)))), (q3, .inl (1, 111, .inr (.inl (fun _ => 0)))), (q4, .inl (1, 111, .inr (.inl (fun _ => 0)))), (q5, .inl (1, 111, .inr (.inl (fun _ => 0)))), (q6, .inl (1, 1110, .inr (.inl (fun _ => 0)))), (q7, .inl (1, 5, .inr (.inl (fun _ => 0)))), (q8, .inl (1, 5, .inr (.inl (fun _ => 0)))), (q9, .inl (1, 6, .inr (.inl (fun _ => 0)))), (q10, .inl (0, 600, .inl (fun _ => 0))), (q11, .inl (1, 6, .inr (.inl (fun _ => 0)))), (q12, .inl (1, 21, .inr (.inl (fun _ => 0)))), (q13, .inl (1, 1806, .inr (.inl (fun _ => 0)))), (q14, .inl (1, 301, .inr (.inl (fun _ => 0)))), (q15, .inl (1, 301, .inr (.inl (fun _ => 0)))), (q16, .inl (0, 301, .inl (fun _ => 0))), (q17, .inl (2, 80, .inl (fun _ => 0))), (q18, .inl (0, 200, .inl (fun _ => 0))), (q19, .inl (0, 200, .inl (fun _ => 0)))]) hC hini kX6 34 rfl q2787 rfl rfl (fun _ h => h.get 0 rfl) (Nat.le_of_ble_eq_true rfl) rfl rfl dX6_init_164 (fun _ h => h.set 0 _ rfl) 167 rfl ?_
  refine r_aload_n hC 0 dX6_init_167 rfl 168 rfl ?_
  refine r_sipush hC 200 dX6_init_168 sp_200 171 rfl ?_
  refine r_newa (J := fun q20 => xSt F V0 [(a, .inr (5, mV (va_up (va_up (va_up (va_up (va_up (va_up (va_up (va_up (va_up (va_up (va_up (va_up (va_up (va_up (va_up (va_up (va_up (va_up (va_up (va_up mV0 1 (.ref q1)) 2 (.ref q2)) 3 (.ref q3)) 4 (.ref q4)) 5 (.ref q5)) 6 (.ref q6)) 7 (.ref q7)) 8 (.ref q8)) 12 (.ref q9)) 13 (.ref q10)) 22 (.int (-1))) 23 (.ref q11)) 24 (.ref q12)) 25 (.ref q13)) 27 (.ref q14)) 28 (.ref q15)) 29 (.ref q16)) 31 (.ref q17)) 33 (.ref q18)) 34 (.ref q19)))), (q1, .inl (1, 111, .inr (.inl (fun _ => 0)))), (q2, .inl (1, 111, .inr (.inl (fun _ => 0)))), (q3, .inl (1, 111, .inr (.inl (fun _ => 0)))), (q4, .inl (1, 111, .inr (.inl (fun _ => 0)))), (q5, .inl (1, 111, .inr (.inl (fun _ => 0)))), (q6, .inl (1, 1110, .inr (.inl (fun _ => 0)))), (q7, .inl (1, 5, .inr (.inl (fun _ => 0)))), (q8, .inl (1, 5, .inr (.inl (fun _ => 0)))), (q9, .inl (1, 6, .inr (.inl (fun _ => 0)))), (q10, .inl (0, 600, .inl (fun _ => 0))), (q11, .inl (1, 6, .inr (.inl (fun _ => 0)))), (q12, .inl (1, 21, .inr (.inl (fun _ => 0)))), (q13, .inl (1, 1806, .inr (.inl (fun _ => 0)))), (q14, .inl (1, 301, .inr (.inl (fun _ => 0)))), (q15, .inl (1, 301, .inr (.inl (fun _ => 0)))), (q16, .inl (0, 301, .inl (fun _ => 0))), (q17, .inl (2, 80, .inl (fun _ => 0))), (q18, .inl (0, 200, .inl (fun _ => 0))), (q19, .inl (0, 200, .inl (fun _ => 0))), (q20, .inl (0, 200, .inl (fun _ => 0)))]) hC .int 0 200 (200, .inl (fun _ => 0)) rfl q225 rfl rfl na_int rfl (Nat.le_of_ble_eq_true rfl) (Nat.le_of_ble_eq_true rfl) (Nat.le_of_ble_eq_true rfl) dX6_init_171 (fun _ h => h.push _) 173 rfl (fun q20 => ?_)
  show rn C (xSt F V0 [(a, .inr (5, mV (va_up (va_up (va_up (va_up (va_up (va_up (va_up (va_up (va_up (va_up (va_up (va_up (va_up (va_up (va_up (va_up (va_up (va_up (va_up (va_up mV0 1 (.ref q1)) 2 (.ref q2)) 3 (.ref q3)) 4 (.ref q4)) 5 (.ref q5)) 6 (.ref q6)) 7 (.ref q7)) 8 (.ref q8)) 12 (.ref q9)) 13 (.ref q10)) 22 (.int (-1))) 23 (.ref q11)) 24 (.ref q12)) 25 (.ref q13)) 27 (.ref q14)) 28 (.ref q15)) 29 (.ref q16)) 31 (.ref q17)) 33 (.ref q18)) 34 (.ref q19)))), (q1, .inl (1, 111, .inr (.inl (fun _ => 0)))), (q2, .inl (1, 111, .inr (.inl (fun _ => 0)))), (q3, .inl (1, 111, .inr (.inl (fun _ => 0)))), (q4, .inl (1, 111, .inr (.inl (fun _ => 0)))), (q5, .inl (1, 111, .inr (.inl (fun _ => 0)))), (q6, .inl (1, 1110, .inr (.inl (fun _ => 0)))), (q7, .inl (1, 5, .inr (.inl (fun _ => 0)))), (q8, .inl (1, 5, .inr (.inl (fun _ => 0)))), (q9, .inl (1, 6, .inr (.inl (fun _ => 0)))), (q10, .inl (0, 600, .inl (fun _ => 0))), (q11, .inl (1, 6, .inr (.inl (fun _ => 0)))), (q12, .inl (1, 21, .inr (.inl (fun _ => 0)))), (q13, .inl (1, 1806, .inr (.inl (fun _ => 0)))), (q14, .inl (1, 301, .inr (.inl (fun _ => 0)))), (q15, .inl (1, 301, .inr (.inl (fun _ => 0)))), (q16, .inl (0, 301, .inl (fun _ => 0))), (q17, .inl (2, 80, .inl (fun _ => 0))), (q18, .inl (0, 200, .inl (fun _ => 0))), (q19, .inl (0, 200, .inl (fun _ => 0))), (q20, .inl (0, 200, .inl (fun _ => 0)))]) 20 5697 173 [(0, .ref a)] [.ref q20, .ref a]
  refine r_putF (J := xSt F V0 [(a, .inr (5, mV (va_up (va_up (va_up (va_up (va_up (va_up (va_up (va_up (va_up (va_up (va_up (va_up (va_up (va_up (va_up (va_up (va_up (va_up (va_up (va_up (va_up mV0 1 (.ref q1)) 2 (.ref q2)) 3 (.ref q3)) 4 (.ref q4)) 5 (.ref q5)) 6 (.ref q6)) 7 (.ref q7)) 8 (.ref q8)) 12 (.ref q9)) 13 (.ref q10)) 22 (.int (-1))) 23 (.ref q11)) 24 (.ref q12)) 25 (.ref q13)) 27 (.ref q14)) 28 (.ref q15)) 29 (.ref q16)) 31 (.ref q17)) 33 (.ref q18)) 34 (.ref q19)) 35 (.ref q20)))), (q1, .inl (1, 111, .inr (.inl (fun _ => 0)))), (q2, .inl (1, 111, .inr (.inl (fun _ => 0)))), (q3, .inl (1, 111, .inr (.inl (fun _ => 0)))), (q4, .inl (1, 111, .inr (.inl (fun _ => 0)))), (q5, .inl (1, 111, .inr (.inl (fun _ => 0)))), (q6, .inl (1, 1110, .inr (.inl (fun _ => 0)))), (q7, .inl (1, 5, .inr (.inl (fun _ => 0)))), (q8, .inl (1, 5, .inr (.inl (fun _ => 0)))), (q9, .inl (1, 6, .inr (.inl (fun _ => 0)))), (q10, .inl (0, 600, .inl (fun _ => 0))), (q11, .inl (1, 6, .inr (.inl (fun _ => 0)))), (q12, .inl (1, 21, .inr (.inl (fun _ => 0)))), (q13, .inl (1, 1806, .inr (.inl (fun _ => 0)))), (q14, .inl (1, 301, .inr (.inl (fun _ => 0)))), (q15, .inl (1, 301, .inr (.inl (fun _ => 0)))), (q16, .inl (0, 301, .inl (fun _ => 0))), (q17, .inl (2, 80, .inl (fun _ => 0))), (q18, .inl (0, 200, .inl (fun _ => 0))), (q19, .inl (0, 200, .inl (fun _ => 0))), (q20, .inl (0, 200, .inl (fun _ => 0)))]) hC hini kX6 35 rfl q2788 rfl rfl (fun _ h => h.get 0 rfl) (Nat.le_of_ble_eq_true rfl) rfl rfl dX6_init_173 (fun _ h => h.set 0 _ rfl) 176 rfl ?_
  obtain ⟨b, hb⟩ : ∃ b : Nat → Nat, b = bL [a, q1, q2, q3, q4, q5, q6, q7, q8, 0, 0, 0, q9, q10, 0, 0, 0, 0, 0, 0, 0, 0, 0, q11, q12, q13, 0, q14, q15, q16, 0, q17, 0, q18, q19, q20, 0, 0, 0] := ⟨_, rfl⟩
  refine rn.mono (J := xSt F V0 [(b 0, .inr (5, mF b (va_up (fun _ => 0) 22 (-1)) (fun _ => 0))), (b 1, .inl (1, 111, .inr (.inl (fun _ => 0)))), (b 2, .inl (1, 111, .inr (.inl (fun _ => 0)))), (b 3, .inl (1, 111, .inr (.inl (fun _ => 0)))), (b 4, .inl (1, 111, .inr (.inl (fun _ => 0)))), (b 5, .inl (1, 111, .inr (.inl (fun _ => 0)))), (b 6, .inl (1, 1110, .inr (.inl (fun _ => 0)))), (b 7, .inl (1, 5, .inr (.inl (fun _ => 0)))), (b 8, .inl (1, 5, .inr (.inl (fun _ => 0)))), (b 12, .inl (1, 6, .inr (.inl (fun _ => 0)))), (b 13, .inl (0, 600, .inl (fun _ => 0))), (b 23, .inl (1, 6, .inr (.inl (fun _ => 0)))), (b 24, .inl (1, 21, .inr (.inl (fun _ => 0)))), (b 25, .inl (1, 1806, .inr (.inl (fun _ => 0)))), (b 27, .inl (1, 301, .inr (.inl (fun _ => 0)))), (b 28, .inl (1, 301, .inr (.inl (fun _ => 0)))), (b 29, .inl (0, 301, .inl (fun _ => 0))), (b 31, .inl (2, 80, .inl (fun _ => 0))), (b 33, .inl (0, 200, .inl (fun _ => 0))), (b 34, .inl (0, 200, .inl (fun _ => 0))), (b 35, .inl (0, 200, .inl (fun _ => 0)))]) (fun V9 h => by rw [hb]; exact h) ?_
  have e0 : a = b 0 := by rw [hb]; rfl
  subst e0
  show rn C (xSt F V0 [(b 0, .inr (5, mF b (va_up (fun _ => 0) 22 (-1)) (fun _ => 0))), (b 1, .inl (1, 111, .inr (.inl (fun _ => 0)))), (b 2, .inl (1, 111, .inr (.inl (fun _ => 0)))), (b 3, .inl (1, 111, .inr (.inl (fun _ => 0)))), (b 4, .inl (1, 111, .inr (.inl (fun _ => 0)))), (b 5, .inl (1, 111, .inr (.inl (fun _ => 0)))), (b 6, .inl (1, 1110, .inr (.inl (fun _ => 0)))), (b 7, .inl (1, 5, .inr (.inl (fun _ => 0)))), (b 8, .inl (1, 5, .inr (.inl (fun _ => 0)))), (b 12, .inl (1, 6, .inr (.inl (fun _ => 0)))), (b 13, .inl (0, 600, .inl (fun _ => 0))), (b 23, .inl (1, 6, .inr (.inl (fun _ => 0)))), (b 24, .inl (1, 21, .inr (.inl (fun _ => 0)))), (b 25, .inl (1, 1806, .inr (.inl (fun _ => 0)))), (b 27, .inl (1, 301, .inr (.inl (fun _ => 0)))), (b 28, .inl (1, 301, .inr (.inl (fun _ => 0)))), (b 29, .inl (0, 301, .inl (fun _ => 0))), (b 31, .inl (2, 80, .inl (fun _ => 0))), (b 33, .inl (0, 200, .inl (fun _ => 0))), (b 34, .inl (0, 200, .inl (fun _ => 0))), (b 35, .inl (0, 200, .inl (fun _ => 0)))]) 20 5697 176 [(0, .ref (b 0))] []
  refine r_aload_n hC 0 dX6_init_176 rfl 177 rfl ?_
  refine r_invVw hC kX6 (b 0) [] [(b 1, .inl (1, 111, .inr (.inl (fun _ => 0)))), (b 2, .inl (1, 111, .inr (.inl (fun _ => 0)))), (b 4, .inl (1, 111, .inr (.inl (fun _ => 0)))), (b 5, .inl (1, 111, .inr (.inl (fun _ => 0)))), (b 6, .inl (1, 1110, .inr (.inl (fun _ => 0)))), (b 7, .inl (1, 5, .inr (.inl (fun _ => 0)))), (b 12, .inl (1, 6, .inr (.inl (fun _ => 0)))), (b 13, .inl (0, 600, .inl (fun _ => 0))), (b 23, .inl (1, 6, .inr (.inl (fun _ => 0)))), (b 24, .inl (1, 21, .inr (.inl (fun _ => 0)))), (b 25, .inl (1, 1806, .inr (.inl (fun _ => 0)))), (b 27, .inl (1, 301, .inr (.inl (fun _ => 0)))), (b 28, .inl (1, 301, .inr (.inl (fun _ => 0)))), (b 29, .inl (0, 301, .inl (fun _ => 0))), (b 31, .inl (2, 80, .inl (fun _ => 0))), (b 33, .inl (0, 200, .inl (fun _ => 0))), (b 34, .inl (0, 200, .inl (fun _ => 0))), (b 35, .inl (0, 200, .inl (fun _ => 0)))] mVX6_clears q2704 0 rfl (metX6_clears _ _ hG b (va_up (fun _ => 0) 22 (-1)) (fun _ => 0) _ _) [0, 3, 8] [1, 2, 4, 5, 6, 7, 9, 10, 11, 12, 13, 14, 15, 16, 17, 18, 19, 20] rfl rfl rfl rfl (by decide) ⟨rfl, rfl⟩ 20 5697 rfl rfl (Nat.le_of_ble_eq_true rfl) (Nat.le_of_ble_eq_true rfl) rfl (Nat.le_of_ble_eq_true rfl) dX6_init_177 180 rfl (fun v21 w22 h23 => ?_) (fun _ _ h => h.elim)
  obtain ⟨rfl, rfl⟩ := h23
  show rn C (xSt F V0 [(b 1, .inl (1, 111, .inr (.inl (fun _ => 0)))), (b 2, .inl (1, 111, .inr (.inl (fun _ => 0)))), (b 4, .inl (1, 111, .inr (.inl (fun _ => 0)))), (b 5, .inl (1, 111, .inr (.inl (fun _ => 0)))), (b 6, .inl (1, 1110, .inr (.inl (fun _ => 0)))), (b 7, .inl (1, 5, .inr (.inl (fun _ => 0)))), (b 12, .inl (1, 6, .inr (.inl (fun _ => 0)))), (b 13, .inl (0, 600, .inl (fun _ => 0))), (b 23, .inl (1, 6, .inr (.inl (fun _ => 0)))), (b 24, .inl (1, 21, .inr (.inl (fun _ => 0)))), (b 25, .inl (1, 1806, .inr (.inl (fun _ => 0)))), (b 27, .inl (1, 301, .inr (.inl (fun _ => 0)))), (b 28, .inl (1, 301, .inr (.inl (fun _ => 0)))), (b 29, .inl (0, 301, .inl (fun _ => 0))), (b 31, .inl (2, 80, .inl (fun _ => 0))), (b 33, .inl (0, 200, .inl (fun _ => 0))), (b 34, .inl (0, 200, .inl (fun _ => 0))), (b 35, .inl (0, 200, .inl (fun _ => 0))), (b 0, .inr (5, mF b (va_up (fun _ => 0) 22 (-1)) (fun _ => 0))), (b 3, .inl (1, 111, .inr (.inl z0))), (b 8, .inl (1, 5, .inr (.inl told0)))]) 20 5697 180 [(0, .ref (b 0))] []
  refine r_iconst hC 0 dX6_init_180 ic_0 181 rfl ?_
  refine r_istore_n hC 1 [(1, .int 0), (0, .ref (b 0))] dX6_init_181 rfl (Nat.le_of_ble_eq_true rfl) rfl 182 rfl ?_
  refine r_iload_n hC 0 dX6_init_182 rfl 183 rfl ?_
  refine r_iconst hC 3 dX6_init_183 ic_3 184 rfl ?_
  refine r_icge hC 204 dX6_init_184 (by decide) 187 rfl (fun h => absurd h (by decide)) (fun _ => ?_)
  refine r_aload_n hC 1 dX6_init_187 rfl 188 rfl ?_
  refine r_get (v := .ref (b 3)) hC kX6 3 rfl q2756 (fun _ h => h.get 18 rfl) rfl dX6_init_188 191 rfl ?_
  refine r_iload_n hC 0 dX6_init_191 rfl 192 rfl ?_
  refine r_iconst hC 0 dX6_init_192 ic_0 193 rfl ?_
  refine r_invSr hC [.int 0, .int 0] (.int 6) mSX6_at q2711 (metX6_at _ _ hG 0 0) (fun _ _ => xIn.nil) ⟨rfl, rfl⟩ 20 5697 rfl rfl (Nat.le_of_ble_eq_true rfl) (Nat.le_of_ble_eq_true rfl) rfl (Nat.le_of_ble_eq_true rfl) dX6_init_193 196 rfl ?_
  refine r_lconst hC 1 dX6_init_196 lc_1 197 rfl ?_
  refine r_last (J := xSt F V0 [(b 1, .inl (1, 111, .inr (.inl (fun _ => 0)))), (b 2, .inl (1, 111, .inr (.inl (fun _ => 0)))), (b 4, .inl (1, 111, .inr (.inl (fun _ => 0)))), (b 5, .inl (1, 111, .inr (.inl (fun _ => 0)))), (b 6, .inl (1, 1110, .inr (.inl (fun _ => 0)))), (b 7, .inl (1, 5, .inr (.inl (fun _ => 0)))), (b 12, .inl (1, 6, .inr (.inl (fun _ => 0)))), (b 13, .inl (0, 600, .inl (fun _ => 0))), (b 23, .inl (1, 6, .inr (.inl (fun _ => 0)))), (b 24, .inl (1, 21, .inr (.inl (fun _ => 0)))), (b 25, .inl (1, 1806, .inr (.inl (fun _ => 0)))), (b 27, .inl (1, 301, .inr (.inl (fun _ => 0)))), (b 28, .inl (1, 301, .inr (.inl (fun _ => 0)))), (b 29, .inl (0, 301, .inl (fun _ => 0))), (b 31, .inl (2, 80, .inl (fun _ => 0))), (b 33, .inl (0, 200, .inl (fun _ => 0))), (b 34, .inl (0, 200, .inl (fun _ => 0))), (b 35, .inl (0, 200, .inl (fun _ => 0))), (b 0, .inr (5, mF b (va_up (fun _ => 0) 22 (-1)) (fun _ => 0))), (b 3, .inl (1, 111, .inr (.inl (va_up z0 6 1)))), (b 8, .inl (1, 5, .inr (.inl told0)))]) hC 6 (xix_n 6 (Nat.le_of_ble_eq_true rfl) (Nat.le_of_ble_eq_true rfl)) (fun _ h => h.get 19 rfl) dX6_init_197 (fun _ h => h.set 19 _ rfl) 198 rfl ?_
  generalize hu24 : va_up z0 6 1 = u24
  refine r_iinc hC 1 1 0 [(1, .int 1), (0, .ref (b 0))] dX6_init_198 rfl (by decide) (Nat.le_of_ble_eq_true rfl) rfl 201 rfl ?_
  refine r_goto hC 182 dX6_init_201 (by decide) ?_
  refine r_iload_n hC 0 dX6_init_182 rfl 183 rfl ?_
  refine r_iconst hC 3 dX6_init_183 ic_3 184 rfl ?_
  refine r_icge hC 204 dX6_init_184 (by decide) 187 rfl (fun h => absurd h (by decide)) (fun _ => ?_)
  refine r_aload_n hC 1 dX6_init_187 rfl 188 rfl ?_
  refine r_get (v := .ref (b 3)) hC kX6 3 rfl q2756 (fun _ h => h.get 18 rfl) rfl dX6_init_188 191 rfl ?_
  refine r_iload_n hC 0 dX6_init_191 rfl 192 rfl ?_
  refine r_iconst hC 0 dX6_init_192 ic_0 193 rfl ?_
  refine r_invSr hC [.int 1, .int 0] (.int 11) mSX6_at q2711 (metX6_at _ _ hG 1 0) (fun _ _ => xIn.nil) ⟨rfl, rfl⟩ 20 5697 rfl rfl (Nat.le_of_ble_eq_true rfl) (Nat.le_of_ble_eq_true rfl) rfl (Nat.le_of_ble_eq_true rfl) dX6_init_193 196 rfl ?_
  refine r_lconst hC 1 dX6_init_196 lc_1 197 rfl ?_
  refine r_last (J := xSt F V0 [(b 1, .inl (1, 111, .inr (.inl (fun _ => 0)))), (b 2, .inl (1, 111, .inr (.inl (fun _ => 0)))), (b 4, .inl (1, 111, .inr (.inl (fun _ => 0)))), (b 5, .inl (1, 111, .inr (.inl (fun _ => 0)))), (b 6, .inl (1, 1110, .inr (.inl (fun _ => 0)))), (b 7, .inl (1, 5, .inr (.inl (fun _ => 0)))), (b 12, .inl (1, 6, .inr (.inl (fun _ => 0)))), (b 13, .inl (0, 600, .inl (fun _ => 0))), (b 23, .inl (1, 6, .inr (.inl (fun _ => 0)))), (b 24, .inl (1, 21, .inr (.inl (fun _ => 0)))), (b 25, .inl (1, 1806, .inr (.inl (fun _ => 0)))), (b 27, .inl (1, 301, .inr (.inl (fun _ => 0)))), (b 28, .inl (1, 301, .inr (.inl (fun _ => 0)))), (b 29, .inl (0, 301, .inl (fun _ => 0))), (b 31, .inl (2, 80, .inl (fun _ => 0))), (b 33, .inl (0, 200, .inl (fun _ => 0))), (b 34, .inl (0, 200, .inl (fun _ => 0))), (b 35, .inl (0, 200, .inl (fun _ => 0))), (b 0, .inr (5, mF b (va_up (fun _ => 0) 22 (-1)) (fun _ => 0))), (b 3, .inl (1, 111, .inr (.inl (va_up u24 11 1)))), (b 8, .inl (1, 5, .inr (.inl told0)))]) hC 11 (xix_n 11 (Nat.le_of_ble_eq_true rfl) (Nat.le_of_ble_eq_true rfl)) (fun _ h => h.get 19 rfl) dX6_init_197 (fun _ h => h.set 19 _ rfl) 198 rfl ?_
  generalize hu25 : va_up u24 11 1 = u25
  refine r_iinc hC 2 1 0 [(1, .int 2), (0, .ref (b 0))] dX6_init_198 rfl (by decide) (Nat.le_of_ble_eq_true rfl) rfl 201 rfl ?_
  refine r_goto hC 182 dX6_init_201 (by decide) ?_
  refine r_iload_n hC 0 dX6_init_182 rfl 183 rfl ?_
  refine r_iconst hC 3 dX6_init_183 ic_3 184 rfl ?_
  refine r_icge hC 204 dX6_init_184 (by decide) 187 rfl (fun h => absurd h (by decide)) (fun _ => ?_)
  refine r_aload_n hC 1 dX6_init_187 rfl 188 rfl ?_
  refine r_get (v := .ref (b 3)) hC kX6 3 rfl q2756 (fun _ h => h.get 18 rfl) rfl dX6_init_188 191 rfl ?_
  refine r_iload_n hC 0 dX6_init_191 rfl 192 rfl ?_
  refine r_iconst hC 0 dX6_init_192 ic_0 193 rfl ?_
  refine r_invSr hC [.int 2, .int 0] (.int 16) mSX6_at q2711 (metX6_at _ _ hG 2 0) (fun _ _ => xIn.nil) ⟨rfl, rfl⟩ 20 5697 rfl rfl (Nat.le_of_ble_eq_true rfl) (Nat.le_of_ble_eq_true rfl) rfl (Nat.le_of_ble_eq_true rfl) dX6_init_193 196 rfl ?_
  refine r_lconst hC 1 dX6_init_196 lc_1 197 rfl ?_
  refine r_last (J := xSt F V0 [(b 1, .inl (1, 111, .inr (.inl (fun _ => 0)))), (b 2, .inl (1, 111, .inr (.inl (fun _ => 0)))), (b 4, .inl (1, 111, .inr (.inl (fun _ => 0)))), (b 5, .inl (1, 111, .inr (.inl (fun _ => 0)))), (b 6, .inl (1, 1110, .inr (.inl (fun _ => 0)))), (b 7, .inl (1, 5, .inr (.inl (fun _ => 0)))), (b 12, .inl (1, 6, .inr (.inl (fun _ => 0)))), (b 13, .inl (0, 600, .inl (fun _ => 0))), (b 23, .inl (1, 6, .inr (.inl (fun _ => 0)))), (b 24, .inl (1, 21, .inr (.inl (fun _ => 0)))), (b 25, .inl (1, 1806, .inr (.inl (fun _ => 0)))), (b 27, .inl (1, 301, .inr (.inl (fun _ => 0)))), (b 28, .inl (1, 301, .inr (.inl (fun _ => 0)))), (b 29, .inl (0, 301, .inl (fun _ => 0))), (b 31, .inl (2, 80, .inl (fun _ => 0))), (b 33, .inl (0, 200, .inl (fun _ => 0))), (b 34, .inl (0, 200, .inl (fun _ => 0))), (b 35, .inl (0, 200, .inl (fun _ => 0))), (b 0, .inr (5, mF b (va_up (fun _ => 0) 22 (-1)) (fun _ => 0))), (b 3, .inl (1, 111, .inr (.inl (va_up u25 16 1)))), (b 8, .inl (1, 5, .inr (.inl told0)))]) hC 16 (xix_n 16 (Nat.le_of_ble_eq_true rfl) (Nat.le_of_ble_eq_true rfl)) (fun _ h => h.get 19 rfl) dX6_init_197 (fun _ h => h.set 19 _ rfl) 198 rfl ?_
  generalize hu26 : va_up u25 16 1 = u26
  refine r_iinc hC 3 1 0 [(1, .int 3), (0, .ref (b 0))] dX6_init_198 rfl (by decide) (Nat.le_of_ble_eq_true rfl) rfl 201 rfl ?_
  refine r_goto hC 182 dX6_init_201 (by decide) ?_
  refine r_iload_n hC 0 dX6_init_182 rfl 183 rfl ?_
  refine r_iconst hC 3 dX6_init_183 ic_3 184 rfl ?_
  refine r_icge hC 204 dX6_init_184 (by decide) 187 rfl (fun _ => ?_) (fun h => absurd h (by decide))
  refine r_aload_n hC 1 dX6_init_204 rfl 205 rfl ?_
  refine r_get (v := .ref (b 3)) hC kX6 3 rfl q2756 (fun _ h => h.get 18 rfl) rfl dX6_init_205 208 rfl ?_
  refine r_iconst hC 1 dX6_init_208 ic_1 209 rfl ?_
  refine r_iconst hC 1 dX6_init_209 ic_1 210 rfl ?_
  refine r_invSr hC [.int 1, .int 1] (.int 12) mSX6_at q2711 (metX6_at _ _ hG 1 1) (fun _ _ => xIn.nil) ⟨rfl, rfl⟩ 20 5697 rfl rfl (Nat.le_of_ble_eq_true rfl) (Nat.le_of_ble_eq_true rfl) rfl (Nat.le_of_ble_eq_true rfl) dX6_init_210 213 rfl ?_
  refine r_ldc2 hC q2708 dX6_init_213 216 rfl ?_
  refine r_last (J := xSt F V0 [(b 1, .inl (1, 111, .inr (.inl (fun _ => 0)))), (b 2, .inl (1, 111, .inr (.inl (fun _ => 0)))), (b 4, .inl (1, 111, .inr (.inl (fun _ => 0)))), (b 5, .inl (1, 111, .inr (.inl (fun _ => 0)))), (b 6, .inl (1, 1110, .inr (.inl (fun _ => 0)))), (b 7, .inl (1, 5, .inr (.inl (fun _ => 0)))), (b 12, .inl (1, 6, .inr (.inl (fun _ => 0)))), (b 13, .inl (0, 600, .inl (fun _ => 0))), (b 23, .inl (1, 6, .inr (.inl (fun _ => 0)))), (b 24, .inl (1, 21, .inr (.inl (fun _ => 0)))), (b 25, .inl (1, 1806, .inr (.inl (fun _ => 0)))), (b 27, .inl (1, 301, .inr (.inl (fun _ => 0)))), (b 28, .inl (1, 301, .inr (.inl (fun _ => 0)))), (b 29, .inl (0, 301, .inl (fun _ => 0))), (b 31, .inl (2, 80, .inl (fun _ => 0))), (b 33, .inl (0, 200, .inl (fun _ => 0))), (b 34, .inl (0, 200, .inl (fun _ => 0))), (b 35, .inl (0, 200, .inl (fun _ => 0))), (b 0, .inr (5, mF b (va_up (fun _ => 0) 22 (-1)) (fun _ => 0))), (b 3, .inl (1, 111, .inr (.inl (va_up u26 12 1000)))), (b 8, .inl (1, 5, .inr (.inl told0)))]) hC 12 (xix_n 12 (Nat.le_of_ble_eq_true rfl) (Nat.le_of_ble_eq_true rfl)) (fun _ h => h.get 19 rfl) dX6_init_216 (fun _ h => h.set 19 _ rfl) 217 rfl ?_
  generalize hu27 : va_up u26 12 1000 = u27
  refine r_aload_n hC 1 dX6_init_217 rfl 218 rfl ?_
  refine r_get (v := .ref (b 3)) hC kX6 3 rfl q2756 (fun _ h => h.get 18 rfl) rfl dX6_init_218 221 rfl ?_
  refine r_iconst hC 2 dX6_init_221 ic_2 222 rfl ?_
  refine r_iconst hC 2 dX6_init_222 ic_2 223 rfl ?_
  refine r_invSr hC [.int 2, .int 2] (.int 18) mSX6_at q2711 (metX6_at _ _ hG 2 2) (fun _ _ => xIn.nil) ⟨rfl, rfl⟩ 20 5697 rfl rfl (Nat.le_of_ble_eq_true rfl) (Nat.le_of_ble_eq_true rfl) rfl (Nat.le_of_ble_eq_true rfl) dX6_init_223 226 rfl ?_
  refine r_ldc2 hC q2708 dX6_init_226 229 rfl ?_
  refine r_last (J := xSt F V0 [(b 1, .inl (1, 111, .inr (.inl (fun _ => 0)))), (b 2, .inl (1, 111, .inr (.inl (fun _ => 0)))), (b 4, .inl (1, 111, .inr (.inl (fun _ => 0)))), (b 5, .inl (1, 111, .inr (.inl (fun _ => 0)))), (b 6, .inl (1, 1110, .inr (.inl (fun _ => 0)))), (b 7, .inl (1, 5, .inr (.inl (fun _ => 0)))), (b 12, .inl (1, 6, .inr (.inl (fun _ => 0)))), (b 13, .inl (0, 600, .inl (fun _ => 0))), (b 23, .inl (1, 6, .inr (.inl (fun _ => 0)))), (b 24, .inl (1, 21, .inr (.inl (fun _ => 0)))), (b 25, .inl (1, 1806, .inr (.inl (fun _ => 0)))), (b 27, .inl (1, 301, .inr (.inl (fun _ => 0)))), (b 28, .inl (1, 301, .inr (.inl (fun _ => 0)))), (b 29, .inl (0, 301, .inl (fun _ => 0))), (b 31, .inl (2, 80, .inl (fun _ => 0))), (b 33, .inl (0, 200, .inl (fun _ => 0))), (b 34, .inl (0, 200, .inl (fun _ => 0))), (b 35, .inl (0, 200, .inl (fun _ => 0))), (b 0, .inr (5, mF b (va_up (fun _ => 0) 22 (-1)) (fun _ => 0))), (b 3, .inl (1, 111, .inr (.inl (va_up u27 18 1000)))), (b 8, .inl (1, 5, .inr (.inl told0)))]) hC 18 (xix_n 18 (Nat.le_of_ble_eq_true rfl) (Nat.le_of_ble_eq_true rfl)) (fun _ h => h.get 19 rfl) dX6_init_229 (fun _ h => h.set 19 _ rfl) 230 rfl ?_
  generalize hu28 : va_up u27 18 1000 = u28
  subst hu28
  subst hu27
  subst hu26
  subst hu25
  subst hu24
  show rn C (xSt F V0 [(b 1, .inl (1, 111, .inr (.inl (fun _ => 0)))), (b 2, .inl (1, 111, .inr (.inl (fun _ => 0)))), (b 4, .inl (1, 111, .inr (.inl (fun _ => 0)))), (b 5, .inl (1, 111, .inr (.inl (fun _ => 0)))), (b 6, .inl (1, 1110, .inr (.inl (fun _ => 0)))), (b 7, .inl (1, 5, .inr (.inl (fun _ => 0)))), (b 12, .inl (1, 6, .inr (.inl (fun _ => 0)))), (b 13, .inl (0, 600, .inl (fun _ => 0))), (b 23, .inl (1, 6, .inr (.inl (fun _ => 0)))), (b 24, .inl (1, 21, .inr (.inl (fun _ => 0)))), (b 25, .inl (1, 1806, .inr (.inl (fun _ => 0)))), (b 27, .inl (1, 301, .inr (.inl (fun _ => 0)))), (b 28, .inl (1, 301, .inr (.inl (fun _ => 0)))), (b 29, .inl (0, 301, .inl (fun _ => 0))), (b 31, .inl (2, 80, .inl (fun _ => 0))), (b 33, .inl (0, 200, .inl (fun _ => 0))), (b 34, .inl (0, 200, .inl (fun _ => 0))), (b 35, .inl (0, 200, .inl (fun _ => 0))), (b 0, .inr (5, mF b (va_up (fun _ => 0) 22 (-1)) (fun _ => 0))), (b 3, .inl (1, 111, .inr (.inl rowC))), (b 8, .inl (1, 5, .inr (.inl told0)))]) 20 5697 230 [(1, .int 3), (0, .ref (b 0))] []
  refine r_aload_n hC 1 dX6_init_230 rfl 231 rfl ?_
  refine r_invVw hC kX6 (b 0) [] [(b 2, .inl (1, 111, .inr (.inl (fun _ => 0)))), (b 4, .inl (1, 111, .inr (.inl (fun _ => 0)))), (b 5, .inl (1, 111, .inr (.inl (fun _ => 0)))), (b 6, .inl (1, 1110, .inr (.inl (fun _ => 0)))), (b 12, .inl (1, 6, .inr (.inl (fun _ => 0)))), (b 13, .inl (0, 600, .inl (fun _ => 0))), (b 23, .inl (1, 6, .inr (.inl (fun _ => 0)))), (b 24, .inl (1, 21, .inr (.inl (fun _ => 0)))), (b 25, .inl (1, 1806, .inr (.inl (fun _ => 0)))), (b 27, .inl (1, 301, .inr (.inl (fun _ => 0)))), (b 28, .inl (1, 301, .inr (.inl (fun _ => 0)))), (b 29, .inl (0, 301, .inl (fun _ => 0))), (b 31, .inl (2, 80, .inl (fun _ => 0))), (b 33, .inl (0, 200, .inl (fun _ => 0))), (b 34, .inl (0, 200, .inl (fun _ => 0))), (b 35, .inl (0, 200, .inl (fun _ => 0)))] mVX6_becomes q2714 18 rfl (metX6_becomes _ _ hG b (va_up (fun _ => 0) 22 (-1)) (fun _ => 0) _ _ _ _ tOK_0 mOK_C) [18, 19, 20, 0, 5] [1, 2, 3, 4, 6, 7, 8, 9, 10, 11, 12, 13, 14, 15, 16, 17] rfl rfl rfl rfl (by decide) ⟨rfl, rfl⟩ 20 5697 rfl rfl (Nat.le_of_ble_eq_true rfl) (Nat.le_of_ble_eq_true rfl) rfl (Nat.le_of_ble_eq_true rfl) dX6_init_231 234 rfl (fun v29 w30 h31 => ?_) (fun _ _ h => h.elim)
  obtain ⟨rfl, rfl⟩ := h31
  show rn C (xSt F V0 [(b 2, .inl (1, 111, .inr (.inl (fun _ => 0)))), (b 4, .inl (1, 111, .inr (.inl (fun _ => 0)))), (b 5, .inl (1, 111, .inr (.inl (fun _ => 0)))), (b 6, .inl (1, 1110, .inr (.inl (fun _ => 0)))), (b 12, .inl (1, 6, .inr (.inl (fun _ => 0)))), (b 13, .inl (0, 600, .inl (fun _ => 0))), (b 23, .inl (1, 6, .inr (.inl (fun _ => 0)))), (b 24, .inl (1, 21, .inr (.inl (fun _ => 0)))), (b 25, .inl (1, 1806, .inr (.inl (fun _ => 0)))), (b 27, .inl (1, 301, .inr (.inl (fun _ => 0)))), (b 28, .inl (1, 301, .inr (.inl (fun _ => 0)))), (b 29, .inl (0, 301, .inl (fun _ => 0))), (b 31, .inl (2, 80, .inl (fun _ => 0))), (b 33, .inl (0, 200, .inl (fun _ => 0))), (b 34, .inl (0, 200, .inl (fun _ => 0))), (b 35, .inl (0, 200, .inl (fun _ => 0))), (b 0, .inr (5, mF b (va_up (va_up (va_up (va_up (fun _ => 0) 22 (-1)) 10 0) 9 0) 11 0) (fun _ => 0))), (b 3, .inl (1, 111, .inr (.inl rowC))), (b 8, .inl (1, 5, .inr (.inl told0))), (b 1, .inl (1, 111, .inr (.inl (begR told0 rowC)))), (b 7, .inl (1, 5, .inr (.inl told0)))]) 20 5697 234 [(1, .int 3), (0, .ref (b 0))] []
  exact r_vret hC (Nat.le_of_ble_eq_true rfl) (Nat.le_of_ble_eq_true rfl) (fun V9 h => hQ _ _ ⟨[(b 0, .inr (5, mF b (va_up (va_up (va_up (va_up (fun _ => 0) 22 (-1)) 10 0) 9 0) 11 0) (fun _ => 0))), (b 1, .inl (1, 111, .inr (.inl (begR told0 rowC)))), (b 2, .inl (1, 111, .inr (.inl (fun _ => 0)))), (b 3, .inl (1, 111, .inr (.inl rowC))), (b 4, .inl (1, 111, .inr (.inl (fun _ => 0)))), (b 5, .inl (1, 111, .inr (.inl (fun _ => 0)))), (b 6, .inl (1, 1110, .inr (.inl (fun _ => 0)))), (b 7, .inl (1, 5, .inr (.inl told0))), (b 8, .inl (1, 5, .inr (.inl told0))), (b 12, .inl (1, 6, .inr (.inl (fun _ => 0)))), (b 13, .inl (0, 600, .inl (fun _ => 0))), (b 23, .inl (1, 6, .inr (.inl (fun _ => 0)))), (b 24, .inl (1, 21, .inr (.inl (fun _ => 0)))), (b 25, .inl (1, 1806, .inr (.inl (fun _ => 0)))), (b 27, .inl (1, 301, .inr (.inl (fun _ => 0)))), (b 28, .inl (1, 301, .inr (.inl (fun _ => 0)))), (b 29, .inl (0, 301, .inl (fun _ => 0))), (b 31, .inl (2, 80, .inl (fun _ => 0))), (b 33, .inl (0, 200, .inl (fun _ => 0))), (b 34, .inl (0, 200, .inl (fun _ => 0))), (b 35, .inl (0, 200, .inl (fun _ => 0)))], ⟨b, rfl, rfl, rfl⟩, by rw [← hV0, ← hF]; exact (h.sub [16, 19, 0, 17, 1, 2, 3, 20, 18, 4, 5, 6, 7, 8, 9, 10, 11, 12, 13, 14, 15] rfl rfl)⟩) dX6_init_234
