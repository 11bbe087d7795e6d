/-! ===== the class: rows of parts and of measures ===== -/
set_option maxRecDepth 100000
def nQ : Nat → Option Nat := fun _ => none
def meF (g : Nat → Nat) : Nat → Option Nat := fun j => some (g (4 + j))
set_option maxHeartbeats 4000000 in
set_option maxRecDepth 100000 in
theorem metX1_row (l : Launch) (G : xG) (hG : xGood G) (q : Nat) : xRm l G yX1_row (Cond.code yX1_row cX1_row 1 (some (.array (.object "ThreeBodies$Part")))) { frames := 0, locals := 0, cells := 0, slots := 0 } [.ref q] [] (some (.ref q)) := by
  intro V hV
  refine xMet_ofT RX1 hG rfl (by decide) (Nat.le_of_ble_eq_true rfl) fun C hC hQ hX hl hg _ hTab => ?_
  subst hl hg
  refine rn.mono (J := xRo [] V) (fun V9 h => ⟨h, hV⟩) ?_
  show rn C (xRo [] V) 0 0 0 [(0, .ref q)] []
  refine r_aload_n hC 0 dX1_row_0 rfl 1 rfl ?_
  exact r_aret hC (v := (some q)) (Or.inr ⟨_, rfl⟩) (Nat.le_of_ble_eq_true rfl) (Nat.le_of_ble_eq_true rfl) (fun V9 h => hQ _ _ ⟨rfl, h.1⟩) dX1_row_1
set_option maxHeartbeats 4000000 in
set_option maxRecDepth 100000 in
theorem metX1_schemes (l : Launch) (G : xG) (hG : xGood G) (g : Nat → Nat) (hgl : g = G.2.2.2) : xWm l G yX1_schemes (Cond.code yX1_schemes cX1_schemes 5 (some (.array (.array (.object "ThreeBodies$Part"))))) { frames := 1, locals := 3088, cells := 4, slots := 11 } [] [] (fun v w' => ∃ (sc : Nat) (p : Nat → Nat), v = some (.ref sc) ∧ w' = [(sc, .inl (5, 3, .inr (.inr (.inr (.inr (scF p)))))), (p 0, .inl (4, 2, .inr (.inr (.inr (.inr (rwF g 0)))))), (p 1, .inl (4, 3, .inr (.inr (.inr (.inr (rwF g 1)))))), (p 2, .inl (4, 3, .inr (.inr (.inr (.inr (rwF g 2))))))]) (fun _ _ => False) := by
  intro V hV
  refine xMet_ofN RX1 hG rfl (by decide) (Nat.le_of_ble_eq_true rfl) fun C hC hQ hX hl hg _ hTab hNm => ?_
  subst hl hg
  obtain ⟨V0, hV0⟩ : ∃ V0, V0 = V := ⟨_, rfl⟩
  obtain ⟨F, hF⟩ : ∃ F, F = xF [] := ⟨_, rfl⟩
  refine rn.mono (J := xSt F V0 []) (fun V9 h => by rw [h, hV0, hF]; exact hV.st) ?_
  show rn C (xSt F V0 []) 0 0 0 [] []
  refine r_indyC hC hG 0 rfl rfl rfl hNm rfl rfl (Nat.le_of_ble_eq_true rfl) dX1_schemes_0 ?_
  rw [← hgl]
  show rn C (xSt F V0 []) 0 0 5 [] [.ref (g 0)]
  refine r_astore_n hC 0 [(0, .ref (g 0))] dX1_schemes_5 rfl (Nat.le_of_ble_eq_true rfl) rfl 6 rfl ?_
  refine r_indyC hC hG 1 rfl rfl rfl hNm rfl rfl (Nat.le_of_ble_eq_true rfl) dX1_schemes_6 ?_
  rw [← hgl]
  show rn C (xSt F V0 []) 0 0 11 [(0, .ref (g 0))] [.ref (g 1)]
  refine r_astore_n hC 1 [(1, .ref (g 1)), (0, .ref (g 0))] dX1_schemes_11 rfl (Nat.le_of_ble_eq_true rfl) rfl 12 rfl ?_
  refine r_indyC hC hG 2 rfl rfl rfl hNm rfl rfl (Nat.le_of_ble_eq_true rfl) dX1_schemes_12 ?_
  rw [← hgl]
  show rn C (xSt F V0 []) 0 0 17 [(1, .ref (g 1)), (0, .ref (g 0))] [.ref (g 2)]
  refine r_astore_n hC 2 [(2, .ref (g 2)), (1, .ref (g 1)), (0, .ref (g 0))] dX1_schemes_17 rfl (Nat.le_of_ble_eq_true rfl) rfl 18 rfl ?_
  refine r_indyC hC hG 3 rfl rfl rfl hNm rfl rfl (Nat.le_of_ble_eq_true rfl) dX1_schemes_18 ?_
  rw [← hgl]
  show rn C (xSt F V0 []) 0 0 23 [(2, .ref (g 2)), (1, .ref (g 1)), (0, .ref (g 0))] [.ref (g 3)]
  refine r_astore_n hC 3 [(3, .ref (g 3)), (2, .ref (g 2)), (1, .ref (g 1)), (0, .ref (g 0))] dX1_schemes_23 rfl (Nat.le_of_ble_eq_true rfl) rfl 24 rfl ?_
  refine r_iconst hC 3 dX1_schemes_24 ic_3 25 rfl ?_
  refine r_anew (J := fun q1 => xSt F V0 [(q1, .inl (5, 3, .inr (.inr (.inr (.inr nQ)))))]) hC hG (.array (.object "ThreeBodies$Part")) 5 3 q426 q427 rfl rfl rfl (Nat.le_of_ble_eq_true rfl) (Nat.le_of_ble_eq_true rfl) (Nat.le_of_ble_eq_true rfl) dX1_schemes_25 (fun _ h => h.push _) 28 rfl (fun q1 => ?_)
  show rn C (xSt F V0 [(q1, .inl (5, 3, .inr (.inr (.inr (.inr nQ)))))]) 1 3 28 [(3, .ref (g 3)), (2, .ref (g 2)), (1, .ref (g 1)), (0, .ref (g 0))] [.ref q1]
  refine r_astore hC 4 [(4, .ref q1), (3, .ref (g 3)), (2, .ref (g 2)), (1, .ref (g 1)), (0, .ref (g 0))] dX1_schemes_28 (Nat.le_of_ble_eq_true rfl) rfl 30 rfl ?_
  refine r_aload hC 0 dX1_schemes_30 rfl 32 rfl ?_
  refine r_iconst hC 0 dX1_schemes_32 ic_0 33 rfl ?_
  refine r_iconst hC 2 dX1_schemes_33 ic_2 34 rfl ?_
  refine r_anew (J := fun q2 => xSt F V0 [(q1, .inl (5, 3, .inr (.inr (.inr (.inr nQ))))), (q2, .inl (4, 2, .inr (.inr (.inr (.inr nQ)))))]) hC hG (.object "ThreeBodies$Part") 4 2 q429 q428 rfl rfl rfl (Nat.le_of_ble_eq_true rfl) (Nat.le_of_ble_eq_true rfl) (Nat.le_of_ble_eq_true rfl) dX1_schemes_34 (fun _ h => h.push _) 37 rfl (fun q2 => ?_)
  show rn C (xSt F V0 [(q1, .inl (5, 3, .inr (.inr (.inr (.inr nQ))))), (q2, .inl (4, 2, .inr (.inr (.inr (.inr nQ)))))]) 2 5 37 [(4, .ref q1), (3, .ref (g 3)), (2, .ref (g 2)), (1, .ref (g 1)), (0, .ref (g 0))] [.ref q2, .int 0, .ref q1]
  refine r_dup hC dX1_schemes_37 rfl 38 rfl ?_
  refine r_iconst hC 0 dX1_schemes_38 ic_0 39 rfl ?_
  refine r_aload_n hC 4 dX1_schemes_39 rfl 40 rfl ?_
  refine r_aastL (J := xSt F V0 [(q1, .inl (5, 3, .inr (.inr (.inr (.inr nQ))))), (q2, .inl (4, 2, .inr (.inr (.inr (.inr (va_up nQ 0 (some (g 0))))))))]) hC hG 0 rfl rfl rfl (congrFun hgl 0) 0 (xix_n 0 (Nat.le_of_ble_eq_true rfl) (Nat.le_of_ble_eq_true rfl)) rfl (fun _ h => h.get 1 rfl) dX1_schemes_40 (fun _ h => h.set 1 _ rfl) 41 rfl ?_
  refine r_dup hC dX1_schemes_41 rfl 42 rfl ?_
  refine r_iconst hC 1 dX1_schemes_42 ic_1 43 rfl ?_
  refine r_aload_n hC 2 dX1_schemes_43 rfl 44 rfl ?_
  refine r_aastL (J := xSt F V0 [(q1, .inl (5, 3, .inr (.inr (.inr (.inr nQ))))), (q2, .inl (4, 2, .inr (.inr (.inr (.inr (va_up (va_up nQ 0 (some (g 0))) 1 (some (g 2))))))))]) hC hG 2 rfl rfl rfl (congrFun hgl 2) 1 (xix_n 1 (Nat.le_of_ble_eq_true rfl) (Nat.le_of_ble_eq_true rfl)) rfl (fun _ h => h.get 1 rfl) dX1_schemes_44 (fun _ h => h.set 1 _ rfl) 45 rfl ?_
  refine xCall.r (r := some (.ref q2)) (r_cS hC [.ref q2] mSX1_row q430 (fun V9 h9 => (metX1_row _ _ hG q2) V9 xIn.nil) ⟨rfl, rfl⟩ (Nat.le_of_ble_eq_true rfl) (Nat.le_of_ble_eq_true rfl) rfl (Nat.le_of_ble_eq_true rfl) dX1_schemes_45) 2 5 48 rfl rfl rfl ?_
  refine r_aastA (J := xSt F V0 [(q1, .inl (5, 3, .inr (.inr (.inr (.inr (va_up nQ 0 (some q2))))))), (q2, .inl (4, 2, .inr (.inr (.inr (.inr (va_up (va_up nQ 0 (some (g 0))) 1 (some (g 2))))))))]) hC hG q427 (t2 := 4) rfl _ (fun _ h => h.get 1 rfl) 0 (xix_n 0 (Nat.le_of_ble_eq_true rfl) (Nat.le_of_ble_eq_true rfl)) rfl (fun _ h => h.get 0 rfl) dX1_schemes_48 (fun _ h => h.set 0 _ rfl) 49 rfl ?_
  refine r_aload hC 0 dX1_schemes_49 rfl 51 rfl ?_
  refine r_iconst hC 1 dX1_schemes_51 ic_1 52 rfl ?_
  refine r_iconst hC 3 dX1_schemes_52 ic_3 53 rfl ?_
  refine r_anew (J := fun q3 => xSt F V0 [(q1, .inl (5, 3, .inr (.inr (.inr (.inr (va_up nQ 0 (some q2))))))), (q2, .inl (4, 2, .inr (.inr (.inr (.inr (va_up (va_up nQ 0 (some (g 0))) 1 (some (g 2)))))))), (q3, .inl (4, 3, .inr (.inr (.inr (.inr nQ)))))]) hC hG (.object "ThreeBodies$Part") 4 3 q429 q428 rfl rfl rfl (Nat.le_of_ble_eq_true rfl) (Nat.le_of_ble_eq_true rfl) (Nat.le_of_ble_eq_true rfl) dX1_schemes_53 (fun _ h => h.push _) 56 rfl (fun q3 => ?_)
  show rn C (xSt F V0 [(q1, .inl (5, 3, .inr (.inr (.inr (.inr (va_up nQ 0 (some q2))))))), (q2, .inl (4, 2, .inr (.inr (.inr (.inr (va_up (va_up nQ 0 (some (g 0))) 1 (some (g 2)))))))), (q3, .inl (4, 3, .inr (.inr (.inr (.inr nQ)))))]) 3 8 56 [(4, .ref q1), (3, .ref (g 3)), (2, .ref (g 2)), (1, .ref (g 1)), (0, .ref (g 0))] [.ref q3, .int 1, .ref q1]
  refine r_dup hC dX1_schemes_56 rfl 57 rfl ?_
  refine r_iconst hC 0 dX1_schemes_57 ic_0 58 rfl ?_
  refine r_aload_n hC 1 dX1_schemes_58 rfl 59 rfl ?_
  refine r_aastL (J := xSt F V0 [(q1, .inl (5, 3, .inr (.inr (.inr (.inr (va_up nQ 0 (some q2))))))), (q2, .inl (4, 2, .inr (.inr (.inr (.inr (va_up (va_up nQ 0 (some (g 0))) 1 (some (g 2)))))))), (q3, .inl (4, 3, .inr (.inr (.inr (.inr (va_up nQ 0 (some (g 3))))))))]) hC hG 3 rfl rfl rfl (congrFun hgl 3) 0 (xix_n 0 (Nat.le_of_ble_eq_true rfl) (Nat.le_of_ble_eq_true rfl)) rfl (fun _ h => h.get 2 rfl) dX1_schemes_59 (fun _ h => h.set 2 _ rfl) 60 rfl ?_
  refine r_dup hC dX1_schemes_60 rfl 61 rfl ?_
  refine r_iconst hC 1 dX1_schemes_61 ic_1 62 rfl ?_
  refine r_aload_n hC 4 dX1_schemes_62 rfl 63 rfl ?_
  refine r_aastL (J := xSt F V0 [(q1, .inl (5, 3, .inr (.inr (.inr (.inr (va_up nQ 0 (some q2))))))), (q2, .inl (4, 2, .inr (.inr (.inr (.inr (va_up (va_up nQ 0 (some (g 0))) 1 (some (g 2)))))))), (q3, .inl (4, 3, .inr (.inr (.inr (.inr (va_up (va_up nQ 0 (some (g 3))) 1 (some (g 0))))))))]) hC hG 0 rfl rfl rfl (congrFun hgl 0) 1 (xix_n 1 (Nat.le_of_ble_eq_true rfl) (Nat.le_of_ble_eq_true rfl)) rfl (fun _ h => h.get 2 rfl) dX1_schemes_63 (fun _ h => h.set 2 _ rfl) 64 rfl ?_
  refine r_dup hC dX1_schemes_64 rfl 65 rfl ?_
  refine r_iconst hC 2 dX1_schemes_65 ic_2 66 rfl ?_
  refine r_aload_n hC 1 dX1_schemes_66 rfl 67 rfl ?_
  refine r_aastL (J := xSt F V0 [(q1, .inl (5, 3, .inr (.inr (.inr (.inr (va_up nQ 0 (some q2))))))), (q2, .inl (4, 2, .inr (.inr (.inr (.inr (va_up (va_up nQ 0 (some (g 0))) 1 (some (g 2)))))))), (q3, .inl (4, 3, .inr (.inr (.inr (.inr (va_up (va_up (va_up nQ 0 (some (g 3))) 1 (some (g 0))) 2 (some (g 3))))))))]) hC hG 3 rfl rfl rfl (congrFun hgl 3) 2 (xix_n 2 (Nat.le_of_ble_eq_true rfl) (Nat.le_of_ble_eq_true rfl)) rfl (fun _ h => h.get 2 rfl) dX1_schemes_67 (fun _ h => h.set 2 _ rfl) 68 rfl ?_
  refine xCall.r (r := some (.ref q3)) (r_cS hC [.ref q3] mSX1_row q430 (fun V9 h9 => (metX1_row _ _ hG q3) V9 xIn.nil) ⟨rfl, rfl⟩ (Nat.le_of_ble_eq_true rfl) (Nat.le_of_ble_eq_true rfl) rfl (Nat.le_of_ble_eq_true rfl) dX1_schemes_68) 3 8 71 rfl rfl rfl ?_
  refine r_aastA (J := xSt F V0 [(q1, .inl (5, 3, .inr (.inr (.inr (.inr (va_up (va_up nQ 0 (some q2)) 1 (some q3))))))), (q2, .inl (4, 2, .inr (.inr (.inr (.inr (va_up (va_up nQ 0 (some (g 0))) 1 (some (g 2)))))))), (q3, .inl (4, 3, .inr (.inr (.inr (.inr (va_up (va_up (va_up nQ 0 (some (g 3))) 1 (some (g 0))) 2 (some (g 3))))))))]) hC hG q427 (t2 := 4) rfl _ (fun _ h => h.get 2 rfl) 1 (xix_n 1 (Nat.le_of_ble_eq_true rfl) (Nat.le_of_ble_eq_true rfl)) rfl (fun _ h => h.get 0 rfl) dX1_schemes_71 (fun _ h => h.set 0 _ rfl) 72 rfl ?_
  refine r_aload hC 0 dX1_schemes_72 rfl 74 rfl ?_
  refine r_iconst hC 2 dX1_schemes_74 ic_2 75 rfl ?_
  refine r_iconst hC 3 dX1_schemes_75 ic_3 76 rfl ?_
  refine r_anew (J := fun q4 => xSt F V0 [(q1, .inl (5, 3, .inr (.inr (.inr (.inr (va_up (va_up nQ 0 (some q2)) 1 (some q3))))))), (q2, .inl (4, 2, .inr (.inr (.inr (.inr (va_up (va_up nQ 0 (some (g 0))) 1 (some (g 2)))))))), (q3, .inl (4, 3, .inr (.inr (.inr (.inr (va_up (va_up (va_up nQ 0 (some (g 3))) 1 (some (g 0))) 2 (some (g 3)))))))), (q4, .inl (4, 3, .inr (.inr (.inr (.inr nQ)))))]) hC hG (.object "ThreeBodies$Part") 4 3 q429 q428 rfl rfl rfl (Nat.le_of_ble_eq_true rfl) (Nat.le_of_ble_eq_true rfl) (Nat.le_of_ble_eq_true rfl) dX1_schemes_76 (fun _ h => h.push _) 79 rfl (fun q4 => ?_)
  show rn C (xSt F V0 [(q1, .inl (5, 3, .inr (.inr (.inr (.inr (va_up (va_up nQ 0 (some q2)) 1 (some q3))))))), (q2, .inl (4, 2, .inr (.inr (.inr (.inr (va_up (va_up nQ 0 (some (g 0))) 1 (some (g 2)))))))), (q3, .inl (4, 3, .inr (.inr (.inr (.inr (va_up (va_up (va_up nQ 0 (some (g 3))) 1 (some (g 0))) 2 (some (g 3)))))))), (q4, .inl (4, 3, .inr (.inr (.inr (.inr nQ)))))]) 4 11 79 [(4, .ref q1), (3, .ref (g 3)), (2, .ref (g 2)), (1, .ref (g 1)), (0, .ref (g 0))] [.ref q4, .int 2, .ref q1]
  refine r_dup hC dX1_schemes_79 rfl 80 rfl ?_
  refine r_iconst hC 0 dX1_schemes_80 ic_0 81 rfl ?_
  refine r_aload_n hC 3 dX1_schemes_81 rfl 82 rfl ?_
  refine r_aastL (J := xSt F V0 [(q1, .inl (5, 3, .inr (.inr (.inr (.inr (va_up (va_up nQ 0 (some q2)) 1 (some q3))))))), (q2, .inl (4, 2, .inr (.inr (.inr (.inr (va_up (va_up nQ 0 (some (g 0))) 1 (some (g 2)))))))), (q3, .inl (4, 3, .inr (.inr (.inr (.inr (va_up (va_up (va_up nQ 0 (some (g 3))) 1 (some (g 0))) 2 (some (g 3)))))))), (q4, .inl (4, 3, .inr (.inr (.inr (.inr (va_up nQ 0 (some (g 1))))))))]) hC hG 1 rfl rfl rfl (congrFun hgl 1) 0 (xix_n 0 (Nat.le_of_ble_eq_true rfl) (Nat.le_of_ble_eq_true rfl)) rfl (fun _ h => h.get 3 rfl) dX1_schemes_82 (fun _ h => h.set 3 _ rfl) 83 rfl ?_
  refine r_dup hC dX1_schemes_83 rfl 84 rfl ?_
  refine r_iconst hC 1 dX1_schemes_84 ic_1 85 rfl ?_
  refine r_aload_n hC 2 dX1_schemes_85 rfl 86 rfl ?_
  refine r_aastL (J := xSt F V0 [(q1, .inl (5, 3, .inr (.inr (.inr (.inr (va_up (va_up nQ 0 (some q2)) 1 (some q3))))))), (q2, .inl (4, 2, .inr (.inr (.inr (.inr (va_up (va_up nQ 0 (some (g 0))) 1 (some (g 2)))))))), (q3, .inl (4, 3, .inr (.inr (.inr (.inr (va_up (va_up (va_up nQ 0 (some (g 3))) 1 (some (g 0))) 2 (some (g 3)))))))), (q4, .inl (4, 3, .inr (.inr (.inr (.inr (va_up (va_up nQ 0 (some (g 1))) 1 (some (g 2))))))))]) hC hG 2 rfl rfl rfl (congrFun hgl 2) 1 (xix_n 1 (Nat.le_of_ble_eq_true rfl) (Nat.le_of_ble_eq_true rfl)) rfl (fun _ h => h.get 3 rfl) dX1_schemes_86 (fun _ h => h.set 3 _ rfl) 87 rfl ?_
  refine r_dup hC dX1_schemes_87 rfl 88 rfl ?_
  refine r_iconst hC 2 dX1_schemes_88 ic_2 89 rfl ?_
  refine r_aload_n hC 3 dX1_schemes_89 rfl 90 rfl ?_
  refine r_aastL (J := xSt F V0 [(q1, .inl (5, 3, .inr (.inr (.inr (.inr (va_up (va_up nQ 0 (some q2)) 1 (some q3))))))), (q2, .inl (4, 2, .inr (.inr (.inr (.inr (va_up (va_up nQ 0 (some (g 0))) 1 (some (g 2)))))))), (q3, .inl (4, 3, .inr (.inr (.inr (.inr (va_up (va_up (va_up nQ 0 (some (g 3))) 1 (some (g 0))) 2 (some (g 3)))))))), (q4, .inl (4, 3, .inr (.inr (.inr (.inr (va_up (va_up (va_up nQ 0 (some (g 1))) 1 (some (g 2))) 2 (some (g 1))))))))]) hC hG 1 rfl rfl rfl (congrFun hgl 1) 2 (xix_n 2 (Nat.le_of_ble_eq_true rfl) (Nat.le_of_ble_eq_true rfl)) rfl (fun _ h => h.get 3 rfl) dX1_schemes_90 (fun _ h => h.set 3 _ rfl) 91 rfl ?_
  refine xCall.r (r := some (.ref q4)) (r_cS hC [.ref q4] mSX1_row q430 (fun V9 h9 => (metX1_row _ _ hG q4) V9 xIn.nil) ⟨rfl, rfl⟩ (Nat.le_of_ble_eq_true rfl) (Nat.le_of_ble_eq_true rfl) rfl (Nat.le_of_ble_eq_true rfl) dX1_schemes_91) 4 11 94 rfl rfl rfl ?_
  refine r_aastA (J := xSt F V0 [(q1, .inl (5, 3, .inr (.inr (.inr (.inr (va_up (va_up (va_up nQ 0 (some q2)) 1 (some q3)) 2 (some q4))))))), (q2, .inl (4, 2, .inr (.inr (.inr (.inr (va_up (va_up nQ 0 (some (g 0))) 1 (some (g 2)))))))), (q3, .inl (4, 3, .inr (.inr (.inr (.inr (va_up (va_up (va_up nQ 0 (some (g 3))) 1 (some (g 0))) 2 (some (g 3)))))))), (q4, .inl (4, 3, .inr (.inr (.inr (.inr (va_up (va_up (va_up nQ 0 (some (g 1))) 1 (some (g 2))) 2 (some (g 1))))))))]) hC hG q427 (t2 := 4) rfl _ (fun _ h => h.get 3 rfl) 2 (xix_n 2 (Nat.le_of_ble_eq_true rfl) (Nat.le_of_ble_eq_true rfl)) rfl (fun _ h => h.get 0 rfl) dX1_schemes_94 (fun _ h => h.set 0 _ rfl) 95 rfl ?_
  refine r_aload hC 0 dX1_schemes_95 rfl 97 rfl ?_
  refine rn_cellQ (J := xSt F V0 [(q1, .inl (5, 3, .inr (.inr (.inr (.inr (va_up (va_up (va_up nQ 0 (some q2)) 1 (some q3)) 2 (some q4))))))), (q2, .inl (4, 2, .inr (.inr (.inr (.inr (rwF g 0)))))), (q3, .inl (4, 3, .inr (.inr (.inr (.inr (va_up (va_up (va_up nQ 0 (some (g 3))) 1 (some (g 0))) 2 (some (g 3)))))))), (q4, .inl (4, 3, .inr (.inr (.inr (.inr (va_up (va_up (va_up nQ 0 (some (g 1))) 1 (some (g 2))) 2 (some (g 1))))))))]) (fun _ h => h.get 1 rfl) (fun j9 hj9 => by rcases (show j9 = 0 ∨ j9 = 1 by omega) with rfl | rfl <;> rfl) (fun _ h => h.set 1 _ rfl) ?_
  refine rn_cellQ (J := xSt F V0 [(q1, .inl (5, 3, .inr (.inr (.inr (.inr (va_up (va_up (va_up nQ 0 (some q2)) 1 (some q3)) 2 (some q4))))))), (q2, .inl (4, 2, .inr (.inr (.inr (.inr (rwF g 0)))))), (q3, .inl (4, 3, .inr (.inr (.inr (.inr (rwF g 1)))))), (q4, .inl (4, 3, .inr (.inr (.inr (.inr (va_up (va_up (va_up nQ 0 (some (g 1))) 1 (some (g 2))) 2 (some (g 1))))))))]) (fun _ h => h.get 2 rfl) (fun j9 hj9 => by rcases (show j9 = 0 ∨ j9 = 1 ∨ j9 = 2 by omega) with rfl | rfl | rfl <;> rfl) (fun _ h => h.set 2 _ rfl) ?_
  refine rn_cellQ (J := xSt F V0 [(q1, .inl (5, 3, .inr (.inr (.inr (.inr (va_up (va_up (va_up nQ 0 (some q2)) 1 (some q3)) 2 (some q4))))))), (q2, .inl (4, 2, .inr (.inr (.inr (.inr (rwF g 0)))))), (q3, .inl (4, 3, .inr (.inr (.inr (.inr (rwF g 1)))))), (q4, .inl (4, 3, .inr (.inr (.inr (.inr (rwF g 2))))))]) (fun _ h => h.get 3 rfl) (fun j9 hj9 => by rcases (show j9 = 0 ∨ j9 = 1 ∨ j9 = 2 by omega) with rfl | rfl | rfl <;> rfl) (fun _ h => h.set 3 _ rfl) ?_
  refine rn_cellQ (J := xSt F V0 [(q1, .inl (5, 3, .inr (.inr (.inr (.inr (scF (fun k => if k = 0 then q2 else if k = 1 then q3 else q4))))))), (q2, .inl (4, 2, .inr (.inr (.inr (.inr (rwF g 0)))))), (q3, .inl (4, 3, .inr (.inr (.inr (.inr (rwF g 1)))))), (q4, .inl (4, 3, .inr (.inr (.inr (.inr (rwF g 2))))))]) (fun _ h => h.get 0 rfl) (fun j9 hj9 => by rcases (show j9 = 0 ∨ j9 = 1 ∨ j9 = 2 by omega) with rfl | rfl | rfl <;> rfl) (fun _ h => h.set 0 _ rfl) ?_
  exact r_aret hC (v := (some q1)) (Or.inr ⟨_, rfl⟩) (Nat.le_of_ble_eq_true rfl) (Nat.le_of_ble_eq_true rfl) (fun V9 h => hQ _ _ ⟨[(q1, .inl (5, 3, .inr (.inr (.inr (.inr (scF (fun k => if k = 0 then q2 else if k = 1 then q3 else q4))))))), (q2, .inl (4, 2, .inr (.inr (.inr (.inr (rwF g 0)))))), (q3, .inl (4, 3, .inr (.inr (.inr (.inr (rwF g 1)))))), (q4, .inl (4, 3, .inr (.inr (.inr (.inr (rwF g 2))))))], ⟨q1, (fun k => if k = 0 then q2 else if k = 1 then q3 else q4), rfl, rfl⟩, by rw [← hV0, ← hF]; exact (h.sub [0, 1, 2, 3] rfl rfl)⟩) dX1_schemes_97
set_option maxHeartbeats 4000000 in
set_option maxRecDepth 100000 in
theorem metX1_measures (l : Launch) (G : xG) (hG : xGood G) (g : Nat → Nat) (hgl : g = G.2.2.2) : xWm l G yX1_measures (Cond.code yX1_measures cX1_measures 1 (some (.array (.object "ThreeBodies$Measure")))) { frames := 0, locals := 3088, cells := 1, slots := 4 } [] [] (fun v w' => ∃ ms : Nat, v = some (.ref ms) ∧ w' = [(ms, .inl (6, 4, .inr (.inr (.inr (.inr (meF g))))))]) (fun _ _ => False) := by
  intro V hV
  refine xMet_ofN RX1 hG rfl (by decide) (Nat.le_of_ble_eq_true rfl) fun C hC hQ hX hl hg _ hTab hNm => ?_
  subst hl hg
  obtain ⟨V0, hV0⟩ : ∃ V0, V0 = V := ⟨_, rfl⟩
  obtain ⟨F, hF⟩ : ∃ F, F = xF [] := ⟨_, rfl⟩
  refine rn.mono (J := xSt F V0 []) (fun V9 h => by rw [h, hV0, hF]; exact hV.st) ?_
  show rn C (xSt F V0 []) 0 0 0 [] []
  refine r_iconst hC 4 dX1_measures_0 ic_4 1 rfl ?_
  refine r_anew (J := fun q1 => xSt F V0 [(q1, .inl (6, 4, .inr (.inr (.inr (.inr nQ)))))]) hC hG (.object "ThreeBodies$Measure") 6 4 q436 q437 rfl rfl rfl (Nat.le_of_ble_eq_true rfl) (Nat.le_of_ble_eq_true rfl) (Nat.le_of_ble_eq_true rfl) dX1_measures_1 (fun _ h => h.push _) 4 rfl (fun q1 => ?_)
  show rn C (xSt F V0 [(q1, .inl (6, 4, .inr (.inr (.inr (.inr nQ)))))]) 1 4 4 [] [.ref q1]
  refine r_astore_n hC 0 [(0, .ref q1)] dX1_measures_4 rfl (Nat.le_of_ble_eq_true rfl) rfl 5 rfl ?_
  refine r_aload_n hC 0 dX1_measures_5 rfl 6 rfl ?_
  refine r_iconst hC 0 dX1_measures_6 ic_0 7 rfl ?_
  refine r_indyC hC hG 4 rfl rfl rfl hNm rfl rfl (Nat.le_of_ble_eq_true rfl) dX1_measures_7 ?_
  rw [← hgl]
  show rn C (xSt F V0 [(q1, .inl (6, 4, .inr (.inr (.inr (.inr nQ)))))]) 1 4 12 [(0, .ref q1)] [.ref (g 4), .int 0, .ref q1]
  refine r_aastL (J := xSt F V0 [(q1, .inl (6, 4, .inr (.inr (.inr (.inr (va_up nQ 0 (some (g 4))))))))]) hC hG 4 rfl rfl rfl (congrFun hgl 4) 0 (xix_n 0 (Nat.le_of_ble_eq_true rfl) (Nat.le_of_ble_eq_true rfl)) rfl (fun _ h => h.get 0 rfl) dX1_measures_12 (fun _ h => h.set 0 _ rfl) 13 rfl ?_
  refine r_aload_n hC 0 dX1_measures_13 rfl 14 rfl ?_
  refine r_iconst hC 1 dX1_measures_14 ic_1 15 rfl ?_
  refine r_indyC hC hG 5 rfl rfl rfl hNm rfl rfl (Nat.le_of_ble_eq_true rfl) dX1_measures_15 ?_
  rw [← hgl]
  show rn C (xSt F V0 [(q1, .inl (6, 4, .inr (.inr (.inr (.inr (va_up nQ 0 (some (g 4))))))))]) 1 4 20 [(0, .ref q1)] [.ref (g 5), .int 1, .ref q1]
  refine r_aastL (J := xSt F V0 [(q1, .inl (6, 4, .inr (.inr (.inr (.inr (va_up (va_up nQ 0 (some (g 4))) 1 (some (g 5))))))))]) hC hG 5 rfl rfl rfl (congrFun hgl 5) 1 (xix_n 1 (Nat.le_of_ble_eq_true rfl) (Nat.le_of_ble_eq_true rfl)) rfl (fun _ h => h.get 0 rfl) dX1_measures_20 (fun _ h => h.set 0 _ rfl) 21 rfl ?_
  refine r_aload_n hC 0 dX1_measures_21 rfl 22 rfl ?_
  refine r_iconst hC 2 dX1_measures_22 ic_2 23 rfl ?_
  refine r_indyC hC hG 6 rfl rfl rfl hNm rfl rfl (Nat.le_of_ble_eq_true rfl) dX1_measures_23 ?_
  rw [← hgl]
  show rn C (xSt F V0 [(q1, .inl (6, 4, .inr (.inr (.inr (.inr (va_up (va_up nQ 0 (some (g 4))) 1 (some (g 5))))))))]) 1 4 28 [(0, .ref q1)] [.ref (g 6), .int 2, .ref q1]
  refine r_aastL (J := xSt F V0 [(q1, .inl (6, 4, .inr (.inr (.inr (.inr (va_up (va_up (va_up nQ 0 (some (g 4))) 1 (some (g 5))) 2 (some (g 6))))))))]) hC hG 6 rfl rfl rfl (congrFun hgl 6) 2 (xix_n 2 (Nat.le_of_ble_eq_true rfl) (Nat.le_of_ble_eq_true rfl)) rfl (fun _ h => h.get 0 rfl) dX1_measures_28 (fun _ h => h.set 0 _ rfl) 29 rfl ?_
  refine r_aload_n hC 0 dX1_measures_29 rfl 30 rfl ?_
  refine r_iconst hC 3 dX1_measures_30 ic_3 31 rfl ?_
  refine r_indyC hC hG 7 rfl rfl rfl hNm rfl rfl (Nat.le_of_ble_eq_true rfl) dX1_measures_31 ?_
  rw [← hgl]
  show rn C (xSt F V0 [(q1, .inl (6, 4, .inr (.inr (.inr (.inr (va_up (va_up (va_up nQ 0 (some (g 4))) 1 (some (g 5))) 2 (some (g 6))))))))]) 1 4 36 [(0, .ref q1)] [.ref (g 7), .int 3, .ref q1]
  refine r_aastL (J := xSt F V0 [(q1, .inl (6, 4, .inr (.inr (.inr (.inr (va_up (va_up (va_up (va_up nQ 0 (some (g 4))) 1 (some (g 5))) 2 (some (g 6))) 3 (some (g 7))))))))]) hC hG 7 rfl rfl rfl (congrFun hgl 7) 3 (xix_n 3 (Nat.le_of_ble_eq_true rfl) (Nat.le_of_ble_eq_true rfl)) rfl (fun _ h => h.get 0 rfl) dX1_measures_36 (fun _ h => h.set 0 _ rfl) 37 rfl ?_
  refine r_aload_n hC 0 dX1_measures_37 rfl 38 rfl ?_
  refine rn_cellQ (J := xSt F V0 [(q1, .inl (6, 4, .inr (.inr (.inr (.inr (meF g))))))]) (fun _ h => h.get 0 rfl) (fun j9 hj9 => by rcases (show j9 = 0 ∨ j9 = 1 ∨ j9 = 2 ∨ j9 = 3 by omega) with rfl | rfl | rfl | rfl <;> rfl) (fun _ h => h.set 0 _ rfl) ?_
  exact r_aret hC (v := (some q1)) (Or.inr ⟨_, rfl⟩) (Nat.le_of_ble_eq_true rfl) (Nat.le_of_ble_eq_true rfl) (fun V9 h => hQ _ _ ⟨[(q1, .inl (6, 4, .inr (.inr (.inr (.inr (meF g))))))], ⟨q1, rfl, rfl⟩, by rw [← hV0, ← hF]; exact h⟩) dX1_measures_38
