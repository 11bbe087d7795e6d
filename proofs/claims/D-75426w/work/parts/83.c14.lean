/-! ===== the JDK: ArrayDeque grows ===== -/
set_option maxRecDepth 100000
set_option maxHeartbeats 4000000 in
set_option maxRecDepth 100000 in
theorem metJ1_grow (l : Launch) (G : xG) (hG : xGood G) (a e mi x0 : Nat) (f : Nat → Option Nat) (hM : va_Mi "[Ljava/lang/Object;" mi G.1) (hx0 : f 0 = some x0) : xWmP (xSh 12 [a, e] f 17) l G yJ1_grow (Cond.code yJ1_grow cJ1_grow 9 none) { frames := 3, locals := 104, cells := 1, slots := 36 } [.ref a, .int 1] [(a, .inr (19, [.ref e, .int 0, .int 0])), (e, .inl (3, 17, .inr (.inr (.inr (.inr f)))))] (fun v w' => v = none ∧ ∃ (e' : Nat) (f' : Nat → Option Nat), (∀ j, j < 17 → f' (19 + j) = f j) ∧ w' = [(a, .inr (19, [.ref e', .int (nI 19), .int (nI (dqT 36 19 17))])), (e', .inl (3, 36, .inr (.inr (.inr (.inr f')))))]) (fun _ _ => False) := by
  intro V hP hV
  refine xMet_ofT RJ1 hG rfl (by decide) (Nat.le_of_ble_eq_true rfl) fun C hC hQ hX hl hg _ hTab => ?_
  subst hl hg
  obtain ⟨V0, hV0⟩ : ∃ V0, V0 = V := ⟨_, rfl⟩
  obtain ⟨F, hF⟩ : ∃ F, F = xF [(a, .inr (19, [.ref e, .int 0, .int 0])), (e, .inl (3, 17, .inr (.inr (.inr (.inr f)))))] := ⟨_, rfl⟩
  rw [← hV0] at hP
  refine rn.mono (J := xSt F V0 [(a, .inr (19, [.ref e, .int 0, .int 0])), (e, .inl (3, 17, .inr (.inr (.inr (.inr f)))))]) (fun V9 h => by rw [h, hV0, hF]; exact hV.st) ?_
  show rn C (xSt F V0 [(a, .inr (19, [.ref e, .int 0, .int 0])), (e, .inl (3, 17, .inr (.inr (.inr (.inr f)))))]) 0 0 0 [(0, .ref a), (1, .int 1)] []
  refine r_aload_n hC 0 dJ1_grow_0 rfl 1 rfl ?_
  refine r_get (v := .ref e) hC kJ1 0 rfl q238 (fun _ h => h.get 0 rfl) rfl dJ1_grow_1 4 rfl ?_
  refine r_alen hC 17 (t := 3) rfl (fun _ h => h.get 1 rfl) rfl dJ1_grow_4 5 rfl ?_
  refine r_istore_n hC 2 [(2, .int 17), (0, .ref a), (1, .int 1)] dJ1_grow_5 rfl (Nat.le_of_ble_eq_true rfl) rfl 6 rfl ?_
  refine r_iload_n hC 0 dJ1_grow_6 rfl 7 rfl ?_
  refine r_bipush hC 64 dJ1_grow_7 bp_64 9 rfl ?_
  refine r_icge hC 18 dJ1_grow_9 (by decide) 12 rfl (fun h => absurd h (by decide)) (fun _ => ?_)
  refine r_iload_n hC 0 dJ1_grow_12 rfl 13 rfl ?_
  refine r_iconst hC 2 dJ1_grow_13 ic_2 14 rfl ?_
  refine r_iadd hC 19 dJ1_grow_14  (by decide) 15 rfl ?_
  refine r_goto hC 21 dJ1_grow_15 (by decide) ?_
  refine r_istore hC 4 [(4, .int 19), (2, .int 17), (0, .ref a), (1, .int 1)] dJ1_grow_21 (Nat.le_of_ble_eq_true rfl) rfl 23 rfl ?_
  refine r_iload hC 0 dJ1_grow_23 rfl 25 rfl ?_
  refine r_iload_n hC 3 dJ1_grow_25 rfl 26 rfl ?_
  refine r_iclt hC 41 dJ1_grow_26 (by decide) 29 rfl (fun h => absurd h (by decide)) (fun _ => ?_)
  refine r_iload_n hC 1 dJ1_grow_29 rfl 30 rfl ?_
  refine r_iload hC 0 dJ1_grow_30 rfl 32 rfl ?_
  refine r_iadd hC 36 dJ1_grow_32  (by decide) 33 rfl ?_
  refine r_dup hC dJ1_grow_33 rfl 34 rfl ?_
  refine r_istore_n hC 3 [(3, .int 36), (4, .int 19), (2, .int 17), (0, .ref a), (1, .int 1)] dJ1_grow_34 rfl (Nat.le_of_ble_eq_true rfl) rfl 35 rfl ?_
  refine r_ldc hC q790 dJ1_grow_35 37 rfl ?_
  refine r_isub hC (-2147483603) dJ1_grow_37  (by decide) 38 rfl ?_
  refine r_ifle hC 49 dJ1_grow_38 (by decide) 41 rfl (fun _ => ?_) (fun h => absurd h (by decide))
  refine r_aload_n hC 3 dJ1_grow_49 rfl 50 rfl ?_
  refine r_aload_n hC 3 dJ1_grow_50 rfl 51 rfl ?_
  refine r_get (v := .ref e) hC kJ1 0 rfl q238 (fun _ h => h.get 0 rfl) rfl dJ1_grow_51 54 rfl ?_
  refine r_iload_n hC 0 dJ1_grow_54 rfl 55 rfl ?_
  refine xCall.w (wr := [(a, .inr (19, [.ref e, .int 0, .int 0]))]) (r_cS hC [.ref e, .int 36] mSJ12_copyOf q796 (fun V9 h9 => (metJ12_copyOf _ _ hG e mi f hM) V9 (fun j9 x9 hj hx => by obtain ⟨h1, h2, fs9, h3⟩ := hP j9 x9 hj hx; exact ⟨Nat.lt_of_lt_of_le h1 h9.2.2.1, fun h8 => h2 (by simp at h8; simp [h8]), fs9, h9.old h3 h1 (by rw [hF]; exact xF_not (by simpa using h2))⟩) (h9.in.sub [1] rfl rfl)) ⟨rfl, rfl⟩ (Nat.le_of_ble_eq_true rfl) (Nat.le_of_ble_eq_true rfl) rfl (Nat.le_of_ble_eq_true rfl) dJ1_grow_55) [1] [0] rfl rfl rfl (by decide) 1 36 58 rfl rfl rfl (fun v2 w3 h4 => ?_) (fun _ _ h => h.elim)
  obtain ⟨q1, rfl, rfl⟩ := h4
  show rn C (xSt F V0 [(a, .inr (19, [.ref e, .int 0, .int 0])), (e, .inl (3, 17, .inr (.inr (.inr (.inr f))))), (q1, .inl (3, 36, .inr (.inr (.inr (.inr (va_cpy f nQ 0 0 17))))))]) 1 36 58 [(3, .int 36), (4, .int 19), (2, .int 17), (0, .ref a), (1, .int 1)] [.ref q1, .ref a]
  refine r_dup_x1 hC dJ1_grow_58 rfl rfl 59 rfl ?_
  refine r_put (J := xSt F V0 [(a, .inr (19, [.ref q1, .int 0, .int 0])), (e, .inl (3, 17, .inr (.inr (.inr (.inr f))))), (q1, .inl (3, 36, .inr (.inr (.inr (.inr (va_cpy f nQ 0 0 17))))))]) hC kJ1 0 rfl q238 rfl (fun _ h => h.get 0 rfl) (Nat.le_of_ble_eq_true rfl) (rfl) (rfl) dJ1_grow_59 (fun _ h => h.set 0 _ rfl) 62 rfl ?_
  refine r_astore hC 5 [(5, .ref q1), (3, .int 36), (4, .int 19), (2, .int 17), (0, .ref a), (1, .int 1)] dJ1_grow_62 (Nat.le_of_ble_eq_true rfl) rfl 64 rfl ?_
  refine r_aload_n hC 4 dJ1_grow_64 rfl 65 rfl ?_
  refine r_get (v := .int 0) hC kJ1 2 rfl q242 (fun _ h => h.get 0 rfl) rfl dJ1_grow_65 68 rfl ?_
  refine r_aload_n hC 4 dJ1_grow_68 rfl 69 rfl ?_
  refine r_get (v := .int 0) hC kJ1 1 rfl q241 (fun _ h => h.get 0 rfl) rfl dJ1_grow_69 72 rfl ?_
  refine r_iclt hC 96 dJ1_grow_72 (by decide) 75 rfl (fun h => absurd h (by decide)) (fun _ => ?_)
  refine r_aload_n hC 4 dJ1_grow_75 rfl 76 rfl ?_
  refine r_get (v := .int 0) hC kJ1 2 rfl q242 (fun _ h => h.get 0 rfl) rfl dJ1_grow_76 79 rfl ?_
  refine r_aload_n hC 4 dJ1_grow_79 rfl 80 rfl ?_
  refine r_get (v := .int 0) hC kJ1 1 rfl q241 (fun _ h => h.get 0 rfl) rfl dJ1_grow_80 83 rfl ?_
  refine r_icne hC 164 dJ1_grow_83 (by decide) 86 rfl (fun h => absurd h (by decide)) (fun _ => ?_)
  refine r_aload hC 0 dJ1_grow_86 rfl 88 rfl ?_
  refine r_aload_n hC 4 dJ1_grow_88 rfl 89 rfl ?_
  refine r_get (v := .int 0) hC kJ1 1 rfl q241 (fun _ h => h.get 0 rfl) rfl dJ1_grow_89 92 rfl ?_
  refine r_aald hC 0 (xix_n 0 (Nat.le_of_ble_eq_true rfl) (Nat.le_of_ble_eq_true rfl)) (t := 3) rfl rfl (fun _ h => h.get 2 rfl) (some x0) ((cpy_full (by decide)).trans hx0) dJ1_grow_92 93 rfl ?_
  show rn C (xSt F V0 [(a, .inr (19, [.ref q1, .int 0, .int 0])), (e, .inl (3, 17, .inr (.inr (.inr (.inr f))))), (q1, .inl (3, 36, .inr (.inr (.inr (.inr (va_cpy f nQ 0 0 17))))))]) 1 36 93 [(5, .ref q1), (3, .int 36), (4, .int 19), (2, .int 17), (0, .ref a), (1, .int 1)] [.ref x0]
  refine r_ifnull hC dJ1_grow_93 96 rfl ?_
  refine r_iload_n hC 1 dJ1_grow_96 rfl 97 rfl ?_
  refine r_iload_n hC 3 dJ1_grow_97 rfl 98 rfl ?_
  refine r_isub hC 19 dJ1_grow_98  (by decide) 99 rfl ?_
  refine r_istore hC 6 [(6, .int 19), (5, .ref q1), (3, .int 36), (4, .int 19), (2, .int 17), (0, .ref a), (1, .int 1)] dJ1_grow_99 (Nat.le_of_ble_eq_true rfl) rfl 101 rfl ?_
  refine r_aload hC 1 dJ1_grow_101 rfl 103 rfl ?_
  refine r_aload_n hC 5 dJ1_grow_103 rfl 104 rfl ?_
  refine r_get (v := .int 0) hC kJ1 1 rfl q241 (fun _ h => h.get 0 rfl) rfl dJ1_grow_104 107 rfl ?_
  refine r_aload hC 1 dJ1_grow_107 rfl 109 rfl ?_
  refine r_aload_n hC 5 dJ1_grow_109 rfl 110 rfl ?_
  refine r_get (v := .int 0) hC kJ1 1 rfl q241 (fun _ h => h.get 0 rfl) rfl dJ1_grow_110 113 rfl ?_
  refine r_iload hC 0 dJ1_grow_113 rfl 115 rfl ?_
  refine r_iadd hC 19 dJ1_grow_115  (by decide) 116 rfl ?_
  refine r_iload_n hC 4 dJ1_grow_116 rfl 117 rfl ?_
  refine r_aload_n hC 5 dJ1_grow_117 rfl 118 rfl ?_
  refine r_get (v := .int 0) hC kJ1 1 rfl q241 (fun _ h => h.get 0 rfl) rfl dJ1_grow_118 121 rfl ?_
  refine r_isub hC 17 dJ1_grow_121  (by decide) 122 rfl ?_
  refine r_copyQ (J := xSt F V0 [(a, .inr (19, [.ref q1, .int 0, .int 0])), (e, .inl (3, 17, .inr (.inr (.inr (.inr f))))), (q1, .inl (3, 36, .inr (.inr (.inr (.inr (va_cpy (va_cpy f nQ 0 0 17) (va_cpy f nQ 0 0 17) 0 19 17))))))]) hC 0 19 17 (t := 3) rfl q845 (fun _ h => h.get 2 rfl) (fun _ h => h.get 2 rfl) (Nat.le_of_ble_eq_true rfl) (Nat.le_of_ble_eq_true rfl) (Nat.le_of_ble_eq_true rfl) (Nat.le_of_ble_eq_true rfl) (fun j9 x9 hj hx => xStor.obj hG kX14 q3407 (fun V9 h9 => by rw [Nat.zero_add, cpy_full hj] at hx; obtain ⟨h1, h2, fs9, h3⟩ := hP j9 x9 hj hx; exact ⟨fs9, h9.old h3 h1 (by rw [hF]; exact xF_not (by simpa using h2))⟩)) (Nat.le_of_ble_eq_true rfl) (Nat.le_of_ble_eq_true rfl) (Nat.le_of_ble_eq_true rfl) dJ1_grow_122 (fun _ h => h.set 2 _ rfl) 125 rfl ?_
  refine r_aload_n hC 5 dJ1_grow_125 rfl 126 rfl ?_
  refine r_get (v := .int 0) hC kJ1 1 rfl q241 (fun _ h => h.get 0 rfl) rfl dJ1_grow_126 129 rfl ?_
  refine r_istore hC 7 [(7, .int 0), (6, .int 19), (5, .ref q1), (3, .int 36), (4, .int 19), (2, .int 17), (0, .ref a), (1, .int 1)] dJ1_grow_129 (Nat.le_of_ble_eq_true rfl) rfl 131 rfl ?_
  refine r_aload_n hC 6 dJ1_grow_131 rfl 132 rfl ?_
  refine r_dup hC dJ1_grow_132 rfl 133 rfl ?_
  refine r_get (v := .int 0) hC kJ1 1 rfl q241 (fun _ h => h.get 0 rfl) rfl dJ1_grow_133 136 rfl ?_
  refine r_iload hC 1 dJ1_grow_136 rfl 138 rfl ?_
  refine r_iadd hC 19 dJ1_grow_138  (by decide) 139 rfl ?_
  refine r_dup_x1 hC dJ1_grow_139 rfl rfl 140 rfl ?_
  refine r_put (J := xSt F V0 [(a, .inr (19, [.ref q1, .int 19, .int 0])), (e, .inl (3, 17, .inr (.inr (.inr (.inr f))))), (q1, .inl (3, 36, .inr (.inr (.inr (.inr (va_cpy (va_cpy f nQ 0 0 17) (va_cpy f nQ 0 0 17) 0 19 17))))))]) hC kJ1 1 rfl q241 rfl (fun _ h => h.get 0 rfl) (Nat.le_of_ble_eq_true rfl) (rfl) (rfl) dJ1_grow_140 (fun _ h => h.set 0 _ rfl) 143 rfl ?_
  refine r_istore hC 8 [(8, .int 19), (7, .int 0), (6, .int 19), (5, .ref q1), (3, .int 36), (4, .int 19), (2, .int 17), (0, .ref a), (1, .int 1)] dJ1_grow_143 (Nat.le_of_ble_eq_true rfl) rfl 145 rfl ?_
  refine r_iload hC 1 dJ1_grow_145 rfl 147 rfl ?_
  refine r_iload hC 0 dJ1_grow_147 rfl 149 rfl ?_
  refine r_icge hC 164 dJ1_grow_149 (by decide) 152 rfl (fun h => absurd h (by decide)) (fun _ => ?_)
  refine r_aload hC 3 dJ1_grow_152 rfl 154 rfl ?_
  refine r_iload hC 1 dJ1_grow_154 rfl 156 rfl ?_
  refine r_null hC dJ1_grow_156 157 rfl ?_
  refine r_aastN (J := xSt F V0 [(a, .inr (19, [.ref q1, .int 19, .int 0])), (e, .inl (3, 17, .inr (.inr (.inr (.inr f))))), (q1, .inl (3, 36, .inr (.inr (.inr (.inr (va_up (va_cpy (va_cpy f nQ 0 0 17) (va_cpy f nQ 0 0 17) 0 19 17) 0 none))))))]) hC 0 (xix_n 0 (Nat.le_of_ble_eq_true rfl) (Nat.le_of_ble_eq_true rfl)) rfl (fun _ h => h.get 2 rfl) dJ1_grow_157 (fun _ h => h.set 2 _ rfl) 158 rfl ?_
  refine r_iinc hC 1 7 1 [(7, .int 1), (8, .int 19), (6, .int 19), (5, .ref q1), (3, .int 36), (4, .int 19), (2, .int 17), (0, .ref a), (1, .int 1)] dJ1_grow_158 rfl (by decide) (Nat.le_of_ble_eq_true rfl) rfl 161 rfl ?_
  refine r_goto hC 145 dJ1_grow_161 (by decide) ?_
  refine r_iload hC 0 dJ1_grow_145 rfl 147 rfl ?_
  refine r_iload hC 1 dJ1_grow_147 rfl 149 rfl ?_
  refine r_icge hC 164 dJ1_grow_149 (by decide) 152 rfl (fun h => absurd h (by decide)) (fun _ => ?_)
  refine r_aload hC 3 dJ1_grow_152 rfl 154 rfl ?_
  refine r_iload hC 0 dJ1_grow_154 rfl 156 rfl ?_
  refine r_null hC dJ1_grow_156 157 rfl ?_
  refine r_aastN (J := xSt F V0 [(a, .inr (19, [.ref q1, .int 19, .int 0])), (e, .inl (3, 17, .inr (.inr (.inr (.inr f))))), (q1, .inl (3, 36, .inr (.inr (.inr (.inr (va_up (va_up (va_cpy (va_cpy f nQ 0 0 17) (va_cpy f nQ 0 0 17) 0 19 17) 0 none) 1 none))))))]) hC 1 (xix_n 1 (Nat.le_of_ble_eq_true rfl) (Nat.le_of_ble_eq_true rfl)) rfl (fun _ h => h.get 2 rfl) dJ1_grow_157 (fun _ h => h.set 2 _ rfl) 158 rfl ?_
  refine r_iinc hC 2 7 0 [(7, .int 2), (8, .int 19), (6, .int 19), (5, .ref q1), (3, .int 36), (4, .int 19), (2, .int 17), (0, .ref a), (1, .int 1)] dJ1_grow_158 rfl (by decide) (Nat.le_of_ble_eq_true rfl) rfl 161 rfl ?_
  refine r_goto hC 145 dJ1_grow_161 (by decide) ?_
  refine r_iload hC 0 dJ1_grow_145 rfl 147 rfl ?_
  refine r_iload hC 1 dJ1_grow_147 rfl 149 rfl ?_
  refine r_icge hC 164 dJ1_grow_149 (by decide) 152 rfl (fun h => absurd h (by decide)) (fun _ => ?_)
  refine r_aload hC 3 dJ1_grow_152 rfl 154 rfl ?_
  refine r_iload hC 0 dJ1_grow_154 rfl 156 rfl ?_
  refine r_null hC dJ1_grow_156 157 rfl ?_
  refine r_aastN (J := xSt F V0 [(a, .inr (19, [.ref q1, .int 19, .int 0])), (e, .inl (3, 17, .inr (.inr (.inr (.inr f))))), (q1, .inl (3, 36, .inr (.inr (.inr (.inr (va_up (va_up (va_up (va_cpy (va_cpy f nQ 0 0 17) (va_cpy f nQ 0 0 17) 0 19 17) 0 none) 1 none) 2 none))))))]) hC 2 (xix_n 2 (Nat.le_of_ble_eq_true rfl) (Nat.le_of_ble_eq_true rfl)) rfl (fun _ h => h.get 2 rfl) dJ1_grow_157 (fun _ h => h.set 2 _ rfl) 158 rfl ?_
  refine r_iinc hC 3 7 0 [(7, .int 3), (8, .int 19), (6, .int 19), (5, .ref q1), (3, .int 36), (4, .int 19), (2, .int 17), (0, .ref a), (1, .int 1)] dJ1_grow_158 rfl (by decide) (Nat.le_of_ble_eq_true rfl) rfl 161 rfl ?_
  refine r_goto hC 145 dJ1_grow_161 (by decide) ?_
  refine r_iload hC 0 dJ1_grow_145 rfl 147 rfl ?_
  refine r_iload hC 1 dJ1_grow_147 rfl 149 rfl ?_
  refine r_icge hC 164 dJ1_grow_149 (by decide) 152 rfl (fun h => absurd h (by decide)) (fun _ => ?_)
  refine r_aload hC 3 dJ1_grow_152 rfl 154 rfl ?_
  refine r_iload hC 0 dJ1_grow_154 rfl 156 rfl ?_
  refine r_null hC dJ1_grow_156 157 rfl ?_
  refine r_aastN (J := xSt F V0 [(a, .inr (19, [.ref q1, .int 19, .int 0])), (e, .inl (3, 17, .inr (.inr (.inr (.inr f))))), (q1, .inl (3, 36, .inr (.inr (.inr (.inr (va_up (va_up (va_up (va_up (va_cpy (va_cpy f nQ 0 0 17) (va_cpy f nQ 0 0 17) 0 19 17) 0 none) 1 none) 2 none) 3 none))))))]) hC 3 (xix_n 3 (Nat.le_of_ble_eq_true rfl) (Nat.le_of_ble_eq_true rfl)) rfl (fun _ h => h.get 2 rfl) dJ1_grow_157 (fun _ h => h.set 2 _ rfl) 158 rfl ?_
  refine r_iinc hC 4 7 0 [(7, .int 4), (8, .int 19), (6, .int 19), (5, .ref q1), (3, .int 36), (4, .int 19), (2, .int 17), (0, .ref a), (1, .int 1)] dJ1_grow_158 rfl (by decide) (Nat.le_of_ble_eq_true rfl) rfl 161 rfl ?_
  refine r_goto hC 145 dJ1_grow_161 (by decide) ?_
  refine r_iload hC 0 dJ1_grow_145 rfl 147 rfl ?_
  refine r_iload hC 1 dJ1_grow_147 rfl 149 rfl ?_
  refine r_icge hC 164 dJ1_grow_149 (by decide) 152 rfl (fun h => absurd h (by decide)) (fun _ => ?_)
  refine r_aload hC 3 dJ1_grow_152 rfl 154 rfl ?_
  refine r_iload hC 0 dJ1_grow_154 rfl 156 rfl ?_
  refine r_null hC dJ1_grow_156 157 rfl ?_
  refine r_aastN (J := xSt F V0 [(a, .inr (19, [.ref q1, .int 19, .int 0])), (e, .inl (3, 17, .inr (.inr (.inr (.inr f))))), (q1, .inl (3, 36, .inr (.inr (.inr (.inr (va_up (va_up (va_up (va_up (va_up (va_cpy (va_cpy f nQ 0 0 17) (va_cpy f nQ 0 0 17) 0 19 17) 0 none) 1 none) 2 none) 3 none) 4 none))))))]) hC 4 (xix_n 4 (Nat.le_of_ble_eq_true rfl) (Nat.le_of_ble_eq_true rfl)) rfl (fun _ h => h.get 2 rfl) dJ1_grow_157 (fun _ h => h.set 2 _ rfl) 158 rfl ?_
  refine r_iinc hC 5 7 0 [(7, .int 5), (8, .int 19), (6, .int 19), (5, .ref q1), (3, .int 36), (4, .int 19), (2, .int 17), (0, .ref a), (1, .int 1)] dJ1_grow_158 rfl (by decide) (Nat.le_of_ble_eq_true rfl) rfl 161 rfl ?_
  refine r_goto hC 145 dJ1_grow_161 (by decide) ?_
  refine r_iload hC 0 dJ1_grow_145 rfl 147 rfl ?_
  refine r_iload hC 1 dJ1_grow_147 rfl 149 rfl ?_
  refine r_icge hC 164 dJ1_grow_149 (by decide) 152 rfl (fun h => absurd h (by decide)) (fun _ => ?_)
  refine r_aload hC 3 dJ1_grow_152 rfl 154 rfl ?_
  refine r_iload hC 0 dJ1_grow_154 rfl 156 rfl ?_
  refine r_null hC dJ1_grow_156 157 rfl ?_
  refine r_aastN (J := xSt F V0 [(a, .inr (19, [.ref q1, .int 19, .int 0])), (e, .inl (3, 17, .inr (.inr (.inr (.inr f))))), (q1, .inl (3, 36, .inr (.inr (.inr (.inr (va_up (va_up (va_up (va_up (va_up (va_up (va_cpy (va_cpy f nQ 0 0 17) (va_cpy f nQ 0 0 17) 0 19 17) 0 none) 1 none) 2 none) 3 none) 4 none) 5 none))))))]) hC 5 (xix_n 5 (Nat.le_of_ble_eq_true rfl) (Nat.le_of_ble_eq_true rfl)) rfl (fun _ h => h.get 2 rfl) dJ1_grow_157 (fun _ h => h.set 2 _ rfl) 158 rfl ?_
  refine r_iinc hC 6 7 0 [(7, .int 6), (8, .int 19), (6, .int 19), (5, .ref q1), (3, .int 36), (4, .int 19), (2, .int 17), (0, .ref a), (1, .int 1)] dJ1_grow_158 rfl (by decide) (Nat.le_of_ble_eq_true rfl) rfl 161 rfl ?_
  refine r_goto hC 145 dJ1_grow_161 (by decide) ?_
  refine r_iload hC 0 dJ1_grow_145 rfl 147 rfl ?_
  refine r_iload hC 1 dJ1_grow_147 rfl 149 rfl ?_
  refine r_icge hC 164 dJ1_grow_149 (by decide) 152 rfl (fun h => absurd h (by decide)) (fun _ => ?_)
  refine r_aload hC 3 dJ1_grow_152 rfl 154 rfl ?_
  refine r_iload hC 0 dJ1_grow_154 rfl 156 rfl ?_
  refine r_null hC dJ1_grow_156 157 rfl ?_
  refine r_aastN (J := xSt F V0 [(a, .inr (19, [.ref q1, .int 19, .int 0])), (e, .inl (3, 17, .inr (.inr (.inr (.inr f))))), (q1, .inl (3, 36, .inr (.inr (.inr (.inr (va_up (va_up (va_up (va_up (va_up (va_up (va_up (va_cpy (va_cpy f nQ 0 0 17) (va_cpy f nQ 0 0 17) 0 19 17) 0 none) 1 none) 2 none) 3 none) 4 none) 5 none) 6 none))))))]) hC 6 (xix_n 6 (Nat.le_of_ble_eq_true rfl) (Nat.le_of_ble_eq_true rfl)) rfl (fun _ h => h.get 2 rfl) dJ1_grow_157 (fun _ h => h.set 2 _ rfl) 158 rfl ?_
  refine r_iinc hC 7 7 0 [(7, .int 7), (8, .int 19), (6, .int 19), (5, .ref q1), (3, .int 36), (4, .int 19), (2, .int 17), (0, .ref a), (1, .int 1)] dJ1_grow_158 rfl (by decide) (Nat.le_of_ble_eq_true rfl) rfl 161 rfl ?_
  refine r_goto hC 145 dJ1_grow_161 (by decide) ?_
  refine r_iload hC 0 dJ1_grow_145 rfl 147 rfl ?_
  refine r_iload hC 1 dJ1_grow_147 rfl 149 rfl ?_
  refine r_icge hC 164 dJ1_grow_149 (by decide) 152 rfl (fun h => absurd h (by decide)) (fun _ => ?_)
  refine r_aload hC 3 dJ1_grow_152 rfl 154 rfl ?_
  refine r_iload hC 0 dJ1_grow_154 rfl 156 rfl ?_
  refine r_null hC dJ1_grow_156 157 rfl ?_
  refine r_aastN (J := xSt F V0 [(a, .inr (19, [.ref q1, .int 19, .int 0])), (e, .inl (3, 17, .inr (.inr (.inr (.inr f))))), (q1, .inl (3, 36, .inr (.inr (.inr (.inr (va_up (va_up (va_up (va_up (va_up (va_up (va_up (va_up (va_cpy (va_cpy f nQ 0 0 17) (va_cpy f nQ 0 0 17) 0 19 17) 0 none) 1 none) 2 none) 3 none) 4 none) 5 none) 6 none) 7 none))))))]) hC 7 (xix_n 7 (Nat.le_of_ble_eq_true rfl) (Nat.le_of_ble_eq_true rfl)) rfl (fun _ h => h.get 2 rfl) dJ1_grow_157 (fun _ h => h.set 2 _ rfl) 158 rfl ?_
  refine r_iinc hC 8 7 0 [(7, .int 8), (8, .int 19), (6, .int 19), (5, .ref q1), (3, .int 36), (4, .int 19), (2, .int 17), (0, .ref a), (1, .int 1)] dJ1_grow_158 rfl (by decide) (Nat.le_of_ble_eq_true rfl) rfl 161 rfl ?_
  refine r_goto hC 145 dJ1_grow_161 (by decide) ?_
  refine r_iload hC 0 dJ1_grow_145 rfl 147 rfl ?_
  refine r_iload hC 1 dJ1_grow_147 rfl 149 rfl ?_
  refine r_icge hC 164 dJ1_grow_149 (by decide) 152 rfl (fun h => absurd h (by decide)) (fun _ => ?_)
  refine r_aload hC 3 dJ1_grow_152 rfl 154 rfl ?_
  refine r_iload hC 0 dJ1_grow_154 rfl 156 rfl ?_
  refine r_null hC dJ1_grow_156 157 rfl ?_
  refine r_aastN (J := xSt F V0 [(a, .inr (19, [.ref q1, .int 19, .int 0])), (e, .inl (3, 17, .inr (.inr (.inr (.inr f))))), (q1, .inl (3, 36, .inr (.inr (.inr (.inr (va_up (va_up (va_up (va_up (va_up (va_up (va_up (va_up (va_up (va_cpy (va_cpy f nQ 0 0 17) (va_cpy f nQ 0 0 17) 0 19 17) 0 none) 1 none) 2 none) 3 none) 4 none) 5 none) 6 none) 7 none) 8 none))))))]) hC 8 (xix_n 8 (Nat.le_of_ble_eq_true rfl) (Nat.le_of_ble_eq_true rfl)) rfl (fun _ h => h.get 2 rfl) dJ1_grow_157 (fun _ h => h.set 2 _ rfl) 158 rfl ?_
  refine r_iinc hC 9 7 0 [(7, .int 9), (8, .int 19), (6, .int 19), (5, .ref q1), (3, .int 36), (4, .int 19), (2, .int 17), (0, .ref a), (1, .int 1)] dJ1_grow_158 rfl (by decide) (Nat.le_of_ble_eq_true rfl) rfl 161 rfl ?_
  refine r_goto hC 145 dJ1_grow_161 (by decide) ?_
  refine r_iload hC 0 dJ1_grow_145 rfl 147 rfl ?_
  refine r_iload hC 1 dJ1_grow_147 rfl 149 rfl ?_
  refine r_icge hC 164 dJ1_grow_149 (by decide) 152 rfl (fun h => absurd h (by decide)) (fun _ => ?_)
  refine r_aload hC 3 dJ1_grow_152 rfl 154 rfl ?_
  refine r_iload hC 0 dJ1_grow_154 rfl 156 rfl ?_
  refine r_null hC dJ1_grow_156 157 rfl ?_
  refine r_aastN (J := xSt F V0 [(a, .inr (19, [.ref q1, .int 19, .int 0])), (e, .inl (3, 17, .inr (.inr (.inr (.inr f))))), (q1, .inl (3, 36, .inr (.inr (.inr (.inr (va_up (va_up (va_up (va_up (va_up (va_up (va_up (va_up (va_up (va_up (va_cpy (va_cpy f nQ 0 0 17) (va_cpy f nQ 0 0 17) 0 19 17) 0 none) 1 none) 2 none) 3 none) 4 none) 5 none) 6 none) 7 none) 8 none) 9 none))))))]) hC 9 (xix_n 9 (Nat.le_of_ble_eq_true rfl) (Nat.le_of_ble_eq_true rfl)) rfl (fun _ h => h.get 2 rfl) dJ1_grow_157 (fun _ h => h.set 2 _ rfl) 158 rfl ?_
  refine r_iinc hC 10 7 0 [(7, .int 10), (8, .int 19), (6, .int 19), (5, .ref q1), (3, .int 36), (4, .int 19), (2, .int 17), (0, .ref a), (1, .int 1)] dJ1_grow_158 rfl (by decide) (Nat.le_of_ble_eq_true rfl) rfl 161 rfl ?_
  refine r_goto hC 145 dJ1_grow_161 (by decide) ?_
  refine r_iload hC 0 dJ1_grow_145 rfl 147 rfl ?_
  refine r_iload hC 1 dJ1_grow_147 rfl 149 rfl ?_
  refine r_icge hC 164 dJ1_grow_149 (by decide) 152 rfl (fun h => absurd h (by decide)) (fun _ => ?_)
  refine r_aload hC 3 dJ1_grow_152 rfl 154 rfl ?_
  refine r_iload hC 0 dJ1_grow_154 rfl 156 rfl ?_
  refine r_null hC dJ1_grow_156 157 rfl ?_
  refine r_aastN (J := xSt F V0 [(a, .inr (19, [.ref q1, .int 19, .int 0])), (e, .inl (3, 17, .inr (.inr (.inr (.inr f))))), (q1, .inl (3, 36, .inr (.inr (.inr (.inr (va_up (va_up (va_up (va_up (va_up (va_up (va_up (va_up (va_up (va_up (va_up (va_cpy (va_cpy f nQ 0 0 17) (va_cpy f nQ 0 0 17) 0 19 17) 0 none) 1 none) 2 none) 3 none) 4 none) 5 none) 6 none) 7 none) 8 none) 9 none) 10 none))))))]) hC 10 (xix_n 10 (Nat.le_of_ble_eq_true rfl) (Nat.le_of_ble_eq_true rfl)) rfl (fun _ h => h.get 2 rfl) dJ1_grow_157 (fun _ h => h.set 2 _ rfl) 158 rfl ?_
  refine r_iinc hC 11 7 0 [(7, .int 11), (8, .int 19), (6, .int 19), (5, .ref q1), (3, .int 36), (4, .int 19), (2, .int 17), (0, .ref a), (1, .int 1)] dJ1_grow_158 rfl (by decide) (Nat.le_of_ble_eq_true rfl) rfl 161 rfl ?_
  refine r_goto hC 145 dJ1_grow_161 (by decide) ?_
  refine r_iload hC 0 dJ1_grow_145 rfl 147 rfl ?_
  refine r_iload hC 1 dJ1_grow_147 rfl 149 rfl ?_
  refine r_icge hC 164 dJ1_grow_149 (by decide) 152 rfl (fun h => absurd h (by decide)) (fun _ => ?_)
  refine r_aload hC 3 dJ1_grow_152 rfl 154 rfl ?_
  refine r_iload hC 0 dJ1_grow_154 rfl 156 rfl ?_
  refine r_null hC dJ1_grow_156 157 rfl ?_
  refine r_aastN (J := xSt F V0 [(a, .inr (19, [.ref q1, .int 19, .int 0])), (e, .inl (3, 17, .inr (.inr (.inr (.inr f))))), (q1, .inl (3, 36, .inr (.inr (.inr (.inr (va_up (va_up (va_up (va_up (va_up (va_up (va_up (va_up (va_up (va_up (va_up (va_up (va_cpy (va_cpy f nQ 0 0 17) (va_cpy f nQ 0 0 17) 0 19 17) 0 none) 1 none) 2 none) 3 none) 4 none) 5 none) 6 none) 7 none) 8 none) 9 none) 10 none) 11 none))))))]) hC 11 (xix_n 11 (Nat.le_of_ble_eq_true rfl) (Nat.le_of_ble_eq_true rfl)) rfl (fun _ h => h.get 2 rfl) dJ1_grow_157 (fun _ h => h.set 2 _ rfl) 158 rfl ?_
  refine r_iinc hC 12 7 0 [(7, .int 12), (8, .int 19), (6, .int 19), (5, .ref q1), (3, .int 36), (4, .int 19), (2, .int 17), (0, .ref a), (1, .int 1)] dJ1_grow_158 rfl (by decide) (Nat.le_of_ble_eq_true rfl) rfl 161 rfl ?_
  refine r_goto hC 145 dJ1_grow_161 (by decide) ?_
  refine r_iload hC 0 dJ1_grow_145 rfl 147 rfl ?_
  refine r_iload hC 1 dJ1_grow_147 rfl 149 rfl ?_
  refine r_icge hC 164 dJ1_grow_149 (by decide) 152 rfl (fun h => absurd h (by decide)) (fun _ => ?_)
  refine r_aload hC 3 dJ1_grow_152 rfl 154 rfl ?_
  refine r_iload hC 0 dJ1_grow_154 rfl 156 rfl ?_
  refine r_null hC dJ1_grow_156 157 rfl ?_
  refine r_aastN (J := xSt F V0 [(a, .inr (19, [.ref q1, .int 19, .int 0])), (e, .inl (3, 17, .inr (.inr (.inr (.inr f))))), (q1, .inl (3, 36, .inr (.inr (.inr (.inr (va_up (va_up (va_up (va_up (va_up (va_up (va_up (va_up (va_up (va_up (va_up (va_up (va_up (va_cpy (va_cpy f nQ 0 0 17) (va_cpy f nQ 0 0 17) 0 19 17) 0 none) 1 none) 2 none) 3 none) 4 none) 5 none) 6 none) 7 none) 8 none) 9 none) 10 none) 11 none) 12 none))))))]) hC 12 (xix_n 12 (Nat.le_of_ble_eq_true rfl) (Nat.le_of_ble_eq_true rfl)) rfl (fun _ h => h.get 2 rfl) dJ1_grow_157 (fun _ h => h.set 2 _ rfl) 158 rfl ?_
  refine r_iinc hC 13 7 0 [(7, .int 13), (8, .int 19), (6, .int 19), (5, .ref q1), (3, .int 36), (4, .int 19), (2, .int 17), (0, .ref a), (1, .int 1)] dJ1_grow_158 rfl (by decide) (Nat.le_of_ble_eq_true rfl) rfl 161 rfl ?_
  refine r_goto hC 145 dJ1_grow_161 (by decide) ?_
  refine r_iload hC 0 dJ1_grow_145 rfl 147 rfl ?_
  refine r_iload hC 1 dJ1_grow_147 rfl 149 rfl ?_
  refine r_icge hC 164 dJ1_grow_149 (by decide) 152 rfl (fun h => absurd h (by decide)) (fun _ => ?_)
  refine r_aload hC 3 dJ1_grow_152 rfl 154 rfl ?_
  refine r_iload hC 0 dJ1_grow_154 rfl 156 rfl ?_
  refine r_null hC dJ1_grow_156 157 rfl ?_
  refine r_aastN (J := xSt F V0 [(a, .inr (19, [.ref q1, .int 19, .int 0])), (e, .inl (3, 17, .inr (.inr (.inr (.inr f))))), (q1, .inl (3, 36, .inr (.inr (.inr (.inr (va_up (va_up (va_up (va_up (va_up (va_up (va_up (va_up (va_up (va_up (va_up (va_up (va_up (va_up (va_cpy (va_cpy f nQ 0 0 17) (va_cpy f nQ 0 0 17) 0 19 17) 0 none) 1 none) 2 none) 3 none) 4 none) 5 none) 6 none) 7 none) 8 none) 9 none) 10 none) 11 none) 12 none) 13 none))))))]) hC 13 (xix_n 13 (Nat.le_of_ble_eq_true rfl) (Nat.le_of_ble_eq_true rfl)) rfl (fun _ h => h.get 2 rfl) dJ1_grow_157 (fun _ h => h.set 2 _ rfl) 158 rfl ?_
  refine r_iinc hC 14 7 0 [(7, .int 14), (8, .int 19), (6, .int 19), (5, .ref q1), (3, .int 36), (4, .int 19), (2, .int 17), (0, .ref a), (1, .int 1)] dJ1_grow_158 rfl (by decide) (Nat.le_of_ble_eq_true rfl) rfl 161 rfl ?_
  refine r_goto hC 145 dJ1_grow_161 (by decide) ?_
  refine r_iload hC 0 dJ1_grow_145 rfl 147 rfl ?_
  refine r_iload hC 1 dJ1_grow_147 rfl 149 rfl ?_
  refine r_icge hC 164 dJ1_grow_149 (by decide) 152 rfl (fun h => absurd h (by decide)) (fun _ => ?_)
  refine r_aload hC 3 dJ1_grow_152 rfl 154 rfl ?_
  refine r_iload hC 0 dJ1_grow_154 rfl 156 rfl ?_
  refine r_null hC dJ1_grow_156 157 rfl ?_
  refine r_aastN (J := xSt F V0 [(a, .inr (19, [.ref q1, .int 19, .int 0])), (e, .inl (3, 17, .inr (.inr (.inr (.inr f))))), (q1, .inl (3, 36, .inr (.inr (.inr (.inr (va_up (va_up (va_up (va_up (va_up (va_up (va_up (va_up (va_up (va_up (va_up (va_up (va_up (va_up (va_up (va_cpy (va_cpy f nQ 0 0 17) (va_cpy f nQ 0 0 17) 0 19 17) 0 none) 1 none) 2 none) 3 none) 4 none) 5 none) 6 none) 7 none) 8 none) 9 none) 10 none) 11 none) 12 none) 13 none) 14 none))))))]) hC 14 (xix_n 14 (Nat.le_of_ble_eq_true rfl) (Nat.le_of_ble_eq_true rfl)) rfl (fun _ h => h.get 2 rfl) dJ1_grow_157 (fun _ h => h.set 2 _ rfl) 158 rfl ?_
  refine r_iinc hC 15 7 0 [(7, .int 15), (8, .int 19), (6, .int 19), (5, .ref q1), (3, .int 36), (4, .int 19), (2, .int 17), (0, .ref a), (1, .int 1)] dJ1_grow_158 rfl (by decide) (Nat.le_of_ble_eq_true rfl) rfl 161 rfl ?_
  refine r_goto hC 145 dJ1_grow_161 (by decide) ?_
  refine r_iload hC 0 dJ1_grow_145 rfl 147 rfl ?_
  refine r_iload hC 1 dJ1_grow_147 rfl 149 rfl ?_
  refine r_icge hC 164 dJ1_grow_149 (by decide) 152 rfl (fun h => absurd h (by decide)) (fun _ => ?_)
  refine r_aload hC 3 dJ1_grow_152 rfl 154 rfl ?_
  refine r_iload hC 0 dJ1_grow_154 rfl 156 rfl ?_
  refine r_null hC dJ1_grow_156 157 rfl ?_
  refine r_aastN (J := xSt F V0 [(a, .inr (19, [.ref q1, .int 19, .int 0])), (e, .inl (3, 17, .inr (.inr (.inr (.inr f))))), (q1, .inl (3, 36, .inr (.inr (.inr (.inr (va_up (va_up (va_up (va_up (va_up (va_up (va_up (va_up (va_up (va_up (va_up (va_up (va_up (va_up (va_up (va_up (va_cpy (va_cpy f nQ 0 0 17) (va_cpy f nQ 0 0 17) 0 19 17) 0 none) 1 none) 2 none) 3 none) 4 none) 5 none) 6 none) 7 none) 8 none) 9 none) 10 none) 11 none) 12 none) 13 none) 14 none) 15 none))))))]) hC 15 (xix_n 15 (Nat.le_of_ble_eq_true rfl) (Nat.le_of_ble_eq_true rfl)) rfl (fun _ h => h.get 2 rfl) dJ1_grow_157 (fun _ h => h.set 2 _ rfl) 158 rfl ?_
  refine r_iinc hC 16 7 0 [(7, .int 16), (8, .int 19), (6, .int 19), (5, .ref q1), (3, .int 36), (4, .int 19), (2, .int 17), (0, .ref a), (1, .int 1)] dJ1_grow_158 rfl (by decide) (Nat.le_of_ble_eq_true rfl) rfl 161 rfl ?_
  refine r_goto hC 145 dJ1_grow_161 (by decide) ?_
  refine r_iload hC 0 dJ1_grow_145 rfl 147 rfl ?_
  refine r_iload hC 1 dJ1_grow_147 rfl 149 rfl ?_
  refine r_icge hC 164 dJ1_grow_149 (by decide) 152 rfl (fun h => absurd h (by decide)) (fun _ => ?_)
  refine r_aload hC 3 dJ1_grow_152 rfl 154 rfl ?_
  refine r_iload hC 0 dJ1_grow_154 rfl 156 rfl ?_
  refine r_null hC dJ1_grow_156 157 rfl ?_
  refine r_aastN (J := xSt F V0 [(a, .inr (19, [.ref q1, .int 19, .int 0])), (e, .inl (3, 17, .inr (.inr (.inr (.inr f))))), (q1, .inl (3, 36, .inr (.inr (.inr (.inr (va_up (va_up (va_up (va_up (va_up (va_up (va_up (va_up (va_up (va_up (va_up (va_up (va_up (va_up (va_up (va_up (va_up (va_cpy (va_cpy f nQ 0 0 17) (va_cpy f nQ 0 0 17) 0 19 17) 0 none) 1 none) 2 none) 3 none) 4 none) 5 none) 6 none) 7 none) 8 none) 9 none) 10 none) 11 none) 12 none) 13 none) 14 none) 15 none) 16 none))))))]) hC 16 (xix_n 16 (Nat.le_of_ble_eq_true rfl) (Nat.le_of_ble_eq_true rfl)) rfl (fun _ h => h.get 2 rfl) dJ1_grow_157 (fun _ h => h.set 2 _ rfl) 158 rfl ?_
  refine r_iinc hC 17 7 0 [(7, .int 17), (8, .int 19), (6, .int 19), (5, .ref q1), (3, .int 36), (4, .int 19), (2, .int 17), (0, .ref a), (1, .int 1)] dJ1_grow_158 rfl (by decide) (Nat.le_of_ble_eq_true rfl) rfl 161 rfl ?_
  refine r_goto hC 145 dJ1_grow_161 (by decide) ?_
  refine r_iload hC 0 dJ1_grow_145 rfl 147 rfl ?_
  refine r_iload hC 1 dJ1_grow_147 rfl 149 rfl ?_
  refine r_icge hC 164 dJ1_grow_149 (by decide) 152 rfl (fun h => absurd h (by decide)) (fun _ => ?_)
  refine r_aload hC 3 dJ1_grow_152 rfl 154 rfl ?_
  refine r_iload hC 0 dJ1_grow_154 rfl 156 rfl ?_
  refine r_null hC dJ1_grow_156 157 rfl ?_
  refine r_aastN (J := xSt F V0 [(a, .inr (19, [.ref q1, .int 19, .int 0])), (e, .inl (3, 17, .inr (.inr (.inr (.inr f))))), (q1, .inl (3, 36, .inr (.inr (.inr (.inr (va_up (va_up (va_up (va_up (va_up (va_up (va_up (va_up (va_up (va_up (va_up (va_up (va_up (va_up (va_up (va_up (va_up (va_up (va_cpy (va_cpy f nQ 0 0 17) (va_cpy f nQ 0 0 17) 0 19 17) 0 none) 1 none) 2 none) 3 none) 4 none) 5 none) 6 none) 7 none) 8 none) 9 none) 10 none) 11 none) 12 none) 13 none) 14 none) 15 none) 16 none) 17 none))))))]) hC 17 (xix_n 17 (Nat.le_of_ble_eq_true rfl) (Nat.le_of_ble_eq_true rfl)) rfl (fun _ h => h.get 2 rfl) dJ1_grow_157 (fun _ h => h.set 2 _ rfl) 158 rfl ?_
  refine r_iinc hC 18 7 0 [(7, .int 18), (8, .int 19), (6, .int 19), (5, .ref q1), (3, .int 36), (4, .int 19), (2, .int 17), (0, .ref a), (1, .int 1)] dJ1_grow_158 rfl (by decide) (Nat.le_of_ble_eq_true rfl) rfl 161 rfl ?_
  refine r_goto hC 145 dJ1_grow_161 (by decide) ?_
  refine r_iload hC 0 dJ1_grow_145 rfl 147 rfl ?_
  refine r_iload hC 1 dJ1_grow_147 rfl 149 rfl ?_
  refine r_icge hC 164 dJ1_grow_149 (by decide) 152 rfl (fun h => absurd h (by decide)) (fun _ => ?_)
  refine r_aload hC 3 dJ1_grow_152 rfl 154 rfl ?_
  refine r_iload hC 0 dJ1_grow_154 rfl 156 rfl ?_
  refine r_null hC dJ1_grow_156 157 rfl ?_
  refine r_aastN (J := xSt F V0 [(a, .inr (19, [.ref q1, .int 19, .int 0])), (e, .inl (3, 17, .inr (.inr (.inr (.inr f))))), (q1, .inl (3, 36, .inr (.inr (.inr (.inr (va_up (va_up (va_up (va_up (va_up (va_up (va_up (va_up (va_up (va_up (va_up (va_up (va_up (va_up (va_up (va_up (va_up (va_up (va_up (va_cpy (va_cpy f nQ 0 0 17) (va_cpy f nQ 0 0 17) 0 19 17) 0 none) 1 none) 2 none) 3 none) 4 none) 5 none) 6 none) 7 none) 8 none) 9 none) 10 none) 11 none) 12 none) 13 none) 14 none) 15 none) 16 none) 17 none) 18 none))))))]) hC 18 (xix_n 18 (Nat.le_of_ble_eq_true rfl) (Nat.le_of_ble_eq_true rfl)) rfl (fun _ h => h.get 2 rfl) dJ1_grow_157 (fun _ h => h.set 2 _ rfl) 158 rfl ?_
  refine r_iinc hC 19 7 0 [(7, .int 19), (8, .int 19), (6, .int 19), (5, .ref q1), (3, .int 36), (4, .int 19), (2, .int 17), (0, .ref a), (1, .int 1)] dJ1_grow_158 rfl (by decide) (Nat.le_of_ble_eq_true rfl) rfl 161 rfl ?_
  refine r_goto hC 145 dJ1_grow_161 (by decide) ?_
  refine r_iload hC 0 dJ1_grow_145 rfl 147 rfl ?_
  refine r_iload hC 1 dJ1_grow_147 rfl 149 rfl ?_
  refine r_icge hC 164 dJ1_grow_149 (by decide) 152 rfl (fun _ => ?_) (fun h => absurd h (by decide))
  exact r_vret hC (Nat.le_of_ble_eq_true rfl) (Nat.le_of_ble_eq_true rfl) (fun V9 h => hQ _ _ ⟨[(a, .inr (19, [.ref q1, .int (nI 19), .int (nI (dqT 36 19 17))])), (q1, .inl (3, 36, .inr (.inr (.inr (.inr (va_up (va_up (va_up (va_up (va_up (va_up (va_up (va_up (va_up (va_up (va_up (va_up (va_up (va_up (va_up (va_up (va_up (va_up (va_up (va_cpy (va_cpy f nQ 0 0 17) (va_cpy f nQ 0 0 17) 0 19 17) 0 none) 1 none) 2 none) 3 none) 4 none) 5 none) 6 none) 7 none) 8 none) 9 none) 10 none) 11 none) 12 none) 13 none) 14 none) 15 none) 16 none) 17 none) 18 none))))))], ⟨rfl, q1, (va_up (va_up (va_up (va_up (va_up (va_up (va_up (va_up (va_up (va_up (va_up (va_up (va_up (va_up (va_up (va_up (va_up (va_up (va_up (va_cpy (va_cpy f nQ 0 0 17) (va_cpy f nQ 0 0 17) 0 19 17) 0 none) 1 none) 2 none) 3 none) 4 none) 5 none) 6 none) 7 none) 8 none) 9 none) 10 none) 11 none) 12 none) 13 none) 14 none) 15 none) 16 none) 17 none) 18 none), fun j9 hj9 => by rw [up_ne (by omega), up_ne (by omega), up_ne (by omega), up_ne (by omega), up_ne (by omega), up_ne (by omega), up_ne (by omega), up_ne (by omega), up_ne (by omega), up_ne (by omega), up_ne (by omega), up_ne (by omega), up_ne (by omega), up_ne (by omega), up_ne (by omega), up_ne (by omega), up_ne (by omega), up_ne (by omega), up_ne (by omega), cpy_in (by omega) (by omega), show 0 + (19 + j9 - 19) = j9 by omega, cpy_full hj9], rfl⟩, by rw [← hV0, ← hF]; exact (h.sub [0, 2] rfl rfl)⟩) dJ1_grow_164
