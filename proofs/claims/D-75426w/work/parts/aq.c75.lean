/-! ===== the JDK: maps as they are used ===== -/
set_option maxRecDepth 100000
theorem mpS.rv {M : Nat} {ws : xW} {D : List (Int32 × Nat × Nat)} {pc ps : Nat} (h : mpS M ws D pc ps) : ∃ fs w2, ws = (M, .inr (25, fs)) :: w2 := by
  rcases h with ⟨-, -, -, kd, hs, ky, vl, nx, bf, af, pa, lf, rt, pv, rd, es, mc, -, rfl⟩ | ⟨tb, cap, th, sz, tf, bins, L, ord, kd, hs, ky, vl, nx, bf, af, pa, lf, rt, pv, rd, hd, tl, es, mc, -, -, -, -, -, -, -, rfl⟩
  · exact ⟨_, _, rfl⟩
  · exact ⟨_, _, rfl⟩
set_option maxHeartbeats 4000000 in
set_option maxRecDepth 100000 in
theorem metJ21_getE2 (l : Launch) (G : xG) (hG : xGood G) (M : Nat) (tbo es : Option Nat) (sz th : Nat) (mc : Int32) (hd tl : Option Nat) (kk : Nat) : xRm l G yJ21_get (Cond.code yJ21_get cJ21_get 3 (some (.object "java/lang/Object"))) { frames := 4, locals := 101, cells := 0, slots := 0 } [.ref M, .ref kk] [(M, .inr (25, [.null, va_rf es, .int (nI sz), .int mc, .int (nI th), .float 1061158912, .null, .null, va_rf hd, va_rf tl, .int 0, .int 0]))] (some (.null)) := by
  intro V hV
  refine xMet_ofT RJ21 hG rfl (by decide) (Nat.le_of_ble_eq_true rfl) fun C hC hQ hX hl hg _ hTab => ?_
  subst hl hg
  refine rn.mono (J := xRo [(M, .inr (25, [.null, va_rf es, .int (nI sz), .int mc, .int (nI th), .float 1061158912, .null, .null, va_rf hd, va_rf tl, .int 0, .int 0]))] V) (fun V9 h => ⟨h, hV⟩) ?_
  show rn C (xRo [(M, .inr (25, [.null, va_rf es, .int (nI sz), .int mc, .int (nI th), .float 1061158912, .null, .null, va_rf hd, va_rf tl, .int 0, .int 0]))] V) 0 0 0 [(0, .ref M), (1, .ref kk)] []
  refine r_aload_n hC 0 dJ21_get_0 rfl 1 rfl ?_
  refine r_aload_n hC 1 dJ21_get_1 rfl 2 rfl ?_
  refine xCall.r (r := some (.null)) (r_cVD hC hG kJ21 M [.ref kk] mDJ20_getNode_J21 q1833 (fun _ h => ⟨_, h.get 0 rfl⟩) (fun V9 h9 => (metJ20_getNodeE _ _ hG M none es sz th mc hd tl kk rfl) V9 (h9.in.sub [0] rfl rfl)) ⟨rfl, rfl⟩ (Nat.le_of_ble_eq_true rfl) (Nat.le_of_ble_eq_true rfl) rfl (Nat.le_of_ble_eq_true rfl) dJ21_get_2) 0 0 5 rfl rfl rfl ?_
  refine r_dup hC dJ21_get_5 rfl 6 rfl ?_
  refine r_astore_nN hC 2 [(2, .null), (0, .ref M), (1, .ref kk)] dJ21_get_6 rfl (Nat.le_of_ble_eq_true rfl) rfl 7 rfl ?_
  refine r_ifnonnullN hC dJ21_get_7 10 rfl ?_
  refine r_null hC dJ21_get_10 11 rfl ?_
  exact r_aret hC (v := none) (Or.inl ⟨_, rfl⟩) (Nat.le_of_ble_eq_true rfl) (Nat.le_of_ble_eq_true rfl) (fun V9 h => hQ _ _ ⟨rfl, h.1⟩) dJ21_get_11
theorem mapGetNO (l : Launch) (G : xG) (hG : xGood G) {M : Nat} {ws : xW} {D : List (Int32 × Nat × Nat)} {pc ps : Nat} (h : mpS M ws D pc ps) (kk : Nat) (c9 d9 : Int32) (hq : hsh c9 d9 ∉ D.map (fun q => q.1)) (V : xV) (hV : xIn (([(kk, .inr (14, [.int c9, .int d9]))] ++ ws)) V) : xMet l G yJ21_get [(Cond.code yJ21_get cJ21_get 3 (some (.object "java/lang/Object")))] { frames := 4, locals := 101, cells := 0, slots := 0 } [.ref M, .ref kk] V (fun v V' => v = some .null ∧ V' = V) (fun _ _ => False) := by
  rcases h with ⟨hD, h1, h2, kd, hs, ky, vl, nx, bf, af, pa, lf, rt, pv, rd, es, mc, hes, rfl⟩ | ⟨tb, cap, th, sz, tf, bins, L, ord, kd, hs, ky, vl, nx, bf, af, pa, lf, rt, pv, rd, hd, tl, es, mc, hM, hsz, hszt, hs3, hpc, hps, hes, rfl⟩
  · exact metJ21_getE2 l G hG M none es 0 0 mc none none kk V (hV.sub [1] rfl rfl)
  · exact metJ21_getNO l G hG (fun V9 => ∀ a, a ∈ L → V9.2 a = some (ndX kd hs ky vl nx bf af pa lf rt pv rd a)) L kd hs ky vl nx bf af pa lf rt pv rd (fun _ h => h) M (some tb) es sz th mc hd tl tb cap tf hM.1 kk c9 d9 bins ord hM.2.2.1 hM.2.2.2.2.1 (mp_inj hM) (mp_ne hM hq) V (fun a ha => hV.mem (List.mem_append_right _ (List.mem_append_right _ (stW_mem ha)))) (hV.sub [1, 2, 0] rfl rfl)
theorem mapGetOK (l : Launch) (G : xG) (hG : xGood G) {M : Nat} {ws : xW} {D : List (Int32 × Nat × Nat)} {pc ps : Nat} (h : mpS M ws D pc ps) (kk : Nat) (c9 d9 : Int32) (ka va : Nat) (hq : (hsh c9 d9, ka, va) ∈ D) (hka : kk ≠ ka) (V : xV) (hV : xIn (([(kk, .inr (14, [.int c9, .int d9])), (ka, .inr (14, [.int c9, .int d9]))] ++ ws)) V) : xMet l G yJ21_get [(Cond.code yJ21_get cJ21_get 3 (some (.object "java/lang/Object")))] { frames := 4, locals := 101, cells := 0, slots := 0 } [.ref M, .ref kk] V (fun v V' => v = some (.ref va) ∧ V' = V) (fun _ _ => False) := by
  rcases h with ⟨hD, h1, h2, kd, hs, ky, vl, nx, bf, af, pa, lf, rt, pv, rd, es, mc, hes, rfl⟩ | ⟨tb, cap, th, sz, tf, bins, L, ord, kd, hs, ky, vl, nx, bf, af, pa, lf, rt, pv, rd, hd, tl, es, mc, hM, hsz, hszt, hs3, hpc, hps, hes, rfl⟩
  · rw [hD] at hq; exact absurd hq List.not_mem_nil
  · rw [← hM.2.2.2.2.2.1] at hq
    obtain ⟨i, hi, e⟩ := List.mem_map.mp hq
    obtain rfl : ky i = ka := congrArg (fun q => q.2.1) e
    obtain rfl : vl i = va := congrArg (fun q => q.2.2) e
    have e1 : hs i = hsh c9 d9 := congrArg (fun q => q.1) e
    exact metJ21_getOK l G hG (fun V9 => ∀ a, a ∈ L → V9.2 a = some (ndX kd hs ky vl nx bf af pa lf rt pv rd a)) L kd hs ky vl nx bf af pa lf rt pv rd (fun _ h => h) M (some tb) es sz th mc hd tl tb cap tf hM.1 kk c9 d9 bins ord hM.2.2.1 hM.2.2.2.2.1 (mp_inj hM) i hi hka e1 V (fun a ha => hV.mem (List.mem_append_right _ (List.mem_append_right _ (stW_mem ha)))) (hV.sub [2, 3, 0, 1] rfl rfl)
set_option maxHeartbeats 4000000 in
set_option maxRecDepth 100000 in
theorem metJ20_putA (l : Launch) (G : xG) (hG : xGood G) (M : Nat) (ws : xW) (D : List (Int32 × Nat × Nat)) (pc ps c s : Nat) (kk vv : Nat) (c9 d9 : Int32) (hrv : ∃ fs w2, ws = (M, .inr (25, fs)) :: w2) (hPV : xWm l G yJ20_putVal (Cond.code yJ20_putVal cJ20_putVal 13 (some (.object "java/lang/Object"))) { frames := 8, locals := 211, cells := c, slots := s } [.ref M, .int (hsh c9 d9), .ref kk, .ref vv, .int 0, .int 1] ws (fun v w' => v = some .null ∧ mpS M w' (D ++ [(hsh c9 d9, kk, vv)]) (pc - c) (ps - s)) (fun _ _ => False)) : xWm l G yJ20_put (Cond.code yJ20_put cJ20_put 3 (some (.object "java/lang/Object"))) { frames := 9, locals := 243, cells := c, slots := s } [.ref M, .ref kk, .ref vv] ([(kk, .inr (14, [.int c9, .int d9]))] ++ ws) (fun v w' => v = some .null ∧ ∃ w1, mpS M w1 (D ++ [(hsh c9 d9, kk, vv)]) (pc - c) (ps - s) ∧ w' = ([(kk, .inr (14, [.int c9, .int d9]))] ++ w1)) (fun _ _ => False) := by
  intro V hV
  refine xMet_ofT RJ20 hG rfl (by decide) (Nat.le_of_ble_eq_true rfl) fun C hC hQ hX hl hg _ hTab => ?_
  subst hl hg
  obtain ⟨V0, hV0⟩ : ∃ V0, V0 = V := ⟨_, rfl⟩
  obtain ⟨F, hF⟩ : ∃ F, F = xF ([(kk, .inr (14, [.int c9, .int d9]))] ++ ws) := ⟨_, rfl⟩
  refine rn.mono (J := xSt F V0 ([(kk, .inr (14, [.int c9, .int d9]))] ++ ws)) (fun V9 h => by rw [h, hV0, hF]; exact hV.st) ?_
  show rn C (xSt F V0 ([(kk, .inr (14, [.int c9, .int d9]))] ++ ws)) 0 0 0 [(0, .ref M), (1, .ref kk), (2, .ref vv)] []
  refine r_aload_n hC 0 dJ20_put_0 rfl 1 rfl ?_
  refine r_aload_n hC 1 dJ20_put_1 rfl 2 rfl ?_
  refine xCall.r (r := some (.int (hsh c9 d9))) (r_cS hC [.ref kk] mSJ20_hash q1839 (fun V9 h9 => (metJ20_hash _ _ hG kk c9 d9) V9 (h9.in.sub [0] rfl rfl)) ⟨rfl, rfl⟩ (Nat.le_of_ble_eq_true rfl) (Nat.le_of_ble_eq_true rfl) rfl (Nat.le_of_ble_eq_true rfl) dJ20_put_2) 0 0 5 rfl rfl rfl ?_
  refine r_aload_n hC 1 dJ20_put_5 rfl 6 rfl ?_
  refine r_aload_n hC 2 dJ20_put_6 rfl 7 rfl ?_
  refine r_iconst hC 0 dJ20_put_7 ic_0 8 rfl ?_
  refine r_iconst hC 1 dJ20_put_8 ic_1 9 rfl ?_
  refine xCall.ct (wcx := []) (wr := [(kk, .inr (14, [.int c9, .int d9]))]) (r_cV hC kJ21 M [.int (hsh c9 d9), .ref kk, .ref vv, .int 0, .int 1] mVJ20_putVal_J21 q2187 (fun _ h => by obtain ⟨fs, w2, rfl⟩ := hrv; exact ⟨fs, h.mem (List.mem_append_right _ List.mem_cons_self)⟩) (fun V9 h9 => hPV V9 (h9.in.cut (wcx := []) (wr := [(kk, .inr (14, [.int c9, .int d9]))]) [] [0] 1 rfl rfl rfl rfl)) ⟨rfl, rfl⟩ (by first | omega | (dsimp only; omega)) (by first | omega | (dsimp only; omega)) rfl (Nat.le_of_ble_eq_true rfl) dJ20_put_9) [] [0] 1 rfl rfl rfl rfl (0 + c) (0 + s) 12 rfl rfl rfl (fun v1 w2 h3 => ?_) (fun _ _ h => h.elim)
  obtain ⟨rfl, hw9⟩ := h3
  show rn C (xSt F V0 ([(kk, .inr (14, [.int c9, .int d9]))] ++ w2)) (0 + c) (0 + s) 12 [(0, .ref M), (1, .ref kk), (2, .ref vv)] [.null]
  exact r_aret hC (v := none) (Or.inl ⟨_, rfl⟩) (by first | omega | (dsimp only; omega)) (by first | omega | (dsimp only; omega)) (fun V9 h => hQ _ _ ⟨_, ⟨rfl, _, hw9, rfl⟩, by rw [← hV0, ← hF]; exact h⟩) dJ20_put_12
theorem mapPut (l : Launch) (G : xG) (hG : xGood G) {M : Nat} {ws : xW} {D : List (Int32 × Nat × Nat)} {pc ps : Nat} (h : mpS M ws D pc ps) (kk vv : Nat) (c9 d9 : Int32) (hq : hsh c9 d9 ∉ D.map (fun q => q.1)) (hn : D.length ≤ 300) : ∃ c s, c ≤ pc ∧ s ≤ ps ∧ xWm l G yJ20_put (Cond.code yJ20_put cJ20_put 3 (some (.object "java/lang/Object"))) { frames := 9, locals := 243, cells := c, slots := s } [.ref M, .ref kk, .ref vv] ([(kk, .inr (14, [.int c9, .int d9]))] ++ ws) (fun v w' => v = some .null ∧ ∃ w1, mpS M w1 (D ++ [(hsh c9 d9, kk, vv)]) (pc - c) (ps - s) ∧ w' = ([(kk, .inr (14, [.int c9, .int d9]))] ++ w1)) (fun _ _ => False) := by
  obtain ⟨c, s, g1, g2, g3⟩ := metJ20_putVal l G hG h (hsh c9 d9) kk vv hq hn
  exact ⟨c, s, g1, g2, metJ20_putA l G hG M ws D pc ps c s kk vv c9 d9 h.rv g3⟩
set_option maxHeartbeats 4000000 in
set_option maxRecDepth 100000 in
theorem metJ20_size1 (l : Launch) (G : xG) (hG : xGood G) (M : Nat) (tbo es : Option Nat) (sz th : Nat) (mc : Int32) (hd tl : Option Nat) : xRm l G yJ20_size (Cond.code yJ20_size cJ20_size 1 (some .int)) { frames := 0, locals := 0, cells := 0, slots := 0 } [.ref M] [(M, .inr (25, [va_rf tbo, va_rf es, .int (nI sz), .int mc, .int (nI th), .float 1061158912, .null, .null, va_rf hd, va_rf tl, .int 0, .int 0]))] (some (.int (nI sz))) := by
  intro V hV
  refine xMet_ofT RJ20 hG rfl (by decide) (Nat.le_of_ble_eq_true rfl) fun C hC hQ hX hl hg _ hTab => ?_
  subst hl hg
  refine rn.mono (J := xRo [(M, .inr (25, [va_rf tbo, va_rf es, .int (nI sz), .int mc, .int (nI th), .float 1061158912, .null, .null, va_rf hd, va_rf tl, .int 0, .int 0]))] V) (fun V9 h => ⟨h, hV⟩) ?_
  show rn C (xRo [(M, .inr (25, [va_rf tbo, va_rf es, .int (nI sz), .int mc, .int (nI th), .float 1061158912, .null, .null, va_rf hd, va_rf tl, .int 0, .int 0]))] V) 0 0 0 [(0, .ref M)] []
  refine r_aload_n hC 0 dJ20_size_0 rfl 1 rfl ?_
  refine r_get (v := .int (nI sz)) hC kJ21 2 rfl q1773 (fun _ h => h.get 0 rfl) rfl dJ20_size_1 4 rfl ?_
  exact r_iret hC (Nat.le_of_ble_eq_true rfl) (Nat.le_of_ble_eq_true rfl) (fun V9 h => hQ _ _ ⟨rfl, h.1⟩) dJ20_size_4
theorem mapSize (l : Launch) (G : xG) (hG : xGood G) {M : Nat} {ws : xW} {D : List (Int32 × Nat × Nat)} {pc ps : Nat} (h : mpS M ws D pc ps) (V : xV) (hV : xIn ws V) : xMet l G yJ20_size [(Cond.code yJ20_size cJ20_size 1 (some .int))] { frames := 0, locals := 0, cells := 0, slots := 0 } [.ref M] V (fun v V' => v = some (.int (nI D.length)) ∧ V' = V) (fun _ _ => False) := by
  rcases h with ⟨hD, h1, h2, kd, hs, ky, vl, nx, bf, af, pa, lf, rt, pv, rd, es, mc, hes, rfl⟩ | ⟨tb, cap, th, sz, tf, bins, L, ord, kd, hs, ky, vl, nx, bf, af, pa, lf, rt, pv, rd, hd, tl, es, mc, hM, hsz, hszt, hs3, hpc, hps, hes, rfl⟩
  · rw [hD]
    exact metJ20_size1 l G hG M none es 0 0 mc none none V (hV.sub [0] rfl rfl)
  · rw [← hsz]
    exact metJ20_size1 l G hG M (some tb) es sz th mc hd tl V (hV.sub [0] rfl rfl)
set_option maxHeartbeats 4000000 in
set_option maxRecDepth 100000 in
theorem metJ19_init_J21 (l : Launch) (G : xG) (hG : xGood G) (q : Nat) : xWm l G yJ19_init (Cond.code yJ19_init cJ19_init 1 none) { frames := 1, locals := 20, cells := 0, slots := 0 } [.ref q] [(q, .inr (25, [.null, .null, .int 0, .int 0, .int 0, .float 0, .null, .null, .null, .null, .int 0, .int 0]))] (fun v w' => v = none ∧ w' = [(q, .inr (25, [.null, .null, .int 0, .int 0, .int 0, .float 0, .null, .null, .null, .null, .int 0, .int 0]))]) (fun _ _ => False) := by
  intro V hV
  refine xMet_ofT RJ19 hG rfl (by decide) (Nat.le_of_ble_eq_true rfl) fun C hC hQ hX hl hg hini hTab => ?_
  subst hl hg
  replace hini := hini rfl
  obtain ⟨V0, hV0⟩ : ∃ V0, V0 = V := ⟨_, rfl⟩
  obtain ⟨F, hF⟩ : ∃ F, F = xF [(q, .inr (25, [.null, .null, .int 0, .int 0, .int 0, .float 0, .null, .null, .null, .null, .int 0, .int 0]))] := ⟨_, rfl⟩
  refine rn.mono (J := xSt F V0 [(q, .inr (25, [.null, .null, .int 0, .int 0, .int 0, .float 0, .null, .null, .null, .null, .int 0, .int 0]))]) (fun V9 h => by rw [h, hV0, hF]; exact hV.st) ?_
  show rn C (xSt F V0 [(q, .inr (25, [.null, .null, .int 0, .int 0, .int 0, .float 0, .null, .null, .null, .null, .int 0, .int 0]))]) 0 0 0 [(0, .ref q)] []
  refine r_aload_n hC 0 dJ19_init_0 rfl 1 rfl ?_
  refine r_objInit hC q1762 (Nat.le_of_ble_eq_true rfl) (Nat.le_of_ble_eq_true rfl) (Nat.le_of_ble_eq_true rfl) dJ19_init_1 4 rfl ?_
  exact r_vret hC (Nat.le_of_ble_eq_true rfl) (Nat.le_of_ble_eq_true rfl) (fun V9 h => hQ _ _ ⟨[(q, .inr (25, [.null, .null, .int 0, .int 0, .int 0, .float 0, .null, .null, .null, .null, .int 0, .int 0]))], ⟨rfl, rfl⟩, by rw [← hV0, ← hF]; exact h⟩) dJ19_init_4
set_option maxHeartbeats 4000000 in
set_option maxRecDepth 100000 in
theorem metJ20_init_J21 (l : Launch) (G : xG) (hG : xGood G) (q : Nat) : xWm l G yJ20_init (Cond.code yJ20_init cJ20_init 1 none) { frames := 2, locals := 40, cells := 0, slots := 0 } [.ref q] [(q, .inr (25, [.null, .null, .int 0, .int 0, .int 0, .float 0, .null, .null, .null, .null, .int 0, .int 0]))] (fun v w' => v = none ∧ w' = [(q, .inr (25, [.null, .null, .int 0, .int 0, .int 0, .float 1061158912, .null, .null, .null, .null, .int 0, .int 0]))]) (fun _ _ => False) := by
  intro V hV
  refine xMet_ofT RJ20 hG rfl (by decide) (Nat.le_of_ble_eq_true rfl) fun C hC hQ hX hl hg hini hTab => ?_
  subst hl hg
  replace hini := hini rfl
  obtain ⟨V0, hV0⟩ : ∃ V0, V0 = V := ⟨_, rfl⟩
  obtain ⟨F, hF⟩ : ∃ F, F = xF [(q, .inr (25, [.null, .null, .int 0, .int 0, .int 0, .float 0, .null, .null, .null, .null, .int 0, .int 0]))] := ⟨_, rfl⟩
  refine rn.mono (J := xSt F V0 [(q, .inr (25, [.null, .null, .int 0, .int 0, .int 0, .float 0, .null, .null, .null, .null, .int 0, .int 0]))]) (fun V9 h => by rw [h, hV0, hF]; exact hV.st) ?_
  show rn C (xSt F V0 [(q, .inr (25, [.null, .null, .int 0, .int 0, .int 0, .float 0, .null, .null, .null, .null, .int 0, .int 0]))]) 0 0 0 [(0, .ref q)] []
  refine r_aload_n hC 0 dJ20_init_0 rfl 1 rfl ?_
  refine xCall.w (wr := []) (r_cI hC q [] mIJ19_init q1759 (fun V9 h9 => (metJ19_init_J21 _ _ hG q) V9 (h9.in.sub [0] rfl rfl)) ⟨rfl, rfl⟩ (Nat.le_of_ble_eq_true rfl) (Nat.le_of_ble_eq_true rfl) rfl (Nat.le_of_ble_eq_true rfl) dJ20_init_1) [0] [] rfl rfl rfl (by decide) 0 0 4 rfl rfl rfl (fun v1 w2 h3 => ?_) (fun _ _ h => h.elim)
  obtain ⟨rfl, rfl⟩ := h3
  show rn C (xSt F V0 [(q, .inr (25, [.null, .null, .int 0, .int 0, .int 0, .float 0, .null, .null, .null, .null, .int 0, .int 0]))]) 0 0 4 [(0, .ref q)] []
  refine r_aload_n hC 0 dJ20_init_4 rfl 5 rfl ?_
  refine r_ldcf hC q1763 dJ20_init_5 7 rfl ?_
  refine r_putF (J := xSt F V0 [(q, .inr (25, [.null, .null, .int 0, .int 0, .int 0, .float 1061158912, .null, .null, .null, .null, .int 0, .int 0]))]) hC hini kJ21 5 rfl q1779 rfl rfl (fun _ h => h.get 0 rfl) (Nat.le_of_ble_eq_true rfl) (rfl) (rfl) dJ20_init_7 (fun _ h => h.set 0 _ rfl) 10 rfl ?_
  exact r_vret hC (Nat.le_of_ble_eq_true rfl) (Nat.le_of_ble_eq_true rfl) (fun V9 h => hQ _ _ ⟨[(q, .inr (25, [.null, .null, .int 0, .int 0, .int 0, .float 1061158912, .null, .null, .null, .null, .int 0, .int 0]))], ⟨rfl, rfl⟩, by rw [← hV0, ← hF]; exact h⟩) dJ20_init_10
set_option maxHeartbeats 4000000 in
set_option maxRecDepth 100000 in
theorem metJ21_init_J21 (l : Launch) (G : xG) (hG : xGood G) (q : Nat) : xWm l G yJ21_init (Cond.code yJ21_init cJ21_init 1 none) { frames := 3, locals := 60, cells := 0, slots := 0 } [.ref q] [(q, .inr (25, [.null, .null, .int 0, .int 0, .int 0, .float 0, .null, .null, .null, .null, .int 0, .int 0]))] (fun v w' => v = none ∧ w' = [(q, .inr (25, [.null, .null, .int 0, .int 0, .int 0, .float 1061158912, .null, .null, .null, .null, .int 0, .int 0]))]) (fun _ _ => False) := by
  intro V hV
  refine xMet_ofT RJ21 hG rfl (by decide) (Nat.le_of_ble_eq_true rfl) fun C hC hQ hX hl hg hini hTab => ?_
  subst hl hg
  replace hini := hini rfl
  obtain ⟨V0, hV0⟩ : ∃ V0, V0 = V := ⟨_, rfl⟩
  obtain ⟨F, hF⟩ : ∃ F, F = xF [(q, .inr (25, [.null, .null, .int 0, .int 0, .int 0, .float 0, .null, .null, .null, .null, .int 0, .int 0]))] := ⟨_, rfl⟩
  refine rn.mono (J := xSt F V0 [(q, .inr (25, [.null, .null, .int 0, .int 0, .int 0, .float 0, .null, .null, .null, .null, .int 0, .int 0]))]) (fun V9 h => by rw [h, hV0, hF]; exact hV.st) ?_
  show rn C (xSt F V0 [(q, .inr (25, [.null, .null, .int 0, .int 0, .int 0, .float 0, .null, .null, .null, .null, .int 0, .int 0]))]) 0 0 0 [(0, .ref q)] []
  refine r_aload_n hC 0 dJ21_init_0 rfl 1 rfl ?_
  refine xCall.w (wr := []) (r_cI hC q [] mIJ20_init q1756 (fun V9 h9 => (metJ20_init_J21 _ _ hG q) V9 (h9.in.sub [0] rfl rfl)) ⟨rfl, rfl⟩ (Nat.le_of_ble_eq_true rfl) (Nat.le_of_ble_eq_true rfl) rfl (Nat.le_of_ble_eq_true rfl) dJ21_init_1) [0] [] rfl rfl rfl (by decide) 0 0 4 rfl rfl rfl (fun v1 w2 h3 => ?_) (fun _ _ h => h.elim)
  obtain ⟨rfl, rfl⟩ := h3
  show rn C (xSt F V0 [(q, .inr (25, [.null, .null, .int 0, .int 0, .int 0, .float 1061158912, .null, .null, .null, .null, .int 0, .int 0]))]) 0 0 4 [(0, .ref q)] []
  refine r_aload_n hC 0 dJ21_init_4 rfl 5 rfl ?_
  refine r_iconst hC 0 dJ21_init_5 ic_0 6 rfl ?_
  refine r_put (J := xSt F V0 [(q, .inr (25, [.null, .null, .int 0, .int 0, .int 0, .float 1061158912, .null, .null, .null, .null, .int 0, .int 0]))]) hC kJ21 11 rfl q1769 rfl (fun _ h => h.get 0 rfl) (Nat.le_of_ble_eq_true rfl) (rfl) (rfl) dJ21_init_6 (fun _ h => h.set 0 _ rfl) 9 rfl ?_
  refine r_aload_n hC 0 dJ21_init_9 rfl 10 rfl ?_
  refine r_iconst hC 0 dJ21_init_10 ic_0 11 rfl ?_
  refine r_putF (J := xSt F V0 [(q, .inr (25, [.null, .null, .int 0, .int 0, .int 0, .float 1061158912, .null, .null, .null, .null, .int 0, .int 0]))]) hC hini kJ21 10 rfl q1768 rfl rfl (fun _ h => h.get 0 rfl) (Nat.le_of_ble_eq_true rfl) (rfl) (rfl) dJ21_init_11 (fun _ h => h.set 0 _ rfl) 14 rfl ?_
  exact r_vret hC (Nat.le_of_ble_eq_true rfl) (Nat.le_of_ble_eq_true rfl) (fun V9 h => hQ _ _ ⟨[(q, .inr (25, [.null, .null, .int 0, .int 0, .int 0, .float 1061158912, .null, .null, .null, .null, .int 0, .int 0]))], ⟨rfl, rfl⟩, by rw [← hV0, ← hF]; exact h⟩) dJ21_init_14
theorem mpS.start {M : Nat} : mpS M [(M, .inr (25, [.null, .null, .int 0, .int 0, .int 0, .float 1061158912, .null, .null, .null, .null, .int 0, .int 0]))] [] 3640 (12 * 3640 + 1024) := Or.inl ⟨rfl, Nat.le_refl _, Nat.le_refl _, fun _ => false, fun _ => 0, id, id, fun _ => none, fun _ => none, fun _ => none, fun _ => none, fun _ => none, fun _ => none, fun _ => none, fun _ => 0, none, 0, rfl, rfl⟩
