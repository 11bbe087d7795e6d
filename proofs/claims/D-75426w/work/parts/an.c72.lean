/-! ===== the JDK: maps: treeifyBin under 64, putVal ===== -/
set_option maxRecDepth 100000
theorem lt64 {n : Nat} (h : n < 64) : ¬ 64 ≤ nI n := by
  rw [Int32.le_iff_toInt_le, nI_toInt (by omega)]
  have h0 : (64 : Int32).toInt = 64 := rfl
  omega
theorem lt7 {n : Nat} (h : n < 7) : nI n < 7 := by
  rw [Int32.lt_iff_toInt_lt, nI_toInt (by omega)]
  have h0 : (7 : Int32).toInt = 7 := rfl
  omega
theorem ge7 {n : Nat} (h : 7 ≤ n) (h2 : n < 2147483648) : ¬ nI n < 7 := by
  rw [Int32.lt_iff_toInt_lt, nI_toInt (by omega)]
  have h0 : (7 : Int32).toInt = 7 := rfl
  omega
set_option maxHeartbeats 4000000 in
set_option maxRecDepth 100000 in
theorem metJ20_treeifyBinC (l : Launch) (G : xG) (hG : xGood G) (L : List Nat) (kd : Nat → Bool) (hs : Nat → Int32) (ky vl : Nat → Nat) (nx bf af pa lf rt pv : Nat → Option Nat) (rd : Nat → Int32) (M : Nat) (es : Option Nat) (sz th : Nat) (mc : Int32) (hd tl : Option Nat) (tb cap : Nat) (tf : Nat → Option Nat) (hcap : capI cap) (hcap2 : capI (2 * cap)) (hth1 : 1 ≤ th) (hth2 : th ≤ 512) (bins : Nat → List Nat) (ord : List Nat) (hbi : binsI kd hs nx pa lf rt pv tf cap bins ord) (hl : lnk bf af hd tl ord) (hoL : ∀ a, a ∈ ord → a ∈ L) (hD : ((ord.map (dt hs ky vl)).map (fun q => q.1)).Nodup) (hon : ord.length ≤ 1000) (hz : Int32) (hc64 : cap < 64) : xWm l G yJ20_treeifyBin (Cond.code yJ20_treeifyBin cJ20_treeifyBin 9 none) { frames := 7, locals := 183, cells := 1 + ord.length, slots := 2 * cap + 6 * ord.length } [.ref M, .ref tb, .int hz] ([(M, .inr (25, [.ref tb, va_rf es, .int (nI sz), .int mc, .int (nI th), .float 1061158912, .null, .null, va_rf hd, va_rf tl, .int 0, .int 0])), (tb, .inl (8, cap, .inr (.inr (.inr (.inr tf)))))] ++ stW L (ndX kd hs ky vl nx bf af pa lf rt pv rd)) (fun v w' => ∃ (nt : Nat) (nf : Nat → Option Nat) (nb : Nat → List Nat) (L2 ord2 : List Nat) (kd2 : Nat → Bool) (hs2 : Nat → Int32) (ky2 vl2 : Nat → Nat) (nx2 bf2 af2 pa2 lf2 rt2 pv2 : Nat → Option Nat) (rd2 : Nat → Int32) (hd2 tl2 : Option Nat), v = none ∧ binsI kd2 hs2 nx2 pa2 lf2 rt2 pv2 nf (2 * cap) nb ord2 ∧ lnk bf2 af2 hd2 tl2 ord2 ∧ (∀ a, a ∈ ord2 → a ∈ L2) ∧ ord2.map (dt hs2 ky2 vl2) = ord.map (dt hs ky vl) ∧ w' = ([(M, .inr (25, [.ref nt, va_rf es, .int (nI sz), .int mc, .int (nI (2 * th)), .float 1061158912, .null, .null, va_rf hd2, va_rf tl2, .int 0, .int 0])), (nt, .inl (8, 2 * cap, .inr (.inr (.inr (.inr nf)))))] ++ stW L2 (ndX kd2 hs2 ky2 vl2 nx2 bf2 af2 pa2 lf2 rt2 pv2 rd2))) (fun _ _ => False) := by
  intro V hV
  refine xMet_ofT RJ20 hG rfl (by decide) (Nat.le_of_ble_eq_true rfl) fun C hC hQ hX hl hg _ hTab => ?_
  subst hl hg
  have hle := hcap.le
  obtain ⟨V0, hV0⟩ : ∃ V0, V0 = V := ⟨_, rfl⟩
  obtain ⟨F, hF⟩ : ∃ F, F = xF ([(M, .inr (25, [.ref tb, va_rf es, .int (nI sz), .int mc, .int (nI th), .float 1061158912, .null, .null, va_rf hd, va_rf tl, .int 0, .int 0])), (tb, .inl (8, cap, .inr (.inr (.inr (.inr tf)))))] ++ stW L (ndX kd hs ky vl nx bf af pa lf rt pv rd)) := ⟨_, rfl⟩
  refine rn.mono (J := xSt F V0 ([(M, .inr (25, [.ref tb, va_rf es, .int (nI sz), .int mc, .int (nI th), .float 1061158912, .null, .null, va_rf hd, va_rf tl, .int 0, .int 0])), (tb, .inl (8, cap, .inr (.inr (.inr (.inr tf)))))] ++ stW L (ndX kd hs ky vl nx bf af pa lf rt pv rd))) (fun V9 h => by rw [h, hV0, hF]; exact hV.st) ?_
  show rn C (xSt F V0 ([(M, .inr (25, [.ref tb, va_rf es, .int (nI sz), .int mc, .int (nI th), .float 1061158912, .null, .null, va_rf hd, va_rf tl, .int 0, .int 0])), (tb, .inl (8, cap, .inr (.inr (.inr (.inr tf)))))] ++ stW L (ndX kd hs ky vl nx bf af pa lf rt pv rd))) 0 0 0 [(0, .ref M), (1, .ref tb), (2, .int hz)] []
  refine r_aload_n hC 1 dJ20_treeifyBin_0 rfl 1 rfl ?_
  refine r_ifnull hC dJ20_treeifyBin_1 4 rfl ?_
  refine r_aload_n hC 1 dJ20_treeifyBin_4 rfl 5 rfl ?_
  refine r_alen hC (nI cap) (t := 8) rfl (fun _ h => h.get 1 rfl) rfl dJ20_treeifyBin_5 6 rfl ?_
  refine r_dup hC dJ20_treeifyBin_6 rfl 7 rfl ?_
  refine r_istore_n hC 3 [(3, .int (nI cap)), (0, .ref M), (1, .ref tb), (2, .int hz)] dJ20_treeifyBin_7 rfl (Nat.le_of_ble_eq_true rfl) rfl 8 rfl ?_
  refine r_bipush hC 64 dJ20_treeifyBin_8 bp_64 10 rfl ?_
  refine r_icge hC 21 dJ20_treeifyBin_10 (by decide) 13 rfl (fun h => absurd h (lt64 hc64)) (fun _ => ?_)
  refine r_aload_n hC 1 dJ20_treeifyBin_13 rfl 14 rfl ?_
  refine xCall.ct (wcx := [(M, .inr (25, [.ref tb, va_rf es, .int (nI sz), .int mc, .int (nI th), .float 1061158912, .null, .null, va_rf hd, va_rf tl, .int 0, .int 0])), (tb, .inl (8, cap, .inr (.inr (.inr (.inr tf)))))]) (wr := []) (r_cV hC kJ21 M [] mVJ20_resize_J21 q2192 (fun _ h => ⟨_, h.get 0 rfl⟩) (fun V9 h9 => (metJ20_resizeB _ _ hG L kd hs ky vl nx bf af pa lf rt pv rd M es sz th mc hd tl tb cap tf hcap hcap2 hth1 hth2 bins ord hbi hl hoL hD hon) V9 (h9.in.cut (wcx := [(M, .inr (25, [.ref tb, va_rf es, .int (nI sz), .int mc, .int (nI th), .float 1061158912, .null, .null, va_rf hd, va_rf tl, .int 0, .int 0])), (tb, .inl (8, cap, .inr (.inr (.inr (.inr tf)))))]) (wr := []) [0, 1] [] 2 rfl rfl rfl rfl)) ⟨rfl, rfl⟩ (by first | omega | (dsimp only; omega)) (by first | omega | (dsimp only; omega)) rfl (Nat.le_of_ble_eq_true rfl) dJ20_treeifyBin_14) [0, 1] [] 2 rfl rfl rfl rfl (0 + (1 + ord.length)) (0 + (2 * cap + 6 * ord.length)) 17 rfl rfl rfl (fun v2 w3 h4 => ?_) (fun _ _ h => h.elim)
  obtain ⟨nt1, nf, nb, L2, ord2, kd2, hs2, ky2, vl2, nx2, bf2, af2, pa2, lf2, rt2, pv2, rd2, hd2, tl2, rfl, hZ1, hZ2, hZ3, hZ4, rfl⟩ := h4
  refine rn.mono (J := xSt F V0 ([(M, .inr (25, [.ref nt1, va_rf es, .int (nI sz), .int mc, .int (nI (2 * th)), .float 1061158912, .null, .null, va_rf hd2, va_rf tl2, .int 0, .int 0])), (nt1, .inl (8, 2 * cap, .inr (.inr (.inr (.inr nf)))))] ++ stW L2 (ndX kd2 hs2 ky2 vl2 nx2 bf2 af2 pa2 lf2 rt2 pv2 rd2))) (fun _ h => by rw [← List.append_assoc] at h; exact h) ?_
  show rn C (xSt F V0 ([(M, .inr (25, [.ref nt1, va_rf es, .int (nI sz), .int mc, .int (nI (2 * th)), .float 1061158912, .null, .null, va_rf hd2, va_rf tl2, .int 0, .int 0])), (nt1, .inl (8, 2 * cap, .inr (.inr (.inr (.inr nf)))))] ++ stW L2 (ndX kd2 hs2 ky2 vl2 nx2 bf2 af2 pa2 lf2 rt2 pv2 rd2))) (0 + (1 + ord.length)) (0 + (2 * cap + 6 * ord.length)) 17 [(3, .int (nI cap)), (0, .ref M), (1, .ref tb), (2, .int hz)] [.ref nt1]
  refine r_pop hC dJ20_treeifyBin_17 rfl 18 rfl ?_
  refine r_goto hC 109 dJ20_treeifyBin_18 (by decide) ?_
  exact r_vret hC (by first | omega | (dsimp only; omega)) (by first | omega | (dsimp only; omega)) (fun V9 h => hQ _ _ ⟨_, ⟨nt1, nf, nb, L2, ord2, kd2, hs2, ky2, vl2, nx2, bf2, af2, pa2, lf2, rt2, pv2, rd2, hd2, tl2, rfl, hZ1, hZ2, hZ3, hZ4, rfl⟩, by rw [← hV0, ← hF]; exact h⟩) dJ20_treeifyBin_109
set_option maxHeartbeats 4000000 in
set_option maxRecDepth 100000 in
theorem metJ21_removeEldestEntry (l : Launch) (G : xG) (hG : xGood G) (M x9 : Nat) : xRm l G yJ21_removeEldestEntry (Cond.code yJ21_removeEldestEntry cJ21_removeEldestEntry 2 (some .boolean)) { frames := 0, locals := 0, cells := 0, slots := 0 } [.ref M, .ref x9] [] (some (.int 0)) := by
  intro V hV
  refine xMet_ofT RJ21 hG rfl (by decide) (Nat.le_of_ble_eq_true rfl) fun C hC hQ hX hl hg _ hTab => ?_
  subst hl hg
  refine rn.mono (J := xRo [] V) (fun V9 h => ⟨h, hV⟩) ?_
  show rn C (xRo [] V) 0 0 0 [(0, .ref M), (1, .ref x9)] []
  refine r_iconst hC 0 dJ21_removeEldestEntry_0 ic_0 1 rfl ?_
  exact r_zret hC (by decide) (Nat.le_of_ble_eq_true rfl) (Nat.le_of_ble_eq_true rfl) (fun V9 h => hQ _ _ ⟨rfl, h.1⟩) dJ21_removeEldestEntry_1
set_option maxHeartbeats 4000000 in
set_option maxRecDepth 100000 in
theorem metJ21_afterNodeInsertion (l : Launch) (G : xG) (hG : xGood G) (M : Nat) (tbo es : Option Nat) (sz th : Nat) (mc : Int32) (tl : Option Nat) (x9 : Nat) : xRm l G yJ21_afterNodeInsertion (Cond.code yJ21_afterNodeInsertion cJ21_afterNodeInsertion 4 none) { frames := 1, locals := 21, cells := 0, slots := 0 } [.ref M, .int 1] [(M, .inr (25, [va_rf tbo, va_rf es, .int (nI sz), .int mc, .int (nI th), .float 1061158912, .null, .null, .ref x9, va_rf tl, .int 0, .int 0]))] none := by
  intro V hV
  refine xMet_ofT RJ21 hG rfl (by decide) (Nat.le_of_ble_eq_true rfl) fun C hC hQ hX hl hg _ hTab => ?_
  subst hl hg
  refine rn.mono (J := xRo [(M, .inr (25, [va_rf tbo, va_rf es, .int (nI sz), .int mc, .int (nI th), .float 1061158912, .null, .null, .ref x9, va_rf tl, .int 0, .int 0]))] V) (fun V9 h => ⟨h, hV⟩) ?_
  show rn C (xRo [(M, .inr (25, [va_rf tbo, va_rf es, .int (nI sz), .int mc, .int (nI th), .float 1061158912, .null, .null, .ref x9, va_rf tl, .int 0, .int 0]))] V) 0 0 0 [(0, .ref M), (1, .int 1)] []
  refine r_iload_n hC 1 dJ21_afterNodeInsertion_0 rfl 1 rfl ?_
  refine r_ifeq hC 39 dJ21_afterNodeInsertion_1 (by decide) 4 rfl (fun h => absurd h (by decide)) (fun _ => ?_)
  refine r_aload_n hC 0 dJ21_afterNodeInsertion_4 rfl 5 rfl ?_
  refine r_get (v := .ref x9) hC kJ21 8 rfl q1764 (fun _ h => h.get 0 rfl) rfl dJ21_afterNodeInsertion_5 8 rfl ?_
  refine r_dup hC dJ21_afterNodeInsertion_8 rfl 9 rfl ?_
  refine r_astore_n hC 2 [(2, .ref x9), (0, .ref M), (1, .int 1)] dJ21_afterNodeInsertion_9 rfl (Nat.le_of_ble_eq_true rfl) rfl 10 rfl ?_
  refine r_ifnull hC dJ21_afterNodeInsertion_10 13 rfl ?_
  refine r_aload_n hC 1 dJ21_afterNodeInsertion_13 rfl 14 rfl ?_
  refine r_aload_n hC 0 dJ21_afterNodeInsertion_14 rfl 15 rfl ?_
  refine xCall.r (r := some (.int 0)) (r_cV hC kJ21 M [.ref x9] mVJ21_removeEldestEntry q2363 (fun _ h => ⟨_, h.get 0 rfl⟩) (fun V9 h9 => (metJ21_removeEldestEntry _ _ hG M x9) V9 xIn.nil) ⟨rfl, rfl⟩ (Nat.le_of_ble_eq_true rfl) (Nat.le_of_ble_eq_true rfl) rfl (Nat.le_of_ble_eq_true rfl) dJ21_afterNodeInsertion_15) 0 0 18 rfl rfl rfl ?_
  refine r_ifeq hC 39 dJ21_afterNodeInsertion_18 (by decide) 21 rfl (fun _ => ?_) (fun h => absurd h (by decide))
  exact r_vret hC (Nat.le_of_ble_eq_true rfl) (Nat.le_of_ble_eq_true rfl) (fun V9 h => hQ _ _ ⟨rfl, h.1⟩) dJ21_afterNodeInsertion_39
