/-! ===== the JDK: maps: hash, find, getNode, get ===== -/
set_option maxRecDepth 100000
set_option maxHeartbeats 4000000 in
set_option maxRecDepth 100000 in
theorem metJ20_hash (l : Launch) (G : xG) (hG : xGood G) (kk : Nat) (c9 d9 : Int32) : xRm l G yJ20_hash (Cond.code yJ20_hash cJ20_hash 2 (some .int)) { frames := 1, locals := 20, cells := 0, slots := 0 } [.ref kk] [(kk, .inr (14, [.int c9, .int d9]))] (some (.int (hsh c9 d9))) := by
  intro V hV
  refine xMet_ofT RJ20 hG rfl (by decide) (Nat.le_of_ble_eq_true rfl) fun C hC hQ hX hl hg _ hTab => ?_
  subst hl hg
  refine rn.mono (J := xRo [(kk, .inr (14, [.int c9, .int d9]))] V) (fun V9 h => ⟨h, hV⟩) ?_
  show rn C (xRo [(kk, .inr (14, [.int c9, .int d9]))] V) 0 0 0 [(0, .ref kk)] []
  refine r_aload_n hC 0 dJ20_hash_0 rfl 1 rfl ?_
  refine r_ifnonnull hC 8 dJ20_hash_1 (by decide) ?_
  refine r_aload_n hC 0 dJ20_hash_8 rfl 9 rfl ?_
  refine xCall.r (r := some (.int (1000 * c9 + d9))) (r_cVD hC hG kX16 kk [] mDX16_hashCode_X16 q1843 (fun _ h => ⟨_, h.get 0 rfl⟩) (fun V9 h9 => (metX16_hashCode _ _ hG kk c9 d9) V9 (h9.in.sub [0] rfl rfl)) ⟨rfl, rfl⟩ (Nat.le_of_ble_eq_true rfl) (Nat.le_of_ble_eq_true rfl) rfl (Nat.le_of_ble_eq_true rfl) dJ20_hash_9) 0 0 12 rfl rfl rfl ?_
  refine r_dup hC dJ20_hash_12 rfl 13 rfl ?_
  refine r_istore_n hC 1 [(1, .int (1000 * c9 + d9)), (0, .ref kk)] dJ20_hash_13 rfl (Nat.le_of_ble_eq_true rfl) rfl 14 rfl ?_
  refine r_iload_n hC 0 dJ20_hash_14 rfl 15 rfl ?_
  refine r_bipush hC 16 dJ20_hash_15 bp_16 17 rfl ?_
  refine r_iushr hC (((1000 * c9 + d9).toUInt32 >>> ((16 : Int32).toUInt32 &&& Int32.toUInt32 31)).toInt32) dJ20_hash_17 (rfl) 18 rfl ?_
  refine r_ixor hC ((1000 * c9 + d9) ^^^ (((1000 * c9 + d9).toUInt32 >>> ((16 : Int32).toUInt32 &&& Int32.toUInt32 31)).toInt32)) dJ20_hash_18  (rfl) 19 rfl ?_
  exact r_iret hC (Nat.le_of_ble_eq_true rfl) (Nat.le_of_ble_eq_true rfl) (fun V9 h => hQ _ _ ⟨rfl, h.1⟩) dJ20_hash_19
set_option maxHeartbeats 4000000 in
set_option maxRecDepth 100000 in
theorem lpJ26_find {C : xC} (hG : xGood (xGG C)) (hC : xCtx C RJ26 cJ26_find 11 (some (.object "java/util/HashMap$TreeNode")) { frames := 1, locals := 22, cells := 0, slots := 0 }) (k n : Nat) (hk9 : k ≤ 0) (hn9 : n ≤ 0) (P : xV → Prop) (L : List Nat) (kd : Nat → Bool) (hs : Nat → Int32) (ky vl : Nat → Nat) (nx bf af pa lf rt pv : Nat → Option Nat) (rd : Nat → Int32) (hPn : ∀ V, P V → ∀ a, a ∈ L → V.2 a = some (ndX kd hs ky vl nx bf af pa lf rt pv rd a)) (T : Nat → Prop) (hTL : ∀ a, T a → a ∈ L) (hTk : ∀ a, T a → kd a = true) (root : Nat) (lo hi : Nat → Int) (ht : tIv (fun a => (hs a).toInt) T pa lf rt root lo hi) (V : xV) (p0 kk : Nat) (hz c9 d9 : Int32) (i : Nat) (hkn : kk ≠ ky i) (hhi : hs i = hz) (kx : rn C (xRq [(kk, .inr (14, [.int c9, .int d9])), ((ky i), .inr (14, [.int c9, .int d9]))] P V) k n 76 [] [.ref i]) : ∀ (l : List Nat) (p : Nat), T p → pth T lf rt p l i → rn C (xRq [(kk, .inr (14, [.int c9, .int d9])), ((ky i), .inr (14, [.int c9, .int d9]))] P V) k n 3 [(4, .ref p), (3, .null), (2, .ref kk), (1, .int hz), (0, .ref p0)] [] := by
  intro l
  induction l with
  | nil =>
    intro p hp hl
    have hpi : p = i := hl
    have hp : T i := by rw [← hpi]; exact hp
    rw [hpi]
    have hh : hs i = hz := hhi
    refine r_aload hC 0 dJ26_find_3 rfl 5 rfl ?_
    rcases opt_c (lf i) with hl1 | ⟨x2, hl1⟩
    · skip
      refine r_getI (v := .null) hC kJ26 7 rfl q2316 (Or.inl rfl) (fun _ h => (h.at (fun _ p9 => hPn _ p9 i (hTL i hp))).trans (congrArg some (ndX_t (hTk i hp)))) (congrArg (fun o9 => some (va_rf o9)) (hl1)) dJ26_find_5 8 rfl ?_
      refine r_astoreN hC 8 [(8, .null), (4, .ref i), (3, .null), (2, .ref kk), (1, .int hz), (0, .ref p0)] dJ26_find_8 (Nat.le_of_ble_eq_true rfl) rfl 10 rfl ?_
      refine r_aload hC 1 dJ26_find_10 rfl 12 rfl ?_
      rcases opt_c (rt i) with hl3 | ⟨x4, hl3⟩
      · skip
        refine r_getI (v := .null) hC kJ26 8 rfl q2317 (Or.inl rfl) (fun _ h => (h.at (fun _ p9 => hPn _ p9 i (hTL i hp))).trans (congrArg some (ndX_t (hTk i hp)))) (congrArg (fun o9 => some (va_rf o9)) (hl3)) dJ26_find_12 15 rfl ?_
        refine r_astoreN hC 9 [(9, .null), (8, .null), (4, .ref i), (3, .null), (2, .ref kk), (1, .int hz), (0, .ref p0)] dJ26_find_15 (Nat.le_of_ble_eq_true rfl) rfl 17 rfl ?_
        refine r_aload hC 2 dJ26_find_17 rfl 19 rfl ?_
        refine r_getI (v := .int (hs i)) hC kJ26 0 rfl q2230 (Or.inr q2231) (fun _ h => (h.at (fun _ p9 => hPn _ p9 i (hTL i hp))).trans (congrArg some (ndX_t (hTk i hp)))) rfl dJ26_find_19 22 rfl ?_
        refine r_dup hC dJ26_find_22 rfl 23 rfl ?_
        refine r_istore hC 5 [(5, .int (hs i)), (9, .null), (8, .null), (4, .ref i), (3, .null), (2, .ref kk), (1, .int hz), (0, .ref p0)] dJ26_find_23 (Nat.le_of_ble_eq_true rfl) rfl 25 rfl ?_
        refine r_iload_n hC 6 dJ26_find_25 rfl 26 rfl ?_
        refine r_icle hC 36 dJ26_find_26 (by decide) 29 rfl (fun _ => ?_) (fun h => absurd (by rw [hh]; exact Int32.le_refl _) h)
        refine r_iload hC 0 dJ26_find_36 rfl 38 rfl ?_
        refine r_iload_n hC 6 dJ26_find_38 rfl 39 rfl ?_
        refine r_icge hC 49 dJ26_find_39 (by decide) 42 rfl (fun _ => ?_) (fun h => absurd (by rw [hh]; exact Int32.le_refl _) h)
        refine r_aload hC 3 dJ26_find_49 rfl 51 rfl ?_
        refine r_getI (v := .ref (ky i)) hC kJ26 1 rfl q2236 (Or.inr q2237) (fun _ h => (h.at (fun _ p9 => hPn _ p9 i (hTL i hp))).trans (congrArg some (ndX_t (hTk i hp)))) rfl dJ26_find_51 54 rfl ?_
        refine r_dup hC dJ26_find_54 rfl 55 rfl ?_
        refine r_astore hC 7 [(7, .ref (ky i)), (5, .int (hs i)), (9, .null), (8, .null), (4, .ref i), (3, .null), (2, .ref kk), (1, .int hz), (0, .ref p0)] dJ26_find_55 (Nat.le_of_ble_eq_true rfl) rfl 57 rfl ?_
        refine r_aload_n hC 6 dJ26_find_57 rfl 58 rfl ?_
        refine r_aceq (rx := (some (ky i))) (ry := (some kk)) hC 74 dJ26_find_58 (by decide) 61 rfl (fun h => absurd h (fun q9 => hkn (Option.some.inj q9).symm)) (fun _ => ?_)
        refine r_aload_n hC 6 dJ26_find_61 rfl 62 rfl ?_
        refine r_ifnull hC dJ26_find_62 65 rfl ?_
        refine r_aload_n hC 6 dJ26_find_65 rfl 66 rfl ?_
        refine r_aload hC 0 dJ26_find_66 rfl 68 rfl ?_
        refine xCall.r (r := some (.int 1)) (r_cVD hC hG kX16 kk [.ref (ky i)] mDX16_equals_X16 q1973 (fun _ h => ⟨_, h.get 0 rfl⟩) (fun V9 h9 => (xRm_v (metX16_equals _ _ hG kk (ky i) c9 d9 c9 d9) (by simp [bI])) V9 (h9.in.sub [0, 1] rfl rfl)) ⟨rfl, rfl⟩ (by first | omega | (dsimp only; omega)) (by first | omega | (dsimp only; omega)) rfl (Nat.le_of_ble_eq_true rfl) dJ26_find_68) k n 71 rfl rfl rfl ?_
        refine r_ifeq hC 77 dJ26_find_71 (by decide) 74 rfl (fun h => absurd h (by decide)) (fun _ => ?_)
        refine r_aload hC 4 dJ26_find_74 rfl 76 rfl ?_
        refine rn.sub (lv' := []) [] rfl ?_
        exact kx
      · skip
        refine r_getI (v := .ref x4) hC kJ26 8 rfl q2317 (Or.inl rfl) (fun _ h => (h.at (fun _ p9 => hPn _ p9 i (hTL i hp))).trans (congrArg some (ndX_t (hTk i hp)))) (congrArg (fun o9 => some (va_rf o9)) (hl3)) dJ26_find_12 15 rfl ?_
        refine r_astore hC 9 [(9, .ref x4), (8, .null), (4, .ref i), (3, .null), (2, .ref kk), (1, .int hz), (0, .ref p0)] dJ26_find_15 (Nat.le_of_ble_eq_true rfl) rfl 17 rfl ?_
        refine r_aload hC 2 dJ26_find_17 rfl 19 rfl ?_
        refine r_getI (v := .int (hs i)) hC kJ26 0 rfl q2230 (Or.inr q2231) (fun _ h => (h.at (fun _ p9 => hPn _ p9 i (hTL i hp))).trans (congrArg some (ndX_t (hTk i hp)))) rfl dJ26_find_19 22 rfl ?_
        refine r_dup hC dJ26_find_22 rfl 23 rfl ?_
        refine r_istore hC 5 [(5, .int (hs i)), (9, .ref x4), (8, .null), (4, .ref i), (3, .null), (2, .ref kk), (1, .int hz), (0, .ref p0)] dJ26_find_23 (Nat.le_of_ble_eq_true rfl) rfl 25 rfl ?_
        refine r_iload_n hC 6 dJ26_find_25 rfl 26 rfl ?_
        refine r_icle hC 36 dJ26_find_26 (by decide) 29 rfl (fun _ => ?_) (fun h => absurd (by rw [hh]; exact Int32.le_refl _) h)
        refine r_iload hC 0 dJ26_find_36 rfl 38 rfl ?_
        refine r_iload_n hC 6 dJ26_find_38 rfl 39 rfl ?_
        refine r_icge hC 49 dJ26_find_39 (by decide) 42 rfl (fun _ => ?_) (fun h => absurd (by rw [hh]; exact Int32.le_refl _) h)
        refine r_aload hC 3 dJ26_find_49 rfl 51 rfl ?_
        refine r_getI (v := .ref (ky i)) hC kJ26 1 rfl q2236 (Or.inr q2237) (fun _ h => (h.at (fun _ p9 => hPn _ p9 i (hTL i hp))).trans (congrArg some (ndX_t (hTk i hp)))) rfl dJ26_find_51 54 rfl ?_
        refine r_dup hC dJ26_find_54 rfl 55 rfl ?_
        refine r_astore hC 7 [(7, .ref (ky i)), (5, .int (hs i)), (9, .ref x4), (8, .null), (4, .ref i), (3, .null), (2, .ref kk), (1, .int hz), (0, .ref p0)] dJ26_find_55 (Nat.le_of_ble_eq_true rfl) rfl 57 rfl ?_
        refine r_aload_n hC 6 dJ26_find_57 rfl 58 rfl ?_
        refine r_aceq (rx := (some (ky i))) (ry := (some kk)) hC 74 dJ26_find_58 (by decide) 61 rfl (fun h => absurd h (fun q9 => hkn (Option.some.inj q9).symm)) (fun _ => ?_)
        refine r_aload_n hC 6 dJ26_find_61 rfl 62 rfl ?_
        refine r_ifnull hC dJ26_find_62 65 rfl ?_
        refine r_aload_n hC 6 dJ26_find_65 rfl 66 rfl ?_
        refine r_aload hC 0 dJ26_find_66 rfl 68 rfl ?_
        refine xCall.r (r := some (.int 1)) (r_cVD hC hG kX16 kk [.ref (ky i)] mDX16_equals_X16 q1973 (fun _ h => ⟨_, h.get 0 rfl⟩) (fun V9 h9 => (xRm_v (metX16_equals _ _ hG kk (ky i) c9 d9 c9 d9) (by simp [bI])) V9 (h9.in.sub [0, 1] rfl rfl)) ⟨rfl, rfl⟩ (by first | omega | (dsimp only; omega)) (by first | omega | (dsimp only; omega)) rfl (Nat.le_of_ble_eq_true rfl) dJ26_find_68) k n 71 rfl rfl rfl ?_
        refine r_ifeq hC 77 dJ26_find_71 (by decide) 74 rfl (fun h => absurd h (by decide)) (fun _ => ?_)
        refine r_aload hC 4 dJ26_find_74 rfl 76 rfl ?_
        refine rn.sub (lv' := []) [] rfl ?_
        exact kx
    · skip
      refine r_getI (v := .ref x2) hC kJ26 7 rfl q2316 (Or.inl rfl) (fun _ h => (h.at (fun _ p9 => hPn _ p9 i (hTL i hp))).trans (congrArg some (ndX_t (hTk i hp)))) (congrArg (fun o9 => some (va_rf o9)) (hl1)) dJ26_find_5 8 rfl ?_
      refine r_astore hC 8 [(8, .ref x2), (4, .ref i), (3, .null), (2, .ref kk), (1, .int hz), (0, .ref p0)] dJ26_find_8 (Nat.le_of_ble_eq_true rfl) rfl 10 rfl ?_
      refine r_aload hC 1 dJ26_find_10 rfl 12 rfl ?_
      rcases opt_c (rt i) with hl5 | ⟨x6, hl5⟩
      · skip
        refine r_getI (v := .null) hC kJ26 8 rfl q2317 (Or.inl rfl) (fun _ h => (h.at (fun _ p9 => hPn _ p9 i (hTL i hp))).trans (congrArg some (ndX_t (hTk i hp)))) (congrArg (fun o9 => some (va_rf o9)) (hl5)) dJ26_find_12 15 rfl ?_
        refine r_astoreN hC 9 [(9, .null), (8, .ref x2), (4, .ref i), (3, .null), (2, .ref kk), (1, .int hz), (0, .ref p0)] dJ26_find_15 (Nat.le_of_ble_eq_true rfl) rfl 17 rfl ?_
        refine r_aload hC 2 dJ26_find_17 rfl 19 rfl ?_
        refine r_getI (v := .int (hs i)) hC kJ26 0 rfl q2230 (Or.inr q2231) (fun _ h => (h.at (fun _ p9 => hPn _ p9 i (hTL i hp))).trans (congrArg some (ndX_t (hTk i hp)))) rfl dJ26_find_19 22 rfl ?_
        refine r_dup hC dJ26_find_22 rfl 23 rfl ?_
        refine r_istore hC 5 [(5, .int (hs i)), (9, .null), (8, .ref x2), (4, .ref i), (3, .null), (2, .ref kk), (1, .int hz), (0, .ref p0)] dJ26_find_23 (Nat.le_of_ble_eq_true rfl) rfl 25 rfl ?_
        refine r_iload_n hC 6 dJ26_find_25 rfl 26 rfl ?_
        refine r_icle hC 36 dJ26_find_26 (by decide) 29 rfl (fun _ => ?_) (fun h => absurd (by rw [hh]; exact Int32.le_refl _) h)
        refine r_iload hC 0 dJ26_find_36 rfl 38 rfl ?_
        refine r_iload_n hC 6 dJ26_find_38 rfl 39 rfl ?_
        refine r_icge hC 49 dJ26_find_39 (by decide) 42 rfl (fun _ => ?_) (fun h => absurd (by rw [hh]; exact Int32.le_refl _) h)
        refine r_aload hC 3 dJ26_find_49 rfl 51 rfl ?_
        refine r_getI (v := .ref (ky i)) hC kJ26 1 rfl q2236 (Or.inr q2237) (fun _ h => (h.at (fun _ p9 => hPn _ p9 i (hTL i hp))).trans (congrArg some (ndX_t (hTk i hp)))) rfl dJ26_find_51 54 rfl ?_
        refine r_dup hC dJ26_find_54 rfl 55 rfl ?_
        refine r_astore hC 7 [(7, .ref (ky i)), (5, .int (hs i)), (9, .null), (8, .ref x2), (4, .ref i), (3, .null), (2, .ref kk), (1, .int hz), (0, .ref p0)] dJ26_find_55 (Nat.le_of_ble_eq_true rfl) rfl 57 rfl ?_
        refine r_aload_n hC 6 dJ26_find_57 rfl 58 rfl ?_
        refine r_aceq (rx := (some (ky i))) (ry := (some kk)) hC 74 dJ26_find_58 (by decide) 61 rfl (fun h => absurd h (fun q9 => hkn (Option.some.inj q9).symm)) (fun _ => ?_)
        refine r_aload_n hC 6 dJ26_find_61 rfl 62 rfl ?_
        refine r_ifnull hC dJ26_find_62 65 rfl ?_
        refine r_aload_n hC 6 dJ26_find_65 rfl 66 rfl ?_
        refine r_aload hC 0 dJ26_find_66 rfl 68 rfl ?_
        refine xCall.r (r := some (.int 1)) (r_cVD hC hG kX16 kk [.ref (ky i)] mDX16_equals_X16 q1973 (fun _ h => ⟨_, h.get 0 rfl⟩) (fun V9 h9 => (xRm_v (metX16_equals _ _ hG kk (ky i) c9 d9 c9 d9) (by simp [bI])) V9 (h9.in.sub [0, 1] rfl rfl)) ⟨rfl, rfl⟩ (by first | omega | (dsimp only; omega)) (by first | omega | (dsimp only; omega)) rfl (Nat.le_of_ble_eq_true rfl) dJ26_find_68) k n 71 rfl rfl rfl ?_
        refine r_ifeq hC 77 dJ26_find_71 (by decide) 74 rfl (fun h => absurd h (by decide)) (fun _ => ?_)
        refine r_aload hC 4 dJ26_find_74 rfl 76 rfl ?_
        refine rn.sub (lv' := []) [] rfl ?_
        exact kx
      · skip
        refine r_getI (v := .ref x6) hC kJ26 8 rfl q2317 (Or.inl rfl) (fun _ h => (h.at (fun _ p9 => hPn _ p9 i (hTL i hp))).trans (congrArg some (ndX_t (hTk i hp)))) (congrArg (fun o9 => some (va_rf o9)) (hl5)) dJ26_find_12 15 rfl ?_
        refine r_astore hC 9 [(9, .ref x6), (8, .ref x2), (4, .ref i), (3, .null), (2, .ref kk), (1, .int hz), (0, .ref p0)] dJ26_find_15 (Nat.le_of_ble_eq_true rfl) rfl 17 rfl ?_
        refine r_aload hC 2 dJ26_find_17 rfl 19 rfl ?_
        refine r_getI (v := .int (hs i)) hC kJ26 0 rfl q2230 (Or.inr q2231) (fun _ h => (h.at (fun _ p9 => hPn _ p9 i (hTL i hp))).trans (congrArg some (ndX_t (hTk i hp)))) rfl dJ26_find_19 22 rfl ?_
        refine r_dup hC dJ26_find_22 rfl 23 rfl ?_
        refine r_istore hC 5 [(5, .int (hs i)), (9, .ref x6), (8, .ref x2), (4, .ref i), (3, .null), (2, .ref kk), (1, .int hz), (0, .ref p0)] dJ26_find_23 (Nat.le_of_ble_eq_true rfl) rfl 25 rfl ?_
        refine r_iload_n hC 6 dJ26_find_25 rfl 26 rfl ?_
        refine r_icle hC 36 dJ26_find_26 (by decide) 29 rfl (fun _ => ?_) (fun h => absurd (by rw [hh]; exact Int32.le_refl _) h)
        refine r_iload hC 0 dJ26_find_36 rfl 38 rfl ?_
        refine r_iload_n hC 6 dJ26_find_38 rfl 39 rfl ?_
        refine r_icge hC 49 dJ26_find_39 (by decide) 42 rfl (fun _ => ?_) (fun h => absurd (by rw [hh]; exact Int32.le_refl _) h)
        refine r_aload hC 3 dJ26_find_49 rfl 51 rfl ?_
        refine r_getI (v := .ref (ky i)) hC kJ26 1 rfl q2236 (Or.inr q2237) (fun _ h => (h.at (fun _ p9 => hPn _ p9 i (hTL i hp))).trans (congrArg some (ndX_t (hTk i hp)))) rfl dJ26_find_51 54 rfl ?_
        refine r_dup hC dJ26_find_54 rfl 55 rfl ?_
        refine r_astore hC 7 [(7, .ref (ky i)), (5, .int (hs i)), (9, .ref x6), (8, .ref x2), (4, .ref i), (3, .null), (2, .ref kk), (1, .int hz), (0, .ref p0)] dJ26_find_55 (Nat.le_of_ble_eq_true rfl) rfl 57 rfl ?_
        refine r_aload_n hC 6 dJ26_find_57 rfl 58 rfl ?_
        refine r_aceq (rx := (some (ky i))) (ry := (some kk)) hC 74 dJ26_find_58 (by decide) 61 rfl (fun h => absurd h (fun q9 => hkn (Option.some.inj q9).symm)) (fun _ => ?_)
        refine r_aload_n hC 6 dJ26_find_61 rfl 62 rfl ?_
        refine r_ifnull hC dJ26_find_62 65 rfl ?_
        refine r_aload_n hC 6 dJ26_find_65 rfl 66 rfl ?_
        refine r_aload hC 0 dJ26_find_66 rfl 68 rfl ?_
        refine xCall.r (r := some (.int 1)) (r_cVD hC hG kX16 kk [.ref (ky i)] mDX16_equals_X16 q1973 (fun _ h => ⟨_, h.get 0 rfl⟩) (fun V9 h9 => (xRm_v (metX16_equals _ _ hG kk (ky i) c9 d9 c9 d9) (by simp [bI])) V9 (h9.in.sub [0, 1] rfl rfl)) ⟨rfl, rfl⟩ (by first | omega | (dsimp only; omega)) (by first | omega | (dsimp only; omega)) rfl (Nat.le_of_ble_eq_true rfl) dJ26_find_68) k n 71 rfl rfl rfl ?_
        refine r_ifeq hC 77 dJ26_find_71 (by decide) 74 rfl (fun h => absurd h (by decide)) (fun _ => ?_)
        refine r_aload hC 4 dJ26_find_74 rfl 76 rfl ?_
        refine rn.sub (lv' := []) [] rfl ?_
        exact kx
  | cons c l ih =>
    intro p hp hl9
    have htc : T c := hl9.2.1
    have hl : pth T lf rt c l i := hl9.2.2
    have hKi : (hs i).toInt = hz.toInt := by rw [hhi]
    rcases ht.turn hp hl9 with ⟨hg1, hg2⟩ | ⟨hg1, hg2⟩
    · have hg2 : (hs i).toInt < (hs p).toInt := hg2
      refine r_aload hC 0 dJ26_find_3 rfl 5 rfl ?_
      refine r_getI (v := .ref c) hC kJ26 7 rfl q2316 (Or.inl rfl) (fun _ h => (h.at (fun _ p9 => hPn _ p9 p (hTL p hp))).trans (congrArg some (ndX_t (hTk p hp)))) (congrArg (fun o9 => some (va_rf o9)) (hg1)) dJ26_find_5 8 rfl ?_
      refine r_astore hC 8 [(8, .ref c), (4, .ref p), (3, .null), (2, .ref kk), (1, .int hz), (0, .ref p0)] dJ26_find_8 (Nat.le_of_ble_eq_true rfl) rfl 10 rfl ?_
      refine r_aload hC 1 dJ26_find_10 rfl 12 rfl ?_
      rcases opt_c (rt p) with hl1 | ⟨x2, hl1⟩
      · skip
        refine r_getI (v := .null) hC kJ26 8 rfl q2317 (Or.inl rfl) (fun _ h => (h.at (fun _ p9 => hPn _ p9 p (hTL p hp))).trans (congrArg some (ndX_t (hTk p hp)))) (congrArg (fun o9 => some (va_rf o9)) (hl1)) dJ26_find_12 15 rfl ?_
        refine r_astoreN hC 9 [(9, .null), (8, .ref c), (4, .ref p), (3, .null), (2, .ref kk), (1, .int hz), (0, .ref p0)] dJ26_find_15 (Nat.le_of_ble_eq_true rfl) rfl 17 rfl ?_
        refine r_aload hC 2 dJ26_find_17 rfl 19 rfl ?_
        refine r_getI (v := .int (hs p)) hC kJ26 0 rfl q2230 (Or.inr q2231) (fun _ h => (h.at (fun _ p9 => hPn _ p9 p (hTL p hp))).trans (congrArg some (ndX_t (hTk p hp)))) rfl dJ26_find_19 22 rfl ?_
        refine r_dup hC dJ26_find_22 rfl 23 rfl ?_
        refine r_istore hC 5 [(5, .int (hs p)), (9, .null), (8, .ref c), (4, .ref p), (3, .null), (2, .ref kk), (1, .int hz), (0, .ref p0)] dJ26_find_23 (Nat.le_of_ble_eq_true rfl) rfl 25 rfl ?_
        refine r_iload_n hC 6 dJ26_find_25 rfl 26 rfl ?_
        refine r_icle hC 36 dJ26_find_26 (by decide) 29 rfl (fun h => absurd h (fun q9 => by rw [Int32.le_iff_toInt_le] at q9; omega)) (fun _ => ?_)
        refine r_aload hC 2 dJ26_find_29 rfl 31 rfl ?_
        refine r_astore hC 4 [(4, .ref c), (5, .int (hs p)), (9, .null), (8, .ref c), (3, .null), (2, .ref kk), (1, .int hz), (0, .ref p0)] dJ26_find_31 (Nat.le_of_ble_eq_true rfl) rfl 33 rfl ?_
        refine r_goto hC 165 dJ26_find_33 (by decide) ?_
        refine r_aload hC 0 dJ26_find_165 rfl 167 rfl ?_
        refine r_ifnonnull hC 3 dJ26_find_167 (by decide) ?_
        refine rn.sub (lv' := [(4, .ref c), (3, .null), (2, .ref kk), (1, .int hz), (0, .ref p0)]) [0, 4, 5, 6, 7] rfl ?_
        exact ih c htc hl
      · skip
        refine r_getI (v := .ref x2) hC kJ26 8 rfl q2317 (Or.inl rfl) (fun _ h => (h.at (fun _ p9 => hPn _ p9 p (hTL p hp))).trans (congrArg some (ndX_t (hTk p hp)))) (congrArg (fun o9 => some (va_rf o9)) (hl1)) dJ26_find_12 15 rfl ?_
        refine r_astore hC 9 [(9, .ref x2), (8, .ref c), (4, .ref p), (3, .null), (2, .ref kk), (1, .int hz), (0, .ref p0)] dJ26_find_15 (Nat.le_of_ble_eq_true rfl) rfl 17 rfl ?_
        refine r_aload hC 2 dJ26_find_17 rfl 19 rfl ?_
        refine r_getI (v := .int (hs p)) hC kJ26 0 rfl q2230 (Or.inr q2231) (fun _ h => (h.at (fun _ p9 => hPn _ p9 p (hTL p hp))).trans (congrArg some (ndX_t (hTk p hp)))) rfl dJ26_find_19 22 rfl ?_
        refine r_dup hC dJ26_find_22 rfl 23 rfl ?_
        refine r_istore hC 5 [(5, .int (hs p)), (9, .ref x2), (8, .ref c), (4, .ref p), (3, .null), (2, .ref kk), (1, .int hz), (0, .ref p0)] dJ26_find_23 (Nat.le_of_ble_eq_true rfl) rfl 25 rfl ?_
        refine r_iload_n hC 6 dJ26_find_25 rfl 26 rfl ?_
        refine r_icle hC 36 dJ26_find_26 (by decide) 29 rfl (fun h => absurd h (fun q9 => by rw [Int32.le_iff_toInt_le] at q9; omega)) (fun _ => ?_)
        refine r_aload hC 2 dJ26_find_29 rfl 31 rfl ?_
        refine r_astore hC 4 [(4, .ref c), (5, .int (hs p)), (9, .ref x2), (8, .ref c), (3, .null), (2, .ref kk), (1, .int hz), (0, .ref p0)] dJ26_find_31 (Nat.le_of_ble_eq_true rfl) rfl 33 rfl ?_
        refine r_goto hC 165 dJ26_find_33 (by decide) ?_
        refine r_aload hC 0 dJ26_find_165 rfl 167 rfl ?_
        refine r_ifnonnull hC 3 dJ26_find_167 (by decide) ?_
        refine rn.sub (lv' := [(4, .ref c), (3, .null), (2, .ref kk), (1, .int hz), (0, .ref p0)]) [0, 4, 5, 6, 7] rfl ?_
        exact ih c htc hl
    · have hg2 : (hs p).toInt < (hs i).toInt := hg2
      refine r_aload hC 0 dJ26_find_3 rfl 5 rfl ?_
      rcases opt_c (lf p) with hl1 | ⟨x2, hl1⟩
      · skip
        refine r_getI (v := .null) hC kJ26 7 rfl q2316 (Or.inl rfl) (fun _ h => (h.at (fun _ p9 => hPn _ p9 p (hTL p hp))).trans (congrArg some (ndX_t (hTk p hp)))) (congrArg (fun o9 => some (va_rf o9)) (hl1)) dJ26_find_5 8 rfl ?_
        refine r_astoreN hC 8 [(8, .null), (4, .ref p), (3, .null), (2, .ref kk), (1, .int hz), (0, .ref p0)] dJ26_find_8 (Nat.le_of_ble_eq_true rfl) rfl 10 rfl ?_
        refine r_aload hC 1 dJ26_find_10 rfl 12 rfl ?_
        refine r_getI (v := .ref c) hC kJ26 8 rfl q2317 (Or.inl rfl) (fun _ h => (h.at (fun _ p9 => hPn _ p9 p (hTL p hp))).trans (congrArg some (ndX_t (hTk p hp)))) (congrArg (fun o9 => some (va_rf o9)) (hg1)) dJ26_find_12 15 rfl ?_
        refine r_astore hC 9 [(9, .ref c), (8, .null), (4, .ref p), (3, .null), (2, .ref kk), (1, .int hz), (0, .ref p0)] dJ26_find_15 (Nat.le_of_ble_eq_true rfl) rfl 17 rfl ?_
        refine r_aload hC 2 dJ26_find_17 rfl 19 rfl ?_
        refine r_getI (v := .int (hs p)) hC kJ26 0 rfl q2230 (Or.inr q2231) (fun _ h => (h.at (fun _ p9 => hPn _ p9 p (hTL p hp))).trans (congrArg some (ndX_t (hTk p hp)))) rfl dJ26_find_19 22 rfl ?_
        refine r_dup hC dJ26_find_22 rfl 23 rfl ?_
        refine r_istore hC 5 [(5, .int (hs p)), (9, .ref c), (8, .null), (4, .ref p), (3, .null), (2, .ref kk), (1, .int hz), (0, .ref p0)] dJ26_find_23 (Nat.le_of_ble_eq_true rfl) rfl 25 rfl ?_
        refine r_iload_n hC 6 dJ26_find_25 rfl 26 rfl ?_
        refine r_icle hC 36 dJ26_find_26 (by decide) 29 rfl (fun _ => ?_) (fun h => absurd (Int32.le_iff_toInt_le.mpr (by omega)) h)
        refine r_iload hC 0 dJ26_find_36 rfl 38 rfl ?_
        refine r_iload_n hC 6 dJ26_find_38 rfl 39 rfl ?_
        refine r_icge hC 49 dJ26_find_39 (by decide) 42 rfl (fun h => absurd h (fun q9 => by rw [Int32.le_iff_toInt_le] at q9; omega)) (fun _ => ?_)
        refine r_aload hC 1 dJ26_find_42 rfl 44 rfl ?_
        refine r_astore hC 4 [(4, .ref c), (5, .int (hs p)), (9, .ref c), (8, .null), (3, .null), (2, .ref kk), (1, .int hz), (0, .ref p0)] dJ26_find_44 (Nat.le_of_ble_eq_true rfl) rfl 46 rfl ?_
        refine r_goto hC 165 dJ26_find_46 (by decide) ?_
        refine r_aload hC 0 dJ26_find_165 rfl 167 rfl ?_
        refine r_ifnonnull hC 3 dJ26_find_167 (by decide) ?_
        refine rn.sub (lv' := [(4, .ref c), (3, .null), (2, .ref kk), (1, .int hz), (0, .ref p0)]) [0, 4, 5, 6, 7] rfl ?_
        exact ih c htc hl
      · skip
        refine r_getI (v := .ref x2) hC kJ26 7 rfl q2316 (Or.inl rfl) (fun _ h => (h.at (fun _ p9 => hPn _ p9 p (hTL p hp))).trans (congrArg some (ndX_t (hTk p hp)))) (congrArg (fun o9 => some (va_rf o9)) (hl1)) dJ26_find_5 8 rfl ?_
        refine r_astore hC 8 [(8, .ref x2), (4, .ref p), (3, .null), (2, .ref kk), (1, .int hz), (0, .ref p0)] dJ26_find_8 (Nat.le_of_ble_eq_true rfl) rfl 10 rfl ?_
        refine r_aload hC 1 dJ26_find_10 rfl 12 rfl ?_
        refine r_getI (v := .ref c) hC kJ26 8 rfl q2317 (Or.inl rfl) (fun _ h => (h.at (fun _ p9 => hPn _ p9 p (hTL p hp))).trans (congrArg some (ndX_t (hTk p hp)))) (congrArg (fun o9 => some (va_rf o9)) (hg1)) dJ26_find_12 15 rfl ?_
        refine r_astore hC 9 [(9, .ref c), (8, .ref x2), (4, .ref p), (3, .null), (2, .ref kk), (1, .int hz), (0, .ref p0)] dJ26_find_15 (Nat.le_of_ble_eq_true rfl) rfl 17 rfl ?_
        refine r_aload hC 2 dJ26_find_17 rfl 19 rfl ?_
        refine r_getI (v := .int (hs p)) hC kJ26 0 rfl q2230 (Or.inr q2231) (fun _ h => (h.at (fun _ p9 => hPn _ p9 p (hTL p hp))).trans (congrArg some (ndX_t (hTk p hp)))) rfl dJ26_find_19 22 rfl ?_
        refine r_dup hC dJ26_find_22 rfl 23 rfl ?_
        refine r_istore hC 5 [(5, .int (hs p)), (9, .ref c), (8, .ref x2), (4, .ref p), (3, .null), (2, .ref kk), (1, .int hz), (0, .ref p0)] dJ26_find_23 (Nat.le_of_ble_eq_true rfl) rfl 25 rfl ?_
        refine r_iload_n hC 6 dJ26_find_25 rfl 26 rfl ?_
        refine r_icle hC 36 dJ26_find_26 (by decide) 29 rfl (fun _ => ?_) (fun h => absurd (Int32.le_iff_toInt_le.mpr (by omega)) h)
        refine r_iload hC 0 dJ26_find_36 rfl 38 rfl ?_
        refine r_iload_n hC 6 dJ26_find_38 rfl 39 rfl ?_
        refine r_icge hC 49 dJ26_find_39 (by decide) 42 rfl (fun h => absurd h (fun q9 => by rw [Int32.le_iff_toInt_le] at q9; omega)) (fun _ => ?_)
        refine r_aload hC 1 dJ26_find_42 rfl 44 rfl ?_
        refine r_astore hC 4 [(4, .ref c), (5, .int (hs p)), (9, .ref c), (8, .ref x2), (3, .null), (2, .ref kk), (1, .int hz), (0, .ref p0)] dJ26_find_44 (Nat.le_of_ble_eq_true rfl) rfl 46 rfl ?_
        refine r_goto hC 165 dJ26_find_46 (by decide) ?_
        refine r_aload hC 0 dJ26_find_165 rfl 167 rfl ?_
        refine r_ifnonnull hC 3 dJ26_find_167 (by decide) ?_
        refine rn.sub (lv' := [(4, .ref c), (3, .null), (2, .ref kk), (1, .int hz), (0, .ref p0)]) [0, 4, 5, 6, 7] rfl ?_
        exact ih c htc hl
set_option maxHeartbeats 4000000 in
set_option maxRecDepth 100000 in
theorem lpJ26_findN {C : xC} (hG : xGood (xGG C)) (hC : xCtx C RJ26 cJ26_find 11 (some (.object "java/util/HashMap$TreeNode")) { frames := 1, locals := 22, cells := 0, slots := 0 }) (k n : Nat) (hk9 : k ≤ 0) (hn9 : n ≤ 0) (P : xV → Prop) (L : List Nat) (kd : Nat → Bool) (hs : Nat → Int32) (ky vl : Nat → Nat) (nx bf af pa lf rt pv : Nat → Option Nat) (rd : Nat → Int32) (hPn : ∀ V, P V → ∀ a, a ∈ L → V.2 a = some (ndX kd hs ky vl nx bf af pa lf rt pv rd a)) (T : Nat → Prop) (hTL : ∀ a, T a → a ∈ L) (hTk : ∀ a, T a → kd a = true) (root : Nat) (lo hi : Nat → Int) (ht : tIv (fun a => (hs a).toInt) T pa lf rt root lo hi) (V : xV) (p0 kk : Nat) (hz c9 d9 : Int32) (hne : ∀ a, a ∈ L → T a → hs a ≠ hz) (kx : rn C (xRq [(kk, .inr (14, [.int c9, .int d9]))] P V) k n 170 [] []) : ∀ (m p : Nat), T p → (hi p - lo p).toNat < m → rn C (xRq [(kk, .inr (14, [.int c9, .int d9]))] P V) k n 3 [(4, .ref p), (3, .null), (2, .ref kk), (1, .int hz), (0, .ref p0)] [] := by
  obtain ⟨-, hb, -, hL, hR, -⟩ := id ht
  dsimp only at hb hL hR
  intro m
  induction m with
  | zero =>
    intro p hp hm
    exact absurd hm (Nat.not_lt_zero _)
  | succ m ih =>
    intro p hp hm
    refine r_aload hC 0 dJ26_find_3 rfl 5 rfl ?_
    rcases opt_c (lf p) with hl1 | ⟨x2, hl1⟩
    · skip
      refine r_getI (v := .null) hC kJ26 7 rfl q2316 (Or.inl rfl) (fun _ h => (h.at (fun _ p9 => hPn _ p9 p (hTL p hp))).trans (congrArg some (ndX_t (hTk p hp)))) (congrArg (fun o9 => some (va_rf o9)) (hl1)) dJ26_find_5 8 rfl ?_
      refine r_astoreN hC 8 [(8, .null), (4, .ref p), (3, .null), (2, .ref kk), (1, .int hz), (0, .ref p0)] dJ26_find_8 (Nat.le_of_ble_eq_true rfl) rfl 10 rfl ?_
      refine r_aload hC 1 dJ26_find_10 rfl 12 rfl ?_
      rcases opt_c (rt p) with hl3 | ⟨x4, hl3⟩
      · skip
        refine r_getI (v := .null) hC kJ26 8 rfl q2317 (Or.inl rfl) (fun _ h => (h.at (fun _ p9 => hPn _ p9 p (hTL p hp))).trans (congrArg some (ndX_t (hTk p hp)))) (congrArg (fun o9 => some (va_rf o9)) (hl3)) dJ26_find_12 15 rfl ?_
        refine r_astoreN hC 9 [(9, .null), (8, .null), (4, .ref p), (3, .null), (2, .ref kk), (1, .int hz), (0, .ref p0)] dJ26_find_15 (Nat.le_of_ble_eq_true rfl) rfl 17 rfl ?_
        refine r_aload hC 2 dJ26_find_17 rfl 19 rfl ?_
        refine r_getI (v := .int (hs p)) hC kJ26 0 rfl q2230 (Or.inr q2231) (fun _ h => (h.at (fun _ p9 => hPn _ p9 p (hTL p hp))).trans (congrArg some (ndX_t (hTk p hp)))) rfl dJ26_find_19 22 rfl ?_
        refine r_dup hC dJ26_find_22 rfl 23 rfl ?_
        refine r_istore hC 5 [(5, .int (hs p)), (9, .null), (8, .null), (4, .ref p), (3, .null), (2, .ref kk), (1, .int hz), (0, .ref p0)] dJ26_find_23 (Nat.le_of_ble_eq_true rfl) rfl 25 rfl ?_
        refine r_iload_n hC 6 dJ26_find_25 rfl 26 rfl ?_
        refine r_icle hC 36 dJ26_find_26 (by decide) 29 rfl (fun c5 => ?_) (fun c5 => ?_)
        · skip
          refine r_iload hC 0 dJ26_find_36 rfl 38 rfl ?_
          refine r_iload_n hC 6 dJ26_find_38 rfl 39 rfl ?_
          refine r_icge hC 49 dJ26_find_39 (by decide) 42 rfl (fun h => absurd h (fun q9 => hne p (hTL p hp) hp (Int32.le_antisymm c5 q9))) (fun _ => ?_)
          refine r_aloadN hC 1 dJ26_find_42 rfl 44 rfl ?_
          refine r_astoreN hC 4 [(4, .null), (5, .int (hs p)), (9, .null), (8, .null), (3, .null), (2, .ref kk), (1, .int hz), (0, .ref p0)] dJ26_find_44 (Nat.le_of_ble_eq_true rfl) rfl 46 rfl ?_
          refine r_goto hC 165 dJ26_find_46 (by decide) ?_
          refine r_aloadN hC 0 dJ26_find_165 rfl 167 rfl ?_
          refine r_ifnonnullN hC dJ26_find_167 170 rfl ?_
          refine rn.sub (lv' := []) [] rfl ?_
          exact kx
        · skip
          refine r_aloadN hC 2 dJ26_find_29 rfl 31 rfl ?_
          refine r_astoreN hC 4 [(4, .null), (5, .int (hs p)), (9, .null), (8, .null), (3, .null), (2, .ref kk), (1, .int hz), (0, .ref p0)] dJ26_find_31 (Nat.le_of_ble_eq_true rfl) rfl 33 rfl ?_
          refine r_goto hC 165 dJ26_find_33 (by decide) ?_
          refine r_aloadN hC 0 dJ26_find_165 rfl 167 rfl ?_
          refine r_ifnonnullN hC dJ26_find_167 170 rfl ?_
          refine rn.sub (lv' := []) [] rfl ?_
          exact kx
      · skip
        refine r_getI (v := .ref x4) hC kJ26 8 rfl q2317 (Or.inl rfl) (fun _ h => (h.at (fun _ p9 => hPn _ p9 p (hTL p hp))).trans (congrArg some (ndX_t (hTk p hp)))) (congrArg (fun o9 => some (va_rf o9)) (hl3)) dJ26_find_12 15 rfl ?_
        refine r_astore hC 9 [(9, .ref x4), (8, .null), (4, .ref p), (3, .null), (2, .ref kk), (1, .int hz), (0, .ref p0)] dJ26_find_15 (Nat.le_of_ble_eq_true rfl) rfl 17 rfl ?_
        refine r_aload hC 2 dJ26_find_17 rfl 19 rfl ?_
        refine r_getI (v := .int (hs p)) hC kJ26 0 rfl q2230 (Or.inr q2231) (fun _ h => (h.at (fun _ p9 => hPn _ p9 p (hTL p hp))).trans (congrArg some (ndX_t (hTk p hp)))) rfl dJ26_find_19 22 rfl ?_
        refine r_dup hC dJ26_find_22 rfl 23 rfl ?_
        refine r_istore hC 5 [(5, .int (hs p)), (9, .ref x4), (8, .null), (4, .ref p), (3, .null), (2, .ref kk), (1, .int hz), (0, .ref p0)] dJ26_find_23 (Nat.le_of_ble_eq_true rfl) rfl 25 rfl ?_
        refine r_iload_n hC 6 dJ26_find_25 rfl 26 rfl ?_
        refine r_icle hC 36 dJ26_find_26 (by decide) 29 rfl (fun c6 => ?_) (fun c6 => ?_)
        · skip
          refine r_iload hC 0 dJ26_find_36 rfl 38 rfl ?_
          refine r_iload_n hC 6 dJ26_find_38 rfl 39 rfl ?_
          refine r_icge hC 49 dJ26_find_39 (by decide) 42 rfl (fun h => absurd h (fun q9 => hne p (hTL p hp) hp (Int32.le_antisymm c6 q9))) (fun _ => ?_)
          refine r_aload hC 1 dJ26_find_42 rfl 44 rfl ?_
          refine r_astore hC 4 [(4, .ref x4), (5, .int (hs p)), (9, .ref x4), (8, .null), (3, .null), (2, .ref kk), (1, .int hz), (0, .ref p0)] dJ26_find_44 (Nat.le_of_ble_eq_true rfl) rfl 46 rfl ?_
          refine r_goto hC 165 dJ26_find_46 (by decide) ?_
          refine r_aload hC 0 dJ26_find_165 rfl 167 rfl ?_
          refine r_ifnonnull hC 3 dJ26_find_167 (by decide) ?_
          refine rn.sub (lv' := [(4, .ref x4), (3, .null), (2, .ref kk), (1, .int hz), (0, .ref p0)]) [0, 4, 5, 6, 7] rfl ?_
          obtain ⟨q1, q2, q3, q4⟩ := hR p x4 hp hl3
          have kp := hb p hp
          exact ih x4 q1 (by omega)
        · skip
          refine r_aloadN hC 2 dJ26_find_29 rfl 31 rfl ?_
          refine r_astoreN hC 4 [(4, .null), (5, .int (hs p)), (9, .ref x4), (8, .null), (3, .null), (2, .ref kk), (1, .int hz), (0, .ref p0)] dJ26_find_31 (Nat.le_of_ble_eq_true rfl) rfl 33 rfl ?_
          refine r_goto hC 165 dJ26_find_33 (by decide) ?_
          refine r_aloadN hC 0 dJ26_find_165 rfl 167 rfl ?_
          refine r_ifnonnullN hC dJ26_find_167 170 rfl ?_
          refine rn.sub (lv' := []) [] rfl ?_
          exact kx
    · skip
      refine r_getI (v := .ref x2) hC kJ26 7 rfl q2316 (Or.inl rfl) (fun _ h => (h.at (fun _ p9 => hPn _ p9 p (hTL p hp))).trans (congrArg some (ndX_t (hTk p hp)))) (congrArg (fun o9 => some (va_rf o9)) (hl1)) dJ26_find_5 8 rfl ?_
      refine r_astore hC 8 [(8, .ref x2), (4, .ref p), (3, .null), (2, .ref kk), (1, .int hz), (0, .ref p0)] dJ26_find_8 (Nat.le_of_ble_eq_true rfl) rfl 10 rfl ?_
      refine r_aload hC 1 dJ26_find_10 rfl 12 rfl ?_
      rcases opt_c (rt p) with hl7 | ⟨x8, hl7⟩
      · skip
        refine r_getI (v := .null) hC kJ26 8 rfl q2317 (Or.inl rfl) (fun _ h => (h.at (fun _ p9 => hPn _ p9 p (hTL p hp))).trans (congrArg some (ndX_t (hTk p hp)))) (congrArg (fun o9 => some (va_rf o9)) (hl7)) dJ26_find_12 15 rfl ?_
        refine r_astoreN hC 9 [(9, .null), (8, .ref x2), (4, .ref p), (3, .null), (2, .ref kk), (1, .int hz), (0, .ref p0)] dJ26_find_15 (Nat.le_of_ble_eq_true rfl) rfl 17 rfl ?_
        refine r_aload hC 2 dJ26_find_17 rfl 19 rfl ?_
        refine r_getI (v := .int (hs p)) hC kJ26 0 rfl q2230 (Or.inr q2231) (fun _ h => (h.at (fun _ p9 => hPn _ p9 p (hTL p hp))).trans (congrArg some (ndX_t (hTk p hp)))) rfl dJ26_find_19 22 rfl ?_
        refine r_dup hC dJ26_find_22 rfl 23 rfl ?_
        refine r_istore hC 5 [(5, .int (hs p)), (9, .null), (8, .ref x2), (4, .ref p), (3, .null), (2, .ref kk), (1, .int hz), (0, .ref p0)] dJ26_find_23 (Nat.le_of_ble_eq_true rfl) rfl 25 rfl ?_
        refine r_iload_n hC 6 dJ26_find_25 rfl 26 rfl ?_
        refine r_icle hC 36 dJ26_find_26 (by decide) 29 rfl (fun c9 => ?_) (fun c9 => ?_)
        · skip
          refine r_iload hC 0 dJ26_find_36 rfl 38 rfl ?_
          refine r_iload_n hC 6 dJ26_find_38 rfl 39 rfl ?_
          refine r_icge hC 49 dJ26_find_39 (by decide) 42 rfl (fun h => absurd h (fun q9 => hne p (hTL p hp) hp (Int32.le_antisymm c9 q9))) (fun _ => ?_)
          refine r_aloadN hC 1 dJ26_find_42 rfl 44 rfl ?_
          refine r_astoreN hC 4 [(4, .null), (5, .int (hs p)), (9, .null), (8, .ref x2), (3, .null), (2, .ref kk), (1, .int hz), (0, .ref p0)] dJ26_find_44 (Nat.le_of_ble_eq_true rfl) rfl 46 rfl ?_
          refine r_goto hC 165 dJ26_find_46 (by decide) ?_
          refine r_aloadN hC 0 dJ26_find_165 rfl 167 rfl ?_
          refine r_ifnonnullN hC dJ26_find_167 170 rfl ?_
          refine rn.sub (lv' := []) [] rfl ?_
          exact kx
        · skip
          refine r_aload hC 2 dJ26_find_29 rfl 31 rfl ?_
          refine r_astore hC 4 [(4, .ref x2), (5, .int (hs p)), (9, .null), (8, .ref x2), (3, .null), (2, .ref kk), (1, .int hz), (0, .ref p0)] dJ26_find_31 (Nat.le_of_ble_eq_true rfl) rfl 33 rfl ?_
          refine r_goto hC 165 dJ26_find_33 (by decide) ?_
          refine r_aload hC 0 dJ26_find_165 rfl 167 rfl ?_
          refine r_ifnonnull hC 3 dJ26_find_167 (by decide) ?_
          refine rn.sub (lv' := [(4, .ref x2), (3, .null), (2, .ref kk), (1, .int hz), (0, .ref p0)]) [0, 4, 5, 6, 7] rfl ?_
          obtain ⟨q1, q2, q3, q4⟩ := hL p x2 hp hl1
          have kp := hb p hp
          exact ih x2 q1 (by omega)
      · skip
        refine r_getI (v := .ref x8) hC kJ26 8 rfl q2317 (Or.inl rfl) (fun _ h => (h.at (fun _ p9 => hPn _ p9 p (hTL p hp))).trans (congrArg some (ndX_t (hTk p hp)))) (congrArg (fun o9 => some (va_rf o9)) (hl7)) dJ26_find_12 15 rfl ?_
        refine r_astore hC 9 [(9, .ref x8), (8, .ref x2), (4, .ref p), (3, .null), (2, .ref kk), (1, .int hz), (0, .ref p0)] dJ26_find_15 (Nat.le_of_ble_eq_true rfl) rfl 17 rfl ?_
        refine r_aload hC 2 dJ26_find_17 rfl 19 rfl ?_
        refine r_getI (v := .int (hs p)) hC kJ26 0 rfl q2230 (Or.inr q2231) (fun _ h => (h.at (fun _ p9 => hPn _ p9 p (hTL p hp))).trans (congrArg some (ndX_t (hTk p hp)))) rfl dJ26_find_19 22 rfl ?_
        refine r_dup hC dJ26_find_22 rfl 23 rfl ?_
        refine r_istore hC 5 [(5, .int (hs p)), (9, .ref x8), (8, .ref x2), (4, .ref p), (3, .null), (2, .ref kk), (1, .int hz), (0, .ref p0)] dJ26_find_23 (Nat.le_of_ble_eq_true rfl) rfl 25 rfl ?_
        refine r_iload_n hC 6 dJ26_find_25 rfl 26 rfl ?_
        refine r_icle hC 36 dJ26_find_26 (by decide) 29 rfl (fun c10 => ?_) (fun c10 => ?_)
        · skip
          refine r_iload hC 0 dJ26_find_36 rfl 38 rfl ?_
          refine r_iload_n hC 6 dJ26_find_38 rfl 39 rfl ?_
          refine r_icge hC 49 dJ26_find_39 (by decide) 42 rfl (fun h => absurd h (fun q9 => hne p (hTL p hp) hp (Int32.le_antisymm c10 q9))) (fun _ => ?_)
          refine r_aload hC 1 dJ26_find_42 rfl 44 rfl ?_
          refine r_astore hC 4 [(4, .ref x8), (5, .int (hs p)), (9, .ref x8), (8, .ref x2), (3, .null), (2, .ref kk), (1, .int hz), (0, .ref p0)] dJ26_find_44 (Nat.le_of_ble_eq_true rfl) rfl 46 rfl ?_
          refine r_goto hC 165 dJ26_find_46 (by decide) ?_
          refine r_aload hC 0 dJ26_find_165 rfl 167 rfl ?_
          refine r_ifnonnull hC 3 dJ26_find_167 (by decide) ?_
          refine rn.sub (lv' := [(4, .ref x8), (3, .null), (2, .ref kk), (1, .int hz), (0, .ref p0)]) [0, 4, 5, 6, 7] rfl ?_
          obtain ⟨q1, q2, q3, q4⟩ := hR p x8 hp hl7
          have kp := hb p hp
          exact ih x8 q1 (by omega)
        · skip
          refine r_aload hC 2 dJ26_find_29 rfl 31 rfl ?_
          refine r_astore hC 4 [(4, .ref x2), (5, .int (hs p)), (9, .ref x8), (8, .ref x2), (3, .null), (2, .ref kk), (1, .int hz), (0, .ref p0)] dJ26_find_31 (Nat.le_of_ble_eq_true rfl) rfl 33 rfl ?_
          refine r_goto hC 165 dJ26_find_33 (by decide) ?_
          refine r_aload hC 0 dJ26_find_165 rfl 167 rfl ?_
          refine r_ifnonnull hC 3 dJ26_find_167 (by decide) ?_
          refine rn.sub (lv' := [(4, .ref x2), (3, .null), (2, .ref kk), (1, .int hz), (0, .ref p0)]) [0, 4, 5, 6, 7] rfl ?_
          obtain ⟨q1, q2, q3, q4⟩ := hL p x2 hp hl1
          have kp := hb p hp
          exact ih x2 q1 (by omega)
set_option maxHeartbeats 4000000 in
set_option maxRecDepth 100000 in
theorem metJ26_findG (l : Launch) (G : xG) (hG : xGood G) (P : xV → Prop) (L : List Nat) (kd : Nat → Bool) (hs : Nat → Int32) (ky vl : Nat → Nat) (nx bf af pa lf rt pv : Nat → Option Nat) (rd : Nat → Int32) (hPn : ∀ V, P V → ∀ a, a ∈ L → V.2 a = some (ndX kd hs ky vl nx bf af pa lf rt pv rd a)) (T : Nat → Prop) (hTL : ∀ a, T a → a ∈ L) (hTk : ∀ a, T a → kd a = true) (root : Nat) (ht : tI (fun a => (hs a).toInt) T pa lf rt root) (kk : Nat) (hz c9 d9 : Int32) (i : Nat) (hTi : T i) (hkn : kk ≠ ky i) (hhi : hs i = hz) : xRmP P l G yJ26_find (Cond.code yJ26_find cJ26_find 11 (some (.object "java/util/HashMap$TreeNode"))) { frames := 1, locals := 22, cells := 0, slots := 0 } [.ref root, .int hz, .ref kk, .null] [(kk, .inr (14, [.int c9, .int d9])), ((ky i), .inr (14, [.int c9, .int d9]))] (some (.ref i)) := by
  intro V hP hV
  refine xMet_ofT RJ26 hG rfl (by decide) (Nat.le_of_ble_eq_true rfl) fun C hC hQ hX hl hg _ hTab => ?_
  subst hl hg
  refine rn.mono (J := xRq [(kk, .inr (14, [.int c9, .int d9])), ((ky i), .inr (14, [.int c9, .int d9]))] P V) (fun V9 h => ⟨h, hV, hP⟩) ?_
  show rn C (xRq [(kk, .inr (14, [.int c9, .int d9])), ((ky i), .inr (14, [.int c9, .int d9]))] P V) 0 0 0 [(0, .ref root), (1, .int hz), (2, .ref kk), (3, .null)] []
  refine r_aload_n hC 0 dJ26_find_0 rfl 1 rfl ?_
  refine r_astore hC 4 [(4, .ref root), (0, .ref root), (1, .int hz), (2, .ref kk), (3, .null)] dJ26_find_1 (Nat.le_of_ble_eq_true rfl) rfl 3 rfl ?_
  refine rn.sub (lv' := [(4, .ref root), (3, .null), (2, .ref kk), (1, .int hz), (0, .ref root)]) [0, 4, 3, 2, 1] rfl ?_
  obtain ⟨lo, hi, ht⟩ := ht
  obtain ⟨l9, hl9⟩ := ht.way hTi
  refine lpJ26_find hG hC 0 0 (by decide) (by decide) P L kd hs ky vl nx bf af pa lf rt pv rd hPn T hTL hTk root lo hi ht V root kk hz c9 d9 i hkn hhi ?_ l9 root ht.1.1 hl9
  show rn C (xRq [(kk, .inr (14, [.int c9, .int d9])), ((ky i), .inr (14, [.int c9, .int d9]))] P V) 0 0 76 [] [.ref i]
  exact r_aret hC (v := (some i)) (Or.inl ⟨_, rfl⟩) (Nat.le_of_ble_eq_true rfl) (Nat.le_of_ble_eq_true rfl) (fun V9 h => hQ _ _ ⟨rfl, h.1⟩) dJ26_find_76
set_option maxHeartbeats 4000000 in
set_option maxRecDepth 100000 in
theorem metJ26_findN (l : Launch) (G : xG) (hG : xGood G) (P : xV → Prop) (L : List Nat) (kd : Nat → Bool) (hs : Nat → Int32) (ky vl : Nat → Nat) (nx bf af pa lf rt pv : Nat → Option Nat) (rd : Nat → Int32) (hPn : ∀ V, P V → ∀ a, a ∈ L → V.2 a = some (ndX kd hs ky vl nx bf af pa lf rt pv rd a)) (T : Nat → Prop) (hTL : ∀ a, T a → a ∈ L) (hTk : ∀ a, T a → kd a = true) (root : Nat) (ht : tI (fun a => (hs a).toInt) T pa lf rt root) (kk : Nat) (hz c9 d9 : Int32) (hne : ∀ a, a ∈ L → T a → hs a ≠ hz) : xRmP P l G yJ26_find (Cond.code yJ26_find cJ26_find 11 (some (.object "java/util/HashMap$TreeNode"))) { frames := 1, locals := 22, cells := 0, slots := 0 } [.ref root, .int hz, .ref kk, .null] [(kk, .inr (14, [.int c9, .int d9]))] (some (.null)) := by
  intro V hP hV
  refine xMet_ofT RJ26 hG rfl (by decide) (Nat.le_of_ble_eq_true rfl) fun C hC hQ hX hl hg _ hTab => ?_
  subst hl hg
  refine rn.mono (J := xRq [(kk, .inr (14, [.int c9, .int d9]))] P V) (fun V9 h => ⟨h, hV, hP⟩) ?_
  show rn C (xRq [(kk, .inr (14, [.int c9, .int d9]))] P V) 0 0 0 [(0, .ref root), (1, .int hz), (2, .ref kk), (3, .null)] []
  refine r_aload_n hC 0 dJ26_find_0 rfl 1 rfl ?_
  refine r_astore hC 4 [(4, .ref root), (0, .ref root), (1, .int hz), (2, .ref kk), (3, .null)] dJ26_find_1 (Nat.le_of_ble_eq_true rfl) rfl 3 rfl ?_
  refine rn.sub (lv' := [(4, .ref root), (3, .null), (2, .ref kk), (1, .int hz), (0, .ref root)]) [0, 4, 3, 2, 1] rfl ?_
  obtain ⟨lo, hi, ht⟩ := ht
  refine lpJ26_findN hG hC 0 0 (by decide) (by decide) P L kd hs ky vl nx bf af pa lf rt pv rd hPn T hTL hTk root lo hi ht V root kk hz c9 d9 hne ?_ _ root ht.1.1 (Nat.lt_succ_self _)
  show rn C (xRq [(kk, .inr (14, [.int c9, .int d9]))] P V) 0 0 170 [] []
  refine r_null hC dJ26_find_170 171 rfl ?_
  exact r_aret hC (v := none) (Or.inl ⟨_, rfl⟩) (Nat.le_of_ble_eq_true rfl) (Nat.le_of_ble_eq_true rfl) (fun V9 h => hQ _ _ ⟨rfl, h.1⟩) dJ26_find_171
set_option maxHeartbeats 4000000 in
set_option maxRecDepth 100000 in
theorem metJ26_getTreeNodeG (l : Launch) (G : xG) (hG : xGood G) (P : xV → Prop) (L : List Nat) (kd : Nat → Bool) (hs : Nat → Int32) (ky vl : Nat → Nat) (nx bf af pa lf rt pv : Nat → Option Nat) (rd : Nat → Int32) (hPn : ∀ V, P V → ∀ a, a ∈ L → V.2 a = some (ndX kd hs ky vl nx bf af pa lf rt pv rd a)) (T : Nat → Prop) (hTL : ∀ a, T a → a ∈ L) (hTk : ∀ a, T a → kd a = true) (root : Nat) (ht : tI (fun a => (hs a).toInt) T pa lf rt root) (kk : Nat) (hz c9 d9 : Int32) (i : Nat) (hTi : T i) (hkn : kk ≠ ky i) (hhi : hs i = hz) : xRmP P l G yJ26_getTreeNode (Cond.code yJ26_getTreeNode cJ26_getTreeNode 3 (some (.object "java/util/HashMap$TreeNode"))) { frames := 2, locals := 52, cells := 0, slots := 0 } [.ref root, .int hz, .ref kk] [(kk, .inr (14, [.int c9, .int d9])), ((ky i), .inr (14, [.int c9, .int d9]))] (some (.ref i)) := by
  intro V hP hV
  refine xMet_ofT RJ26 hG rfl (by decide) (Nat.le_of_ble_eq_true rfl) fun C hC hQ hX hl hg _ hTab => ?_
  subst hl hg
  have hTr : T root := by obtain ⟨_, _, h8⟩ := ht; exact h8.1.1
  have hpr : pa root = none := by obtain ⟨_, _, h8⟩ := ht; exact h8.1.2.1
  refine rn.mono (J := xRq [(kk, .inr (14, [.int c9, .int d9])), ((ky i), .inr (14, [.int c9, .int d9]))] P V) (fun V9 h => ⟨h, hV, hP⟩) ?_
  show rn C (xRq [(kk, .inr (14, [.int c9, .int d9])), ((ky i), .inr (14, [.int c9, .int d9]))] P V) 0 0 0 [(0, .ref root), (1, .int hz), (2, .ref kk)] []
  refine r_aload_n hC 0 dJ26_getTreeNode_0 rfl 1 rfl ?_
  refine r_getI (v := .null) hC kJ26 6 rfl q2315 (Or.inl rfl) (fun _ h => (h.at (fun _ p9 => hPn _ p9 root (hTL root hTr))).trans (congrArg some (ndX_t (hTk root hTr)))) (congrArg (fun o9 => some (va_rf o9)) (hpr)) dJ26_getTreeNode_1 4 rfl ?_
  refine r_ifnullN hC 14 dJ26_getTreeNode_4 (by decide) ?_
  refine r_aload_n hC 0 dJ26_getTreeNode_14 rfl 15 rfl ?_
  refine r_iload_n hC 1 dJ26_getTreeNode_15 rfl 16 rfl ?_
  refine r_aload_n hC 2 dJ26_getTreeNode_16 rfl 17 rfl ?_
  refine r_null hC dJ26_getTreeNode_17 18 rfl ?_
  refine xCall.r (r := some (.ref i)) (r_cV hC kJ26 root [.int hz, .ref kk, .null] mVJ26_find q1969 (fun _ h => ⟨_, (h.at (fun _ p9 => hPn _ p9 root (hTL root hTr))).trans (congrArg some (ndX_t (hTk root hTr)))⟩) (fun V9 h9 => (metJ26_findG _ _ hG P L kd hs ky vl nx bf af pa lf rt pv rd hPn T hTL hTk root ht kk hz c9 d9 i hTi hkn hhi) V9 h9.p (h9.in.sub [0, 1] rfl rfl)) ⟨rfl, rfl⟩ (Nat.le_of_ble_eq_true rfl) (Nat.le_of_ble_eq_true rfl) rfl (Nat.le_of_ble_eq_true rfl) dJ26_getTreeNode_18) 0 0 21 rfl rfl rfl ?_
  exact r_aret hC (v := (some i)) (Or.inl ⟨_, rfl⟩) (Nat.le_of_ble_eq_true rfl) (Nat.le_of_ble_eq_true rfl) (fun V9 h => hQ _ _ ⟨rfl, h.1⟩) dJ26_getTreeNode_21
set_option maxHeartbeats 4000000 in
set_option maxRecDepth 100000 in
theorem metJ26_getTreeNodeN (l : Launch) (G : xG) (hG : xGood G) (P : xV → Prop) (L : List Nat) (kd : Nat → Bool) (hs : Nat → Int32) (ky vl : Nat → Nat) (nx bf af pa lf rt pv : Nat → Option Nat) (rd : Nat → Int32) (hPn : ∀ V, P V → ∀ a, a ∈ L → V.2 a = some (ndX kd hs ky vl nx bf af pa lf rt pv rd a)) (T : Nat → Prop) (hTL : ∀ a, T a → a ∈ L) (hTk : ∀ a, T a → kd a = true) (root : Nat) (ht : tI (fun a => (hs a).toInt) T pa lf rt root) (kk : Nat) (hz c9 d9 : Int32) (hne : ∀ a, a ∈ L → T a → hs a ≠ hz) : xRmP P l G yJ26_getTreeNode (Cond.code yJ26_getTreeNode cJ26_getTreeNode 3 (some (.object "java/util/HashMap$TreeNode"))) { frames := 2, locals := 52, cells := 0, slots := 0 } [.ref root, .int hz, .ref kk] [(kk, .inr (14, [.int c9, .int d9]))] (some (.null)) := by
  intro V hP hV
  refine xMet_ofT RJ26 hG rfl (by decide) (Nat.le_of_ble_eq_true rfl) fun C hC hQ hX hl hg _ hTab => ?_
  subst hl hg
  have hTr : T root := by obtain ⟨_, _, h8⟩ := ht; exact h8.1.1
  have hpr : pa root = none := by obtain ⟨_, _, h8⟩ := ht; exact h8.1.2.1
  refine rn.mono (J := xRq [(kk, .inr (14, [.int c9, .int d9]))] P V) (fun V9 h => ⟨h, hV, hP⟩) ?_
  show rn C (xRq [(kk, .inr (14, [.int c9, .int d9]))] P V) 0 0 0 [(0, .ref root), (1, .int hz), (2, .ref kk)] []
  refine r_aload_n hC 0 dJ26_getTreeNode_0 rfl 1 rfl ?_
  refine r_getI (v := .null) hC kJ26 6 rfl q2315 (Or.inl rfl) (fun _ h => (h.at (fun _ p9 => hPn _ p9 root (hTL root hTr))).trans (congrArg some (ndX_t (hTk root hTr)))) (congrArg (fun o9 => some (va_rf o9)) (hpr)) dJ26_getTreeNode_1 4 rfl ?_
  refine r_ifnullN hC 14 dJ26_getTreeNode_4 (by decide) ?_
  refine r_aload_n hC 0 dJ26_getTreeNode_14 rfl 15 rfl ?_
  refine r_iload_n hC 1 dJ26_getTreeNode_15 rfl 16 rfl ?_
  refine r_aload_n hC 2 dJ26_getTreeNode_16 rfl 17 rfl ?_
  refine r_null hC dJ26_getTreeNode_17 18 rfl ?_
  refine xCall.r (r := some (.null)) (r_cV hC kJ26 root [.int hz, .ref kk, .null] mVJ26_find q1969 (fun _ h => ⟨_, (h.at (fun _ p9 => hPn _ p9 root (hTL root hTr))).trans (congrArg some (ndX_t (hTk root hTr)))⟩) (fun V9 h9 => (metJ26_findN _ _ hG P L kd hs ky vl nx bf af pa lf rt pv rd hPn T hTL hTk root ht kk hz c9 d9 hne) V9 h9.p (h9.in.sub [0] rfl rfl)) ⟨rfl, rfl⟩ (Nat.le_of_ble_eq_true rfl) (Nat.le_of_ble_eq_true rfl) rfl (Nat.le_of_ble_eq_true rfl) dJ26_getTreeNode_18) 0 0 21 rfl rfl rfl ?_
  exact r_aret hC (v := none) (Or.inl ⟨_, rfl⟩) (Nat.le_of_ble_eq_true rfl) (Nat.le_of_ble_eq_true rfl) (fun V9 h => hQ _ _ ⟨rfl, h.1⟩) dJ26_getTreeNode_21
theorem xRq.sub {ws wc : xW} {P : xV → Prop} {V0 V : xV} (h : xRq ws P V0 V) (is : List Nat) (hn : va_nd is = true) (hs : is.map (fun i => ws[i]?) = wc.map some) : xRq wc P V0 V := ⟨h.1, h.2.1.sub is hn hs, h.2.2⟩
set_option maxHeartbeats 4000000 in
set_option maxRecDepth 100000 in
theorem lpJ20_gnL {C : xC} (hG : xGood (xGG C)) (hC : xCtx C RJ20 cJ20_getNode 8 (some (.object "java/util/HashMap$Node")) { frames := 3, locals := 74, cells := 0, slots := 0 }) (k n : Nat) (hk9 : k ≤ 0) (hn9 : n ≤ 0) (P : xV → Prop) (L : List Nat) (kd : Nat → Bool) (hs : Nat → Int32) (ky vl : Nat → Nat) (nx bf af pa lf rt pv : Nat → Option Nat) (rd : Nat → Int32) (hPn : ∀ V, P V → ∀ a, a ∈ L → V.2 a = some (ndX kd hs ky vl nx bf af pa lf rt pv rd a)) (V : xV) (kk : Nat) (c9 d9 : Int32) (i : Nat) (hkn : kk ≠ ky i) (hhi : hs i = hsh c9 d9) (kx : rn C (xRq [(kk, .inr (14, [.int c9, .int d9])), ((ky i), .inr (14, [.int c9, .int d9]))] P V) k n 136 [] [.ref i]) : ∀ (t : List Nat) (e : Nat), seg nx (some e) (e :: t) none → i ∈ e :: t → (∀ a, a ∈ e :: t → a ∈ L) → (∀ a, a ∈ e :: t → kd a = false) → (∀ a, a ∈ e :: t → hs a = hs i → a = i) → rn C (xRq [(kk, .inr (14, [.int c9, .int d9])), ((ky i), .inr (14, [.int c9, .int d9]))] P V) k n 99 [(4, .ref e), (6, .int (hsh c9 d9)), (1, .ref kk)] [] := by
  intro t
  induction t with
  | nil =>
    intro e hseg hi0 hBL hBk hne
    have hei : i = e := List.mem_singleton.mp hi0
    rw [← hei]
    refine r_aload hC 0 dJ20_getNode_99 rfl 101 rfl ?_
    refine r_getI (v := .int (hs i)) hC kJ25 0 rfl q2234 (Or.inl rfl) (fun _ h => (h.at (fun _ p9 => hPn _ p9 i (hBL i hi0))).trans (congrArg some (ndX_p (hBk i hi0)))) rfl dJ20_getNode_101 104 rfl ?_
    refine r_iload hC 1 dJ20_getNode_104 rfl 106 rfl ?_
    refine r_icne hC 137 dJ20_getNode_106 (by decide) 109 rfl (fun h => absurd (hhi) h) (fun _ => ?_)
    refine r_aload hC 0 dJ20_getNode_109 rfl 111 rfl ?_
    refine r_getI (v := .ref (ky i)) hC kJ25 1 rfl q2240 (Or.inl rfl) (fun _ h => (h.at (fun _ p9 => hPn _ p9 i (hBL i hi0))).trans (congrArg some (ndX_p (hBk i hi0)))) rfl dJ20_getNode_111 114 rfl ?_
    refine r_dup hC dJ20_getNode_114 rfl 115 rfl ?_
    refine r_astore hC 7 [(7, .ref (ky i)), (4, .ref i), (6, .int (hsh c9 d9)), (1, .ref kk)] dJ20_getNode_115 (Nat.le_of_ble_eq_true rfl) rfl 117 rfl ?_
    refine r_aload_n hC 3 dJ20_getNode_117 rfl 118 rfl ?_
    refine r_aceq (rx := (some (ky i))) (ry := (some kk)) hC 134 dJ20_getNode_118 (by decide) 121 rfl (fun h => absurd h (fun q9 => hkn (Option.some.inj q9).symm)) (fun _ => ?_)
    refine r_aload_n hC 3 dJ20_getNode_121 rfl 122 rfl ?_
    refine r_ifnull hC dJ20_getNode_122 125 rfl ?_
    refine r_aload_n hC 3 dJ20_getNode_125 rfl 126 rfl ?_
    refine r_aload hC 0 dJ20_getNode_126 rfl 128 rfl ?_
    refine xCall.r (r := some (.int 1)) (r_cVD hC hG kX16 kk [.ref (ky i)] mDX16_equals_X16 q1929 (fun _ h => ⟨_, h.get 0 rfl⟩) (fun V9 h9 => (xRm_v (metX16_equals _ _ hG kk (ky i) c9 d9 c9 d9) (by simp [bI])) V9 (h9.in.sub [0, 1] rfl rfl)) ⟨rfl, rfl⟩ (by first | omega | (dsimp only; omega)) (by first | omega | (dsimp only; omega)) rfl (Nat.le_of_ble_eq_true rfl) dJ20_getNode_128) k n 131 rfl rfl rfl ?_
    refine r_ifeq hC 137 dJ20_getNode_131 (by decide) 134 rfl (fun h => absurd h (by decide)) (fun _ => ?_)
    refine r_aload hC 1 dJ20_getNode_134 rfl 136 rfl ?_
    refine rn.sub (lv' := []) [] rfl ?_
    exact kx
  | cons u t ih =>
    intro e hseg hi0 hBL hBk hne
    by_cases hei : i = e
    · rw [← hei]
      refine r_aload hC 0 dJ20_getNode_99 rfl 101 rfl ?_
      refine r_getI (v := .int (hs i)) hC kJ25 0 rfl q2234 (Or.inl rfl) (fun _ h => (h.at (fun _ p9 => hPn _ p9 i (hBL i hi0))).trans (congrArg some (ndX_p (hBk i hi0)))) rfl dJ20_getNode_101 104 rfl ?_
      refine r_iload hC 1 dJ20_getNode_104 rfl 106 rfl ?_
      refine r_icne hC 137 dJ20_getNode_106 (by decide) 109 rfl (fun h => absurd (hhi) h) (fun _ => ?_)
      refine r_aload hC 0 dJ20_getNode_109 rfl 111 rfl ?_
      refine r_getI (v := .ref (ky i)) hC kJ25 1 rfl q2240 (Or.inl rfl) (fun _ h => (h.at (fun _ p9 => hPn _ p9 i (hBL i hi0))).trans (congrArg some (ndX_p (hBk i hi0)))) rfl dJ20_getNode_111 114 rfl ?_
      refine r_dup hC dJ20_getNode_114 rfl 115 rfl ?_
      refine r_astore hC 7 [(7, .ref (ky i)), (4, .ref i), (6, .int (hsh c9 d9)), (1, .ref kk)] dJ20_getNode_115 (Nat.le_of_ble_eq_true rfl) rfl 117 rfl ?_
      refine r_aload_n hC 3 dJ20_getNode_117 rfl 118 rfl ?_
      refine r_aceq (rx := (some (ky i))) (ry := (some kk)) hC 134 dJ20_getNode_118 (by decide) 121 rfl (fun h => absurd h (fun q9 => hkn (Option.some.inj q9).symm)) (fun _ => ?_)
      refine r_aload_n hC 3 dJ20_getNode_121 rfl 122 rfl ?_
      refine r_ifnull hC dJ20_getNode_122 125 rfl ?_
      refine r_aload_n hC 3 dJ20_getNode_125 rfl 126 rfl ?_
      refine r_aload hC 0 dJ20_getNode_126 rfl 128 rfl ?_
      refine xCall.r (r := some (.int 1)) (r_cVD hC hG kX16 kk [.ref (ky i)] mDX16_equals_X16 q1929 (fun _ h => ⟨_, h.get 0 rfl⟩) (fun V9 h9 => (xRm_v (metX16_equals _ _ hG kk (ky i) c9 d9 c9 d9) (by simp [bI])) V9 (h9.in.sub [0, 1] rfl rfl)) ⟨rfl, rfl⟩ (by first | omega | (dsimp only; omega)) (by first | omega | (dsimp only; omega)) rfl (Nat.le_of_ble_eq_true rfl) dJ20_getNode_128) k n 131 rfl rfl rfl ?_
      refine r_ifeq hC 137 dJ20_getNode_131 (by decide) 134 rfl (fun h => absurd h (by decide)) (fun _ => ?_)
      refine r_aload hC 1 dJ20_getNode_134 rfl 136 rfl ?_
      refine rn.sub (lv' := []) [] rfl ?_
      exact kx
    · have hi9 : i ∈ u :: t := (List.mem_cons.mp hi0).resolve_left hei
      have hei : ¬ e = i := fun q => hei q.symm
      have hinj9 : hs e = hsh c9 d9 → e = i := fun q => hne e List.mem_cons_self (q.trans hhi.symm)
      have hnx : nx e = some u := hseg.2.1
      refine r_aload hC 0 dJ20_getNode_99 rfl 101 rfl ?_
      refine r_getI (v := .int (hs e)) hC kJ25 0 rfl q2234 (Or.inl rfl) (fun _ h => (h.at (fun _ p9 => hPn _ p9 e (hBL e List.mem_cons_self))).trans (congrArg some (ndX_p (hBk e List.mem_cons_self)))) rfl dJ20_getNode_101 104 rfl ?_
      refine r_iload hC 1 dJ20_getNode_104 rfl 106 rfl ?_
      refine r_icne hC 137 dJ20_getNode_106 (by decide) 109 rfl (fun _ => ?_) (fun h => absurd h (fun q9 => hei (hinj9 q9)))
      refine r_aload hC 0 dJ20_getNode_137 rfl 139 rfl ?_
      refine r_getI (v := .ref u) hC kJ25 3 rfl q2250 (Or.inl rfl) (fun _ h => (h.at (fun _ p9 => hPn _ p9 e (hBL e List.mem_cons_self))).trans (congrArg some (ndX_p (hBk e List.mem_cons_self)))) (congrArg (fun o9 => some (va_rf o9)) (hnx)) dJ20_getNode_139 142 rfl ?_
      refine r_dup hC dJ20_getNode_142 rfl 143 rfl ?_
      refine r_astore hC 4 [(4, .ref u), (6, .int (hsh c9 d9)), (1, .ref kk)] dJ20_getNode_143 (Nat.le_of_ble_eq_true rfl) rfl 145 rfl ?_
      refine r_ifnonnull hC 99 dJ20_getNode_145 (by decide) ?_
      refine rn.sub (lv' := [(4, .ref u), (6, .int (hsh c9 d9)), (1, .ref kk)]) [0, 1, 2] rfl ?_
      exact ih u (by have h8 := hseg.2; rw [hnx] at h8; exact h8) hi9 (fun a ha => hBL a (List.mem_cons_of_mem _ ha)) (fun a ha => hBk a (List.mem_cons_of_mem _ ha)) (fun a ha => hne a (List.mem_cons_of_mem _ ha))
set_option maxHeartbeats 4000000 in
set_option maxRecDepth 100000 in
theorem lpJ20_gnN {C : xC} (hG : xGood (xGG C)) (hC : xCtx C RJ20 cJ20_getNode 8 (some (.object "java/util/HashMap$Node")) { frames := 3, locals := 74, cells := 0, slots := 0 }) (k n : Nat) (hk9 : k ≤ 0) (hn9 : n ≤ 0) (P : xV → Prop) (L : List Nat) (kd : Nat → Bool) (hs : Nat → Int32) (ky vl : Nat → Nat) (nx bf af pa lf rt pv : Nat → Option Nat) (rd : Nat → Int32) (hPn : ∀ V, P V → ∀ a, a ∈ L → V.2 a = some (ndX kd hs ky vl nx bf af pa lf rt pv rd a)) (V : xV) (kk : Nat) (c9 d9 : Int32) (kx : rn C (xRq [(kk, .inr (14, [.int c9, .int d9]))] P V) k n 149 [] [.null]) : ∀ (t : List Nat) (e : Nat), seg nx (some e) (e :: t) none → (∀ a, a ∈ e :: t → a ∈ L) → (∀ a, a ∈ e :: t → kd a = false) → (∀ a, a ∈ e :: t → hs a ≠ hsh c9 d9) → rn C (xRq [(kk, .inr (14, [.int c9, .int d9]))] P V) k n 99 [(4, .ref e), (6, .int (hsh c9 d9)), (1, .ref kk)] [] := by
  intro t
  induction t with
  | nil =>
    intro e hseg hBL hBk hne
    have hnx : nx e = none := hseg.2
    refine r_aload hC 0 dJ20_getNode_99 rfl 101 rfl ?_
    refine r_getI (v := .int (hs e)) hC kJ25 0 rfl q2234 (Or.inl rfl) (fun _ h => (h.at (fun _ p9 => hPn _ p9 e (hBL e List.mem_cons_self))).trans (congrArg some (ndX_p (hBk e List.mem_cons_self)))) rfl dJ20_getNode_101 104 rfl ?_
    refine r_iload hC 1 dJ20_getNode_104 rfl 106 rfl ?_
    refine r_icne hC 137 dJ20_getNode_106 (by decide) 109 rfl (fun _ => ?_) (fun h => absurd h (hne e List.mem_cons_self))
    refine r_aload hC 0 dJ20_getNode_137 rfl 139 rfl ?_
    refine r_getI (v := .null) hC kJ25 3 rfl q2250 (Or.inl rfl) (fun _ h => (h.at (fun _ p9 => hPn _ p9 e (hBL e List.mem_cons_self))).trans (congrArg some (ndX_p (hBk e List.mem_cons_self)))) (congrArg (fun o9 => some (va_rf o9)) (hnx)) dJ20_getNode_139 142 rfl ?_
    refine r_dup hC dJ20_getNode_142 rfl 143 rfl ?_
    refine r_astoreN hC 4 [(4, .null), (6, .int (hsh c9 d9)), (1, .ref kk)] dJ20_getNode_143 (Nat.le_of_ble_eq_true rfl) rfl 145 rfl ?_
    refine r_ifnonnullN hC dJ20_getNode_145 148 rfl ?_
    refine r_null hC dJ20_getNode_148 149 rfl ?_
    refine rn.sub (lv' := []) [] rfl ?_
    exact kx
  | cons u t ih =>
    intro e hseg hBL hBk hne
    have hnx : nx e = some u := hseg.2.1
    refine r_aload hC 0 dJ20_getNode_99 rfl 101 rfl ?_
    refine r_getI (v := .int (hs e)) hC kJ25 0 rfl q2234 (Or.inl rfl) (fun _ h => (h.at (fun _ p9 => hPn _ p9 e (hBL e List.mem_cons_self))).trans (congrArg some (ndX_p (hBk e List.mem_cons_self)))) rfl dJ20_getNode_101 104 rfl ?_
    refine r_iload hC 1 dJ20_getNode_104 rfl 106 rfl ?_
    refine r_icne hC 137 dJ20_getNode_106 (by decide) 109 rfl (fun _ => ?_) (fun h => absurd h (hne e List.mem_cons_self))
    refine r_aload hC 0 dJ20_getNode_137 rfl 139 rfl ?_
    refine r_getI (v := .ref u) hC kJ25 3 rfl q2250 (Or.inl rfl) (fun _ h => (h.at (fun _ p9 => hPn _ p9 e (hBL e List.mem_cons_self))).trans (congrArg some (ndX_p (hBk e List.mem_cons_self)))) (congrArg (fun o9 => some (va_rf o9)) (hnx)) dJ20_getNode_139 142 rfl ?_
    refine r_dup hC dJ20_getNode_142 rfl 143 rfl ?_
    refine r_astore hC 4 [(4, .ref u), (6, .int (hsh c9 d9)), (1, .ref kk)] dJ20_getNode_143 (Nat.le_of_ble_eq_true rfl) rfl 145 rfl ?_
    refine r_ifnonnull hC 99 dJ20_getNode_145 (by decide) ?_
    refine rn.sub (lv' := [(4, .ref u), (6, .int (hsh c9 d9)), (1, .ref kk)]) [0, 1, 2] rfl ?_
    exact ih u (by have h8 := hseg.2; rw [hnx] at h8; exact h8) (fun a ha => hBL a (List.mem_cons_of_mem _ ha)) (fun a ha => hBk a (List.mem_cons_of_mem _ ha)) (fun a ha => hne a (List.mem_cons_of_mem _ ha))
set_option maxHeartbeats 4000000 in
set_option maxRecDepth 100000 in
theorem metJ20_getNodeG (l : Launch) (G : xG) (hG : xGood G) (P : xV → Prop) (L : List Nat) (kd : Nat → Bool) (hs : Nat → Int32) (ky vl : Nat → Nat) (nx bf af pa lf rt pv : Nat → Option Nat) (rd : Nat → Int32) (hPn : ∀ V, P V → ∀ a, a ∈ L → V.2 a = some (ndX kd hs ky vl nx bf af pa lf rt pv rd a)) (M : Nat) (tbo es : Option Nat) (sz th : Nat) (mc : Int32) (hd tl : Option Nat) (tb cap : Nat) (tf : Nat → Option Nat) (hcap : capI cap) (kk b : Nat) (c9 d9 : Int32) (hb : ixN (hsh c9 d9) cap = b) (f : Nat) (hf : tf b = some f) (hfL : f ∈ L) (hkn : kk ≠ ky f) (hhi : hs f = hsh c9 d9) : xRmP P l G yJ20_getNode (Cond.code yJ20_getNode cJ20_getNode 8 (some (.object "java/util/HashMap$Node"))) { frames := 3, locals := 74, cells := 0, slots := 0 } [.ref M, .ref kk] [(M, .inr (25, [.ref tb, va_rf es, .int (nI sz), .int mc, .int (nI th), .float 1061158912, .null, .null, va_rf hd, va_rf tl, .int 0, .int 0])), (tb, .inl (8, cap, .inr (.inr (.inr (.inr tf))))), (kk, .inr (14, [.int c9, .int d9])), ((ky f), .inr (14, [.int c9, .int d9]))] (some (.ref f)) := by
  intro V hP hV
  refine xMet_ofT RJ20 hG rfl (by decide) (Nat.le_of_ble_eq_true rfl) fun C hC hQ hX hl hg _ hTab => ?_
  subst hl hg
  refine rn.mono (J := xRq [(M, .inr (25, [.ref tb, va_rf es, .int (nI sz), .int mc, .int (nI th), .float 1061158912, .null, .null, va_rf hd, va_rf tl, .int 0, .int 0])), (tb, .inl (8, cap, .inr (.inr (.inr (.inr tf))))), (kk, .inr (14, [.int c9, .int d9])), ((ky f), .inr (14, [.int c9, .int d9]))] P V) (fun V9 h => ⟨h, hV, hP⟩) ?_
  show rn C (xRq [(M, .inr (25, [.ref tb, va_rf es, .int (nI sz), .int mc, .int (nI th), .float 1061158912, .null, .null, va_rf hd, va_rf tl, .int 0, .int 0])), (tb, .inl (8, cap, .inr (.inr (.inr (.inr tf))))), (kk, .inr (14, [.int c9, .int d9])), ((ky f), .inr (14, [.int c9, .int d9]))] P V) 0 0 0 [(0, .ref M), (1, .ref kk)] []
  refine r_aload_n hC 0 dJ20_getNode_0 rfl 1 rfl ?_
  refine r_get (v := .ref tb) hC kJ21 0 rfl q1770 (fun _ h => h.get 0 rfl) rfl dJ20_getNode_1 4 rfl ?_
  refine r_dup hC dJ20_getNode_4 rfl 5 rfl ?_
  refine r_astore_n hC 2 [(2, .ref tb), (0, .ref M), (1, .ref kk)] dJ20_getNode_5 rfl (Nat.le_of_ble_eq_true rfl) rfl 6 rfl ?_
  refine r_ifnull hC dJ20_getNode_6 9 rfl ?_
  refine r_aload_n hC 0 dJ20_getNode_9 rfl 10 rfl ?_
  refine r_alen hC (nI cap) (t := 8) rfl (fun _ h => h.get 1 rfl) rfl dJ20_getNode_10 11 rfl ?_
  refine r_dup hC dJ20_getNode_11 rfl 12 rfl ?_
  refine r_istore hC 5 [(5, .int (nI cap)), (2, .ref tb), (0, .ref M), (1, .ref kk)] dJ20_getNode_12 (Nat.le_of_ble_eq_true rfl) rfl 14 rfl ?_
  refine r_ifle hC 148 dJ20_getNode_14 (by decide) 17 rfl (fun h => absurd h (ic_pos (by have := hcap.le; omega) (by have := hcap.le; omega))) (fun _ => ?_)
  refine r_aload_n hC 1 dJ20_getNode_17 rfl 18 rfl ?_
  refine r_iload hC 0 dJ20_getNode_18 rfl 20 rfl ?_
  refine r_iconst hC 1 dJ20_getNode_20 ic_1 21 rfl ?_
  refine r_isub hC (nI (cap - 1)) dJ20_getNode_21  (pk_sub (a := cap) (b := 1) (by have := hcap.le; omega)) 22 rfl ?_
  refine r_aload_n hC 3 dJ20_getNode_22 rfl 23 rfl ?_
  refine xCall.r (r := some (.int (hsh c9 d9))) (r_cS hC [.ref kk] mSJ20_hash q1839 (fun V9 h9 => (metJ20_hash _ _ hG kk c9 d9) V9 (h9.in.sub [2] rfl rfl)) ⟨rfl, rfl⟩ (Nat.le_of_ble_eq_true rfl) (Nat.le_of_ble_eq_true rfl) rfl (Nat.le_of_ble_eq_true rfl) dJ20_getNode_23) 0 0 26 rfl rfl rfl ?_
  refine r_dup hC dJ20_getNode_26 rfl 27 rfl ?_
  refine r_istore hC 6 [(6, .int (hsh c9 d9)), (5, .int (nI cap)), (2, .ref tb), (0, .ref M), (1, .ref kk)] dJ20_getNode_27 (Nat.le_of_ble_eq_true rfl) rfl 29 rfl ?_
  refine r_iand hC (nI b) dJ20_getNode_29  (by rw [ix_and hcap, hb]) 30 rfl ?_
  refine r_aald hC b (xix_n b (by rw [← hb]; exact ixN_lt hcap) (by have := hcap.le; omega)) (t := 8) rfl rfl (fun _ h => h.get 1 rfl) (some f) (hf) dJ20_getNode_30 31 rfl ?_
  show rn C (xRq [(M, .inr (25, [.ref tb, va_rf es, .int (nI sz), .int mc, .int (nI th), .float 1061158912, .null, .null, va_rf hd, va_rf tl, .int 0, .int 0])), (tb, .inl (8, cap, .inr (.inr (.inr (.inr tf))))), (kk, .inr (14, [.int c9, .int d9])), ((ky f), .inr (14, [.int c9, .int d9]))] P V) 0 0 31 [(6, .int (hsh c9 d9)), (5, .int (nI cap)), (2, .ref tb), (0, .ref M), (1, .ref kk)] [.ref f]
  refine r_dup hC dJ20_getNode_31 rfl 32 rfl ?_
  refine r_astore_n hC 3 [(3, .ref f), (6, .int (hsh c9 d9)), (5, .int (nI cap)), (2, .ref tb), (0, .ref M), (1, .ref kk)] dJ20_getNode_32 rfl (Nat.le_of_ble_eq_true rfl) rfl 33 rfl ?_
  refine r_ifnull hC dJ20_getNode_33 36 rfl ?_
  refine r_aload_n hC 0 dJ20_getNode_36 rfl 37 rfl ?_
  refine r_getX (v := .int (hs f)) hC 0 rfl rfl q2234 q2234 (Or.inl rfl) (Or.inl rfl) (fun _ h => h.at (fun _ p9 => hPn _ p9 f hfL)) rfl rfl dJ20_getNode_37 40 rfl ?_
  refine r_iload hC 1 dJ20_getNode_40 rfl 42 rfl ?_
  refine r_icne hC 71 dJ20_getNode_42 (by decide) 45 rfl (fun h => absurd (hhi) h) (fun _ => ?_)
  refine r_aload_n hC 0 dJ20_getNode_45 rfl 46 rfl ?_
  refine r_getX (v := .ref (ky f)) hC 1 rfl rfl q2240 q2240 (Or.inl rfl) (Or.inl rfl) (fun _ h => h.at (fun _ p9 => hPn _ p9 f hfL)) rfl rfl dJ20_getNode_46 49 rfl ?_
  refine r_dup hC dJ20_getNode_49 rfl 50 rfl ?_
  refine r_astore hC 7 [(7, .ref (ky f)), (3, .ref f), (6, .int (hsh c9 d9)), (5, .int (nI cap)), (2, .ref tb), (0, .ref M), (1, .ref kk)] dJ20_getNode_50 (Nat.le_of_ble_eq_true rfl) rfl 52 rfl ?_
  refine r_aload_n hC 6 dJ20_getNode_52 rfl 53 rfl ?_
  refine r_aceq (rx := (some (ky f))) (ry := (some kk)) hC 69 dJ20_getNode_53 (by decide) 56 rfl (fun h => absurd h (fun q9 => hkn (Option.some.inj q9).symm)) (fun _ => ?_)
  refine r_aload_n hC 6 dJ20_getNode_56 rfl 57 rfl ?_
  refine r_ifnull hC dJ20_getNode_57 60 rfl ?_
  refine r_aload_n hC 6 dJ20_getNode_60 rfl 61 rfl ?_
  refine r_aload hC 0 dJ20_getNode_61 rfl 63 rfl ?_
  refine xCall.r (r := some (.int 1)) (r_cVD hC hG kX16 kk [.ref (ky f)] mDX16_equals_X16 q1929 (fun _ h => ⟨_, h.get 2 rfl⟩) (fun V9 h9 => (xRm_v (metX16_equals _ _ hG kk (ky f) c9 d9 c9 d9) (by simp [bI])) V9 (h9.in.sub [2, 3] rfl rfl)) ⟨rfl, rfl⟩ (Nat.le_of_ble_eq_true rfl) (Nat.le_of_ble_eq_true rfl) rfl (Nat.le_of_ble_eq_true rfl) dJ20_getNode_63) 0 0 66 rfl rfl rfl ?_
  refine r_ifeq hC 71 dJ20_getNode_66 (by decide) 69 rfl (fun h => absurd h (by decide)) (fun _ => ?_)
  refine r_aload_n hC 1 dJ20_getNode_69 rfl 70 rfl ?_
  exact r_aret hC (v := (some f)) (Or.inl ⟨_, rfl⟩) (Nat.le_of_ble_eq_true rfl) (Nat.le_of_ble_eq_true rfl) (fun V9 h => hQ _ _ ⟨rfl, h.1⟩) dJ20_getNode_70
set_option maxHeartbeats 4000000 in
set_option maxRecDepth 100000 in
theorem metJ20_getNodeT (l : Launch) (G : xG) (hG : xGood G) (P : xV → Prop) (L : List Nat) (kd : Nat → Bool) (hs : Nat → Int32) (ky vl : Nat → Nat) (nx bf af pa lf rt pv : Nat → Option Nat) (rd : Nat → Int32) (hPn : ∀ V, P V → ∀ a, a ∈ L → V.2 a = some (ndX kd hs ky vl nx bf af pa lf rt pv rd a)) (M : Nat) (tbo es : Option Nat) (sz th : Nat) (mc : Int32) (hd tl : Option Nat) (tb cap : Nat) (tf : Nat → Option Nat) (hcap : capI cap) (kk b : Nat) (c9 d9 : Int32) (hb : ixN (hsh c9 d9) cap = b) (f : Nat) (hf : tf b = some f) (hfL : f ∈ L) (hfne : hs f ≠ hsh c9 d9) (hfk : kd f = true) (e : Nat) (hnf : nx f = some e)  (T : Nat → Prop) (hTL : ∀ a, T a → a ∈ L) (hTk : ∀ a, T a → kd a = true) (ht : tI (fun a => (hs a).toInt) T pa lf rt f) (i : Nat) (hkn : kk ≠ ky i) (hhi : hs i = hsh c9 d9) (hTi : T i) : xRmP P l G yJ20_getNode (Cond.code yJ20_getNode cJ20_getNode 8 (some (.object "java/util/HashMap$Node"))) { frames := 3, locals := 74, cells := 0, slots := 0 } [.ref M, .ref kk] [(M, .inr (25, [.ref tb, va_rf es, .int (nI sz), .int mc, .int (nI th), .float 1061158912, .null, .null, va_rf hd, va_rf tl, .int 0, .int 0])), (tb, .inl (8, cap, .inr (.inr (.inr (.inr tf))))), (kk, .inr (14, [.int c9, .int d9])), ((ky i), .inr (14, [.int c9, .int d9]))] (some (.ref i)) := by
  intro V hP hV
  refine xMet_ofT RJ20 hG rfl (by decide) (Nat.le_of_ble_eq_true rfl) fun C hC hQ hX hl hg _ hTab => ?_
  subst hl hg
  refine rn.mono (J := xRq [(M, .inr (25, [.ref tb, va_rf es, .int (nI sz), .int mc, .int (nI th), .float 1061158912, .null, .null, va_rf hd, va_rf tl, .int 0, .int 0])), (tb, .inl (8, cap, .inr (.inr (.inr (.inr tf))))), (kk, .inr (14, [.int c9, .int d9])), ((ky i), .inr (14, [.int c9, .int d9]))] P V) (fun V9 h => ⟨h, hV, hP⟩) ?_
  show rn C (xRq [(M, .inr (25, [.ref tb, va_rf es, .int (nI sz), .int mc, .int (nI th), .float 1061158912, .null, .null, va_rf hd, va_rf tl, .int 0, .int 0])), (tb, .inl (8, cap, .inr (.inr (.inr (.inr tf))))), (kk, .inr (14, [.int c9, .int d9])), ((ky i), .inr (14, [.int c9, .int d9]))] P V) 0 0 0 [(0, .ref M), (1, .ref kk)] []
  refine r_aload_n hC 0 dJ20_getNode_0 rfl 1 rfl ?_
  refine r_get (v := .ref tb) hC kJ21 0 rfl q1770 (fun _ h => h.get 0 rfl) rfl dJ20_getNode_1 4 rfl ?_
  refine r_dup hC dJ20_getNode_4 rfl 5 rfl ?_
  refine r_astore_n hC 2 [(2, .ref tb), (0, .ref M), (1, .ref kk)] dJ20_getNode_5 rfl (Nat.le_of_ble_eq_true rfl) rfl 6 rfl ?_
  refine r_ifnull hC dJ20_getNode_6 9 rfl ?_
  refine r_aload_n hC 0 dJ20_getNode_9 rfl 10 rfl ?_
  refine r_alen hC (nI cap) (t := 8) rfl (fun _ h => h.get 1 rfl) rfl dJ20_getNode_10 11 rfl ?_
  refine r_dup hC dJ20_getNode_11 rfl 12 rfl ?_
  refine r_istore hC 5 [(5, .int (nI cap)), (2, .ref tb), (0, .ref M), (1, .ref kk)] dJ20_getNode_12 (Nat.le_of_ble_eq_true rfl) rfl 14 rfl ?_
  refine r_ifle hC 148 dJ20_getNode_14 (by decide) 17 rfl (fun h => absurd h (ic_pos (by have := hcap.le; omega) (by have := hcap.le; omega))) (fun _ => ?_)
  refine r_aload_n hC 1 dJ20_getNode_17 rfl 18 rfl ?_
  refine r_iload hC 0 dJ20_getNode_18 rfl 20 rfl ?_
  refine r_iconst hC 1 dJ20_getNode_20 ic_1 21 rfl ?_
  refine r_isub hC (nI (cap - 1)) dJ20_getNode_21  (pk_sub (a := cap) (b := 1) (by have := hcap.le; omega)) 22 rfl ?_
  refine r_aload_n hC 3 dJ20_getNode_22 rfl 23 rfl ?_
  refine xCall.r (r := some (.int (hsh c9 d9))) (r_cS hC [.ref kk] mSJ20_hash q1839 (fun V9 h9 => (metJ20_hash _ _ hG kk c9 d9) V9 (h9.in.sub [2] rfl rfl)) ⟨rfl, rfl⟩ (Nat.le_of_ble_eq_true rfl) (Nat.le_of_ble_eq_true rfl) rfl (Nat.le_of_ble_eq_true rfl) dJ20_getNode_23) 0 0 26 rfl rfl rfl ?_
  refine r_dup hC dJ20_getNode_26 rfl 27 rfl ?_
  refine r_istore hC 6 [(6, .int (hsh c9 d9)), (5, .int (nI cap)), (2, .ref tb), (0, .ref M), (1, .ref kk)] dJ20_getNode_27 (Nat.le_of_ble_eq_true rfl) rfl 29 rfl ?_
  refine r_iand hC (nI b) dJ20_getNode_29  (by rw [ix_and hcap, hb]) 30 rfl ?_
  refine r_aald hC b (xix_n b (by rw [← hb]; exact ixN_lt hcap) (by have := hcap.le; omega)) (t := 8) rfl rfl (fun _ h => h.get 1 rfl) (some f) (hf) dJ20_getNode_30 31 rfl ?_
  show rn C (xRq [(M, .inr (25, [.ref tb, va_rf es, .int (nI sz), .int mc, .int (nI th), .float 1061158912, .null, .null, va_rf hd, va_rf tl, .int 0, .int 0])), (tb, .inl (8, cap, .inr (.inr (.inr (.inr tf))))), (kk, .inr (14, [.int c9, .int d9])), ((ky i), .inr (14, [.int c9, .int d9]))] P V) 0 0 31 [(6, .int (hsh c9 d9)), (5, .int (nI cap)), (2, .ref tb), (0, .ref M), (1, .ref kk)] [.ref f]
  refine r_dup hC dJ20_getNode_31 rfl 32 rfl ?_
  refine r_astore_n hC 3 [(3, .ref f), (6, .int (hsh c9 d9)), (5, .int (nI cap)), (2, .ref tb), (0, .ref M), (1, .ref kk)] dJ20_getNode_32 rfl (Nat.le_of_ble_eq_true rfl) rfl 33 rfl ?_
  refine r_ifnull hC dJ20_getNode_33 36 rfl ?_
  refine r_aload_n hC 0 dJ20_getNode_36 rfl 37 rfl ?_
  refine r_getI (v := .int (hs f)) hC kJ26 0 rfl q2234 (Or.inl rfl) (fun _ h => (h.at (fun _ p9 => hPn _ p9 f hfL)).trans (congrArg some (ndX_t hfk))) rfl dJ20_getNode_37 40 rfl ?_
  refine r_iload hC 1 dJ20_getNode_40 rfl 42 rfl ?_
  refine r_icne hC 71 dJ20_getNode_42 (by decide) 45 rfl (fun _ => ?_) (fun h => absurd h (hfne))
  refine r_aload_n hC 0 dJ20_getNode_71 rfl 72 rfl ?_
  refine r_getI (v := .ref e) hC kJ26 3 rfl q2250 (Or.inl rfl) (fun _ h => (h.at (fun _ p9 => hPn _ p9 f hfL)).trans (congrArg some (ndX_t hfk))) (congrArg (fun o9 => some (va_rf o9)) (hnf)) dJ20_getNode_72 75 rfl ?_
  refine r_dup hC dJ20_getNode_75 rfl 76 rfl ?_
  refine r_astore hC 4 [(4, .ref e), (3, .ref f), (6, .int (hsh c9 d9)), (5, .int (nI cap)), (2, .ref tb), (0, .ref M), (1, .ref kk)] dJ20_getNode_76 (Nat.le_of_ble_eq_true rfl) rfl 78 rfl ?_
  refine r_ifnull hC dJ20_getNode_78 81 rfl ?_
  refine r_aload_n hC 1 dJ20_getNode_81 rfl 82 rfl ?_
  refine r_instS hC kJ26 q1960 (fun _ h => ⟨_, (h.at (fun _ p9 => hPn _ p9 f hfL)).trans (congrArg some (ndX_t hfk))⟩) dJ20_getNode_82 85 rfl ?_
  refine r_ifeq hC 99 dJ20_getNode_85 (by decide) 88 rfl (fun h => absurd h (by decide)) (fun _ => ?_)
  refine r_aload_n hC 1 dJ20_getNode_88 rfl 89 rfl ?_
  refine r_castS hC kJ26 q1960 (fun _ h => ⟨_, (h.at (fun _ p9 => hPn _ p9 f hfL)).trans (congrArg some (ndX_t hfk))⟩) dJ20_getNode_89 92 rfl ?_
  refine r_iload hC 2 dJ20_getNode_92 rfl 94 rfl ?_
  refine r_aload_n hC 6 dJ20_getNode_94 rfl 95 rfl ?_
  refine xCall.r (r := some (.ref i)) (r_cV hC kJ26 f [.int (hsh c9 d9), .ref kk] mVJ26_getTreeNode q1961 (fun _ h => ⟨_, (h.at (fun _ p9 => hPn _ p9 f hfL)).trans (congrArg some (ndX_t hfk))⟩) (fun V9 h9 => (metJ26_getTreeNodeG _ _ hG P L kd hs ky vl nx bf af pa lf rt pv rd hPn T hTL hTk f ht kk (hsh c9 d9) c9 d9 i hTi hkn hhi) V9 h9.p (h9.in.sub [2, 3] rfl rfl)) ⟨rfl, rfl⟩ (Nat.le_of_ble_eq_true rfl) (Nat.le_of_ble_eq_true rfl) rfl (Nat.le_of_ble_eq_true rfl) dJ20_getNode_95) 0 0 98 rfl rfl rfl ?_
  exact r_aret hC (v := (some i)) (Or.inl ⟨_, rfl⟩) (Nat.le_of_ble_eq_true rfl) (Nat.le_of_ble_eq_true rfl) (fun V9 h => hQ _ _ ⟨rfl, h.1⟩) dJ20_getNode_98
set_option maxHeartbeats 4000000 in
set_option maxRecDepth 100000 in
theorem metJ20_getNodeL (l : Launch) (G : xG) (hG : xGood G) (P : xV → Prop) (L : List Nat) (kd : Nat → Bool) (hs : Nat → Int32) (ky vl : Nat → Nat) (nx bf af pa lf rt pv : Nat → Option Nat) (rd : Nat → Int32) (hPn : ∀ V, P V → ∀ a, a ∈ L → V.2 a = some (ndX kd hs ky vl nx bf af pa lf rt pv rd a)) (M : Nat) (tbo es : Option Nat) (sz th : Nat) (mc : Int32) (hd tl : Option Nat) (tb cap : Nat) (tf : Nat → Option Nat) (hcap : capI cap) (kk b : Nat) (c9 d9 : Int32) (hb : ixN (hsh c9 d9) cap = b) (f : Nat) (hf : tf b = some f) (hfL : f ∈ L) (hfne : hs f ≠ hsh c9 d9) (hfk : kd f = false) (e : Nat) (hnf : nx f = some e) (t : List Nat) (hseg : seg nx (some e) (e :: t) none) (hBL : ∀ a, a ∈ e :: t → a ∈ L) (hBk : ∀ a, a ∈ e :: t → kd a = false) (i : Nat) (hkn : kk ≠ ky i) (hhi : hs i = hsh c9 d9) (hit : i ∈ e :: t) (hinj : ∀ a, a ∈ e :: t → hs a = hs i → a = i) : xRmP P l G yJ20_getNode (Cond.code yJ20_getNode cJ20_getNode 8 (some (.object "java/util/HashMap$Node"))) { frames := 3, locals := 74, cells := 0, slots := 0 } [.ref M, .ref kk] [(M, .inr (25, [.ref tb, va_rf es, .int (nI sz), .int mc, .int (nI th), .float 1061158912, .null, .null, va_rf hd, va_rf tl, .int 0, .int 0])), (tb, .inl (8, cap, .inr (.inr (.inr (.inr tf))))), (kk, .inr (14, [.int c9, .int d9])), ((ky i), .inr (14, [.int c9, .int d9]))] (some (.ref i)) := by
  intro V hP hV
  refine xMet_ofT RJ20 hG rfl (by decide) (Nat.le_of_ble_eq_true rfl) fun C hC hQ hX hl hg _ hTab => ?_
  subst hl hg
  refine rn.mono (J := xRq [(M, .inr (25, [.ref tb, va_rf es, .int (nI sz), .int mc, .int (nI th), .float 1061158912, .null, .null, va_rf hd, va_rf tl, .int 0, .int 0])), (tb, .inl (8, cap, .inr (.inr (.inr (.inr tf))))), (kk, .inr (14, [.int c9, .int d9])), ((ky i), .inr (14, [.int c9, .int d9]))] P V) (fun V9 h => ⟨h, hV, hP⟩) ?_
  show rn C (xRq [(M, .inr (25, [.ref tb, va_rf es, .int (nI sz), .int mc, .int (nI th), .float 1061158912, .null, .null, va_rf hd, va_rf tl, .int 0, .int 0])), (tb, .inl (8, cap, .inr (.inr (.inr (.inr tf))))), (kk, .inr (14, [.int c9, .int d9])), ((ky i), .inr (14, [.int c9, .int d9]))] P V) 0 0 0 [(0, .ref M), (1, .ref kk)] []
  refine r_aload_n hC 0 dJ20_getNode_0 rfl 1 rfl ?_
  refine r_get (v := .ref tb) hC kJ21 0 rfl q1770 (fun _ h => h.get 0 rfl) rfl dJ20_getNode_1 4 rfl ?_
  refine r_dup hC dJ20_getNode_4 rfl 5 rfl ?_
  refine r_astore_n hC 2 [(2, .ref tb), (0, .ref M), (1, .ref kk)] dJ20_getNode_5 rfl (Nat.le_of_ble_eq_true rfl) rfl 6 rfl ?_
  refine r_ifnull hC dJ20_getNode_6 9 rfl ?_
  refine r_aload_n hC 0 dJ20_getNode_9 rfl 10 rfl ?_
  refine r_alen hC (nI cap) (t := 8) rfl (fun _ h => h.get 1 rfl) rfl dJ20_getNode_10 11 rfl ?_
  refine r_dup hC dJ20_getNode_11 rfl 12 rfl ?_
  refine r_istore hC 5 [(5, .int (nI cap)), (2, .ref tb), (0, .ref M), (1, .ref kk)] dJ20_getNode_12 (Nat.le_of_ble_eq_true rfl) rfl 14 rfl ?_
  refine r_ifle hC 148 dJ20_getNode_14 (by decide) 17 rfl (fun h => absurd h (ic_pos (by have := hcap.le; omega) (by have := hcap.le; omega))) (fun _ => ?_)
  refine r_aload_n hC 1 dJ20_getNode_17 rfl 18 rfl ?_
  refine r_iload hC 0 dJ20_getNode_18 rfl 20 rfl ?_
  refine r_iconst hC 1 dJ20_getNode_20 ic_1 21 rfl ?_
  refine r_isub hC (nI (cap - 1)) dJ20_getNode_21  (pk_sub (a := cap) (b := 1) (by have := hcap.le; omega)) 22 rfl ?_
  refine r_aload_n hC 3 dJ20_getNode_22 rfl 23 rfl ?_
  refine xCall.r (r := some (.int (hsh c9 d9))) (r_cS hC [.ref kk] mSJ20_hash q1839 (fun V9 h9 => (metJ20_hash _ _ hG kk c9 d9) V9 (h9.in.sub [2] rfl rfl)) ⟨rfl, rfl⟩ (Nat.le_of_ble_eq_true rfl) (Nat.le_of_ble_eq_true rfl) rfl (Nat.le_of_ble_eq_true rfl) dJ20_getNode_23) 0 0 26 rfl rfl rfl ?_
  refine r_dup hC dJ20_getNode_26 rfl 27 rfl ?_
  refine r_istore hC 6 [(6, .int (hsh c9 d9)), (5, .int (nI cap)), (2, .ref tb), (0, .ref M), (1, .ref kk)] dJ20_getNode_27 (Nat.le_of_ble_eq_true rfl) rfl 29 rfl ?_
  refine r_iand hC (nI b) dJ20_getNode_29  (by rw [ix_and hcap, hb]) 30 rfl ?_
  refine r_aald hC b (xix_n b (by rw [← hb]; exact ixN_lt hcap) (by have := hcap.le; omega)) (t := 8) rfl rfl (fun _ h => h.get 1 rfl) (some f) (hf) dJ20_getNode_30 31 rfl ?_
  show rn C (xRq [(M, .inr (25, [.ref tb, va_rf es, .int (nI sz), .int mc, .int (nI th), .float 1061158912, .null, .null, va_rf hd, va_rf tl, .int 0, .int 0])), (tb, .inl (8, cap, .inr (.inr (.inr (.inr tf))))), (kk, .inr (14, [.int c9, .int d9])), ((ky i), .inr (14, [.int c9, .int d9]))] P V) 0 0 31 [(6, .int (hsh c9 d9)), (5, .int (nI cap)), (2, .ref tb), (0, .ref M), (1, .ref kk)] [.ref f]
  refine r_dup hC dJ20_getNode_31 rfl 32 rfl ?_
  refine r_astore_n hC 3 [(3, .ref f), (6, .int (hsh c9 d9)), (5, .int (nI cap)), (2, .ref tb), (0, .ref M), (1, .ref kk)] dJ20_getNode_32 rfl (Nat.le_of_ble_eq_true rfl) rfl 33 rfl ?_
  refine r_ifnull hC dJ20_getNode_33 36 rfl ?_
  refine r_aload_n hC 0 dJ20_getNode_36 rfl 37 rfl ?_
  refine r_getI (v := .int (hs f)) hC kJ25 0 rfl q2234 (Or.inl rfl) (fun _ h => (h.at (fun _ p9 => hPn _ p9 f hfL)).trans (congrArg some (ndX_p hfk))) rfl dJ20_getNode_37 40 rfl ?_
  refine r_iload hC 1 dJ20_getNode_40 rfl 42 rfl ?_
  refine r_icne hC 71 dJ20_getNode_42 (by decide) 45 rfl (fun _ => ?_) (fun h => absurd h (hfne))
  refine r_aload_n hC 0 dJ20_getNode_71 rfl 72 rfl ?_
  refine r_getI (v := .ref e) hC kJ25 3 rfl q2250 (Or.inl rfl) (fun _ h => (h.at (fun _ p9 => hPn _ p9 f hfL)).trans (congrArg some (ndX_p hfk))) (congrArg (fun o9 => some (va_rf o9)) (hnf)) dJ20_getNode_72 75 rfl ?_
  refine r_dup hC dJ20_getNode_75 rfl 76 rfl ?_
  refine r_astore hC 4 [(4, .ref e), (3, .ref f), (6, .int (hsh c9 d9)), (5, .int (nI cap)), (2, .ref tb), (0, .ref M), (1, .ref kk)] dJ20_getNode_76 (Nat.le_of_ble_eq_true rfl) rfl 78 rfl ?_
  refine r_ifnull hC dJ20_getNode_78 81 rfl ?_
  refine r_aload_n hC 1 dJ20_getNode_81 rfl 82 rfl ?_
  refine r_instNo hC kJ25 q1960 (nt_25 hG) (fun _ h => ⟨_, (h.at (fun _ p9 => hPn _ p9 f hfL)).trans (congrArg some (ndX_p hfk))⟩) dJ20_getNode_82 85 rfl ?_
  refine r_ifeq hC 99 dJ20_getNode_85 (by decide) 88 rfl (fun _ => ?_) (fun h => absurd h (by decide))
  refine rn.sub (lv' := [(4, .ref e), (6, .int (hsh c9 d9)), (1, .ref kk)]) [0, 2, 6] rfl ?_
  refine rn.mono (J := xRq [(kk, .inr (14, [.int c9, .int d9])), ((ky i), .inr (14, [.int c9, .int d9]))] P V) (fun _ h => h.sub [2, 3] rfl rfl) ?_
  refine lpJ20_gnL hG hC 0 0 (by decide) (by decide) P L kd hs ky vl nx bf af pa lf rt pv rd hPn V kk c9 d9 i hkn hhi ?_ t e hseg hit hBL hBk hinj
  show rn C (xRq [(kk, .inr (14, [.int c9, .int d9])), ((ky i), .inr (14, [.int c9, .int d9]))] P V) 0 0 136 [] [.ref i]
  exact r_aret hC (v := (some i)) (Or.inl ⟨_, rfl⟩) (Nat.le_of_ble_eq_true rfl) (Nat.le_of_ble_eq_true rfl) (fun V9 h => hQ _ _ ⟨rfl, h.1⟩) dJ20_getNode_136
set_option maxHeartbeats 4000000 in
set_option maxRecDepth 100000 in
theorem metJ20_getNodeN0 (l : Launch) (G : xG) (hG : xGood G) (P : xV → Prop) (L : List Nat) (kd : Nat → Bool) (hs : Nat → Int32) (ky vl : Nat → Nat) (nx bf af pa lf rt pv : Nat → Option Nat) (rd : Nat → Int32) (hPn : ∀ V, P V → ∀ a, a ∈ L → V.2 a = some (ndX kd hs ky vl nx bf af pa lf rt pv rd a)) (M : Nat) (tbo es : Option Nat) (sz th : Nat) (mc : Int32) (hd tl : Option Nat) (tb cap : Nat) (tf : Nat → Option Nat) (hcap : capI cap) (kk b : Nat) (c9 d9 : Int32) (hb : ixN (hsh c9 d9) cap = b) (hf : tf b = none) : xRmP P l G yJ20_getNode (Cond.code yJ20_getNode cJ20_getNode 8 (some (.object "java/util/HashMap$Node"))) { frames := 3, locals := 74, cells := 0, slots := 0 } [.ref M, .ref kk] [(M, .inr (25, [.ref tb, va_rf es, .int (nI sz), .int mc, .int (nI th), .float 1061158912, .null, .null, va_rf hd, va_rf tl, .int 0, .int 0])), (tb, .inl (8, cap, .inr (.inr (.inr (.inr tf))))), (kk, .inr (14, [.int c9, .int d9]))] (some (.null)) := by
  intro V hP hV
  refine xMet_ofT RJ20 hG rfl (by decide) (Nat.le_of_ble_eq_true rfl) fun C hC hQ hX hl hg _ hTab => ?_
  subst hl hg
  refine rn.mono (J := xRq [(M, .inr (25, [.ref tb, va_rf es, .int (nI sz), .int mc, .int (nI th), .float 1061158912, .null, .null, va_rf hd, va_rf tl, .int 0, .int 0])), (tb, .inl (8, cap, .inr (.inr (.inr (.inr tf))))), (kk, .inr (14, [.int c9, .int d9]))] P V) (fun V9 h => ⟨h, hV, hP⟩) ?_
  show rn C (xRq [(M, .inr (25, [.ref tb, va_rf es, .int (nI sz), .int mc, .int (nI th), .float 1061158912, .null, .null, va_rf hd, va_rf tl, .int 0, .int 0])), (tb, .inl (8, cap, .inr (.inr (.inr (.inr tf))))), (kk, .inr (14, [.int c9, .int d9]))] P V) 0 0 0 [(0, .ref M), (1, .ref kk)] []
  refine r_aload_n hC 0 dJ20_getNode_0 rfl 1 rfl ?_
  refine r_get (v := .ref tb) hC kJ21 0 rfl q1770 (fun _ h => h.get 0 rfl) rfl dJ20_getNode_1 4 rfl ?_
  refine r_dup hC dJ20_getNode_4 rfl 5 rfl ?_
  refine r_astore_n hC 2 [(2, .ref tb), (0, .ref M), (1, .ref kk)] dJ20_getNode_5 rfl (Nat.le_of_ble_eq_true rfl) rfl 6 rfl ?_
  refine r_ifnull hC dJ20_getNode_6 9 rfl ?_
  refine r_aload_n hC 0 dJ20_getNode_9 rfl 10 rfl ?_
  refine r_alen hC (nI cap) (t := 8) rfl (fun _ h => h.get 1 rfl) rfl dJ20_getNode_10 11 rfl ?_
  refine r_dup hC dJ20_getNode_11 rfl 12 rfl ?_
  refine r_istore hC 5 [(5, .int (nI cap)), (2, .ref tb), (0, .ref M), (1, .ref kk)] dJ20_getNode_12 (Nat.le_of_ble_eq_true rfl) rfl 14 rfl ?_
  refine r_ifle hC 148 dJ20_getNode_14 (by decide) 17 rfl (fun h => absurd h (ic_pos (by have := hcap.le; omega) (by have := hcap.le; omega))) (fun _ => ?_)
  refine r_aload_n hC 1 dJ20_getNode_17 rfl 18 rfl ?_
  refine r_iload hC 0 dJ20_getNode_18 rfl 20 rfl ?_
  refine r_iconst hC 1 dJ20_getNode_20 ic_1 21 rfl ?_
  refine r_isub hC (nI (cap - 1)) dJ20_getNode_21  (pk_sub (a := cap) (b := 1) (by have := hcap.le; omega)) 22 rfl ?_
  refine r_aload_n hC 3 dJ20_getNode_22 rfl 23 rfl ?_
  refine xCall.r (r := some (.int (hsh c9 d9))) (r_cS hC [.ref kk] mSJ20_hash q1839 (fun V9 h9 => (metJ20_hash _ _ hG kk c9 d9) V9 (h9.in.sub [2] rfl rfl)) ⟨rfl, rfl⟩ (Nat.le_of_ble_eq_true rfl) (Nat.le_of_ble_eq_true rfl) rfl (Nat.le_of_ble_eq_true rfl) dJ20_getNode_23) 0 0 26 rfl rfl rfl ?_
  refine r_dup hC dJ20_getNode_26 rfl 27 rfl ?_
  refine r_istore hC 6 [(6, .int (hsh c9 d9)), (5, .int (nI cap)), (2, .ref tb), (0, .ref M), (1, .ref kk)] dJ20_getNode_27 (Nat.le_of_ble_eq_true rfl) rfl 29 rfl ?_
  refine r_iand hC (nI b) dJ20_getNode_29  (by rw [ix_and hcap, hb]) 30 rfl ?_
  refine r_aald hC b (xix_n b (by rw [← hb]; exact ixN_lt hcap) (by have := hcap.le; omega)) (t := 8) rfl rfl (fun _ h => h.get 1 rfl) none (hf) dJ20_getNode_30 31 rfl ?_
  show rn C (xRq [(M, .inr (25, [.ref tb, va_rf es, .int (nI sz), .int mc, .int (nI th), .float 1061158912, .null, .null, va_rf hd, va_rf tl, .int 0, .int 0])), (tb, .inl (8, cap, .inr (.inr (.inr (.inr tf))))), (kk, .inr (14, [.int c9, .int d9]))] P V) 0 0 31 [(6, .int (hsh c9 d9)), (5, .int (nI cap)), (2, .ref tb), (0, .ref M), (1, .ref kk)] [.null]
  refine r_dup hC dJ20_getNode_31 rfl 32 rfl ?_
  refine r_astore_nN hC 3 [(3, .null), (6, .int (hsh c9 d9)), (5, .int (nI cap)), (2, .ref tb), (0, .ref M), (1, .ref kk)] dJ20_getNode_32 rfl (Nat.le_of_ble_eq_true rfl) rfl 33 rfl ?_
  refine r_ifnullN hC 148 dJ20_getNode_33 (by decide) ?_
  refine r_null hC dJ20_getNode_148 149 rfl ?_
  exact r_aret hC (v := none) (Or.inl ⟨_, rfl⟩) (Nat.le_of_ble_eq_true rfl) (Nat.le_of_ble_eq_true rfl) (fun V9 h => hQ _ _ ⟨rfl, h.1⟩) dJ20_getNode_149
set_option maxHeartbeats 4000000 in
set_option maxRecDepth 100000 in
theorem metJ20_getNodeN1 (l : Launch) (G : xG) (hG : xGood G) (P : xV → Prop) (L : List Nat) (kd : Nat → Bool) (hs : Nat → Int32) (ky vl : Nat → Nat) (nx bf af pa lf rt pv : Nat → Option Nat) (rd : Nat → Int32) (hPn : ∀ V, P V → ∀ a, a ∈ L → V.2 a = some (ndX kd hs ky vl nx bf af pa lf rt pv rd a)) (M : Nat) (tbo es : Option Nat) (sz th : Nat) (mc : Int32) (hd tl : Option Nat) (tb cap : Nat) (tf : Nat → Option Nat) (hcap : capI cap) (kk b : Nat) (c9 d9 : Int32) (hb : ixN (hsh c9 d9) cap = b) (f : Nat) (hf : tf b = some f) (hfL : f ∈ L) (hfne : hs f ≠ hsh c9 d9) (hnf : nx f = none) : xRmP P l G yJ20_getNode (Cond.code yJ20_getNode cJ20_getNode 8 (some (.object "java/util/HashMap$Node"))) { frames := 3, locals := 74, cells := 0, slots := 0 } [.ref M, .ref kk] [(M, .inr (25, [.ref tb, va_rf es, .int (nI sz), .int mc, .int (nI th), .float 1061158912, .null, .null, va_rf hd, va_rf tl, .int 0, .int 0])), (tb, .inl (8, cap, .inr (.inr (.inr (.inr tf))))), (kk, .inr (14, [.int c9, .int d9]))] (some (.null)) := by
  intro V hP hV
  refine xMet_ofT RJ20 hG rfl (by decide) (Nat.le_of_ble_eq_true rfl) fun C hC hQ hX hl hg _ hTab => ?_
  subst hl hg
  refine rn.mono (J := xRq [(M, .inr (25, [.ref tb, va_rf es, .int (nI sz), .int mc, .int (nI th), .float 1061158912, .null, .null, va_rf hd, va_rf tl, .int 0, .int 0])), (tb, .inl (8, cap, .inr (.inr (.inr (.inr tf))))), (kk, .inr (14, [.int c9, .int d9]))] P V) (fun V9 h => ⟨h, hV, hP⟩) ?_
  show rn C (xRq [(M, .inr (25, [.ref tb, va_rf es, .int (nI sz), .int mc, .int (nI th), .float 1061158912, .null, .null, va_rf hd, va_rf tl, .int 0, .int 0])), (tb, .inl (8, cap, .inr (.inr (.inr (.inr tf))))), (kk, .inr (14, [.int c9, .int d9]))] P V) 0 0 0 [(0, .ref M), (1, .ref kk)] []
  refine r_aload_n hC 0 dJ20_getNode_0 rfl 1 rfl ?_
  refine r_get (v := .ref tb) hC kJ21 0 rfl q1770 (fun _ h => h.get 0 rfl) rfl dJ20_getNode_1 4 rfl ?_
  refine r_dup hC dJ20_getNode_4 rfl 5 rfl ?_
  refine r_astore_n hC 2 [(2, .ref tb), (0, .ref M), (1, .ref kk)] dJ20_getNode_5 rfl (Nat.le_of_ble_eq_true rfl) rfl 6 rfl ?_
  refine r_ifnull hC dJ20_getNode_6 9 rfl ?_
  refine r_aload_n hC 0 dJ20_getNode_9 rfl 10 rfl ?_
  refine r_alen hC (nI cap) (t := 8) rfl (fun _ h => h.get 1 rfl) rfl dJ20_getNode_10 11 rfl ?_
  refine r_dup hC dJ20_getNode_11 rfl 12 rfl ?_
  refine r_istore hC 5 [(5, .int (nI cap)), (2, .ref tb), (0, .ref M), (1, .ref kk)] dJ20_getNode_12 (Nat.le_of_ble_eq_true rfl) rfl 14 rfl ?_
  refine r_ifle hC 148 dJ20_getNode_14 (by decide) 17 rfl (fun h => absurd h (ic_pos (by have := hcap.le; omega) (by have := hcap.le; omega))) (fun _ => ?_)
  refine r_aload_n hC 1 dJ20_getNode_17 rfl 18 rfl ?_
  refine r_iload hC 0 dJ20_getNode_18 rfl 20 rfl ?_
  refine r_iconst hC 1 dJ20_getNode_20 ic_1 21 rfl ?_
  refine r_isub hC (nI (cap - 1)) dJ20_getNode_21  (pk_sub (a := cap) (b := 1) (by have := hcap.le; omega)) 22 rfl ?_
  refine r_aload_n hC 3 dJ20_getNode_22 rfl 23 rfl ?_
  refine xCall.r (r := some (.int (hsh c9 d9))) (r_cS hC [.ref kk] mSJ20_hash q1839 (fun V9 h9 => (metJ20_hash _ _ hG kk c9 d9) V9 (h9.in.sub [2] rfl rfl)) ⟨rfl, rfl⟩ (Nat.le_of_ble_eq_true rfl) (Nat.le_of_ble_eq_true rfl) rfl (Nat.le_of_ble_eq_true rfl) dJ20_getNode_23) 0 0 26 rfl rfl rfl ?_
  refine r_dup hC dJ20_getNode_26 rfl 27 rfl ?_
  refine r_istore hC 6 [(6, .int (hsh c9 d9)), (5, .int (nI cap)), (2, .ref tb), (0, .ref M), (1, .ref kk)] dJ20_getNode_27 (Nat.le_of_ble_eq_true rfl) rfl 29 rfl ?_
  refine r_iand hC (nI b) dJ20_getNode_29  (by rw [ix_and hcap, hb]) 30 rfl ?_
  refine r_aald hC b (xix_n b (by rw [← hb]; exact ixN_lt hcap) (by have := hcap.le; omega)) (t := 8) rfl rfl (fun _ h => h.get 1 rfl) (some f) (hf) dJ20_getNode_30 31 rfl ?_
  show rn C (xRq [(M, .inr (25, [.ref tb, va_rf es, .int (nI sz), .int mc, .int (nI th), .float 1061158912, .null, .null, va_rf hd, va_rf tl, .int 0, .int 0])), (tb, .inl (8, cap, .inr (.inr (.inr (.inr tf))))), (kk, .inr (14, [.int c9, .int d9]))] P V) 0 0 31 [(6, .int (hsh c9 d9)), (5, .int (nI cap)), (2, .ref tb), (0, .ref M), (1, .ref kk)] [.ref f]
  refine r_dup hC dJ20_getNode_31 rfl 32 rfl ?_
  refine r_astore_n hC 3 [(3, .ref f), (6, .int (hsh c9 d9)), (5, .int (nI cap)), (2, .ref tb), (0, .ref M), (1, .ref kk)] dJ20_getNode_32 rfl (Nat.le_of_ble_eq_true rfl) rfl 33 rfl ?_
  refine r_ifnull hC dJ20_getNode_33 36 rfl ?_
  refine r_aload_n hC 0 dJ20_getNode_36 rfl 37 rfl ?_
  refine r_getX (v := .int (hs f)) hC 0 rfl rfl q2234 q2234 (Or.inl rfl) (Or.inl rfl) (fun _ h => h.at (fun _ p9 => hPn _ p9 f hfL)) rfl rfl dJ20_getNode_37 40 rfl ?_
  refine r_iload hC 1 dJ20_getNode_40 rfl 42 rfl ?_
  refine r_icne hC 71 dJ20_getNode_42 (by decide) 45 rfl (fun _ => ?_) (fun h => absurd h (hfne))
  refine r_aload_n hC 0 dJ20_getNode_71 rfl 72 rfl ?_
  refine r_getX (v := .null) hC 3 rfl rfl q2250 q2250 (Or.inl rfl) (Or.inl rfl) (fun _ h => h.at (fun _ p9 => hPn _ p9 f hfL)) (congrArg (fun o9 => some (va_rf o9)) (hnf)) (congrArg (fun o9 => some (va_rf o9)) (hnf)) dJ20_getNode_72 75 rfl ?_
  refine r_dup hC dJ20_getNode_75 rfl 76 rfl ?_
  refine r_astoreN hC 4 [(4, .null), (3, .ref f), (6, .int (hsh c9 d9)), (5, .int (nI cap)), (2, .ref tb), (0, .ref M), (1, .ref kk)] dJ20_getNode_76 (Nat.le_of_ble_eq_true rfl) rfl 78 rfl ?_
  refine r_ifnullN hC 148 dJ20_getNode_78 (by decide) ?_
  refine r_null hC dJ20_getNode_148 149 rfl ?_
  exact r_aret hC (v := none) (Or.inl ⟨_, rfl⟩) (Nat.le_of_ble_eq_true rfl) (Nat.le_of_ble_eq_true rfl) (fun V9 h => hQ _ _ ⟨rfl, h.1⟩) dJ20_getNode_149
set_option maxHeartbeats 4000000 in
set_option maxRecDepth 100000 in
theorem metJ20_getNodeNT (l : Launch) (G : xG) (hG : xGood G) (P : xV → Prop) (L : List Nat) (kd : Nat → Bool) (hs : Nat → Int32) (ky vl : Nat → Nat) (nx bf af pa lf rt pv : Nat → Option Nat) (rd : Nat → Int32) (hPn : ∀ V, P V → ∀ a, a ∈ L → V.2 a = some (ndX kd hs ky vl nx bf af pa lf rt pv rd a)) (M : Nat) (tbo es : Option Nat) (sz th : Nat) (mc : Int32) (hd tl : Option Nat) (tb cap : Nat) (tf : Nat → Option Nat) (hcap : capI cap) (kk b : Nat) (c9 d9 : Int32) (hb : ixN (hsh c9 d9) cap = b) (f : Nat) (hf : tf b = some f) (hfL : f ∈ L) (hfne : hs f ≠ hsh c9 d9) (hfk : kd f = true) (e : Nat) (hnf : nx f = some e)  (T : Nat → Prop) (hTL : ∀ a, T a → a ∈ L) (hTk : ∀ a, T a → kd a = true) (ht : tI (fun a => (hs a).toInt) T pa lf rt f) (hne : ∀ a, a ∈ L → T a → hs a ≠ hsh c9 d9) : xRmP P l G yJ20_getNode (Cond.code yJ20_getNode cJ20_getNode 8 (some (.object "java/util/HashMap$Node"))) { frames := 3, locals := 74, cells := 0, slots := 0 } [.ref M, .ref kk] [(M, .inr (25, [.ref tb, va_rf es, .int (nI sz), .int mc, .int (nI th), .float 1061158912, .null, .null, va_rf hd, va_rf tl, .int 0, .int 0])), (tb, .inl (8, cap, .inr (.inr (.inr (.inr tf))))), (kk, .inr (14, [.int c9, .int d9]))] (some (.null)) := by
  intro V hP hV
  refine xMet_ofT RJ20 hG rfl (by decide) (Nat.le_of_ble_eq_true rfl) fun C hC hQ hX hl hg _ hTab => ?_
  subst hl hg
  refine rn.mono (J := xRq [(M, .inr (25, [.ref tb, va_rf es, .int (nI sz), .int mc, .int (nI th), .float 1061158912, .null, .null, va_rf hd, va_rf tl, .int 0, .int 0])), (tb, .inl (8, cap, .inr (.inr (.inr (.inr tf))))), (kk, .inr (14, [.int c9, .int d9]))] P V) (fun V9 h => ⟨h, hV, hP⟩) ?_
  show rn C (xRq [(M, .inr (25, [.ref tb, va_rf es, .int (nI sz), .int mc, .int (nI th), .float 1061158912, .null, .null, va_rf hd, va_rf tl, .int 0, .int 0])), (tb, .inl (8, cap, .inr (.inr (.inr (.inr tf))))), (kk, .inr (14, [.int c9, .int d9]))] P V) 0 0 0 [(0, .ref M), (1, .ref kk)] []
  refine r_aload_n hC 0 dJ20_getNode_0 rfl 1 rfl ?_
  refine r_get (v := .ref tb) hC kJ21 0 rfl q1770 (fun _ h => h.get 0 rfl) rfl dJ20_getNode_1 4 rfl ?_
  refine r_dup hC dJ20_getNode_4 rfl 5 rfl ?_
  refine r_astore_n hC 2 [(2, .ref tb), (0, .ref M), (1, .ref kk)] dJ20_getNode_5 rfl (Nat.le_of_ble_eq_true rfl) rfl 6 rfl ?_
  refine r_ifnull hC dJ20_getNode_6 9 rfl ?_
  refine r_aload_n hC 0 dJ20_getNode_9 rfl 10 rfl ?_
  refine r_alen hC (nI cap) (t := 8) rfl (fun _ h => h.get 1 rfl) rfl dJ20_getNode_10 11 rfl ?_
  refine r_dup hC dJ20_getNode_11 rfl 12 rfl ?_
  refine r_istore hC 5 [(5, .int (nI cap)), (2, .ref tb), (0, .ref M), (1, .ref kk)] dJ20_getNode_12 (Nat.le_of_ble_eq_true rfl) rfl 14 rfl ?_
  refine r_ifle hC 148 dJ20_getNode_14 (by decide) 17 rfl (fun h => absurd h (ic_pos (by have := hcap.le; omega) (by have := hcap.le; omega))) (fun _ => ?_)
  refine r_aload_n hC 1 dJ20_getNode_17 rfl 18 rfl ?_
  refine r_iload hC 0 dJ20_getNode_18 rfl 20 rfl ?_
  refine r_iconst hC 1 dJ20_getNode_20 ic_1 21 rfl ?_
  refine r_isub hC (nI (cap - 1)) dJ20_getNode_21  (pk_sub (a := cap) (b := 1) (by have := hcap.le; omega)) 22 rfl ?_
  refine r_aload_n hC 3 dJ20_getNode_22 rfl 23 rfl ?_
  refine xCall.r (r := some (.int (hsh c9 d9))) (r_cS hC [.ref kk] mSJ20_hash q1839 (fun V9 h9 => (metJ20_hash _ _ hG kk c9 d9) V9 (h9.in.sub [2] rfl rfl)) ⟨rfl, rfl⟩ (Nat.le_of_ble_eq_true rfl) (Nat.le_of_ble_eq_true rfl) rfl (Nat.le_of_ble_eq_true rfl) dJ20_getNode_23) 0 0 26 rfl rfl rfl ?_
  refine r_dup hC dJ20_getNode_26 rfl 27 rfl ?_
  refine r_istore hC 6 [(6, .int (hsh c9 d9)), (5, .int (nI cap)), (2, .ref tb), (0, .ref M), (1, .ref kk)] dJ20_getNode_27 (Nat.le_of_ble_eq_true rfl) rfl 29 rfl ?_
  refine r_iand hC (nI b) dJ20_getNode_29  (by rw [ix_and hcap, hb]) 30 rfl ?_
  refine r_aald hC b (xix_n b (by rw [← hb]; exact ixN_lt hcap) (by have := hcap.le; omega)) (t := 8) rfl rfl (fun _ h => h.get 1 rfl) (some f) (hf) dJ20_getNode_30 31 rfl ?_
  show rn C (xRq [(M, .inr (25, [.ref tb, va_rf es, .int (nI sz), .int mc, .int (nI th), .float 1061158912, .null, .null, va_rf hd, va_rf tl, .int 0, .int 0])), (tb, .inl (8, cap, .inr (.inr (.inr (.inr tf))))), (kk, .inr (14, [.int c9, .int d9]))] P V) 0 0 31 [(6, .int (hsh c9 d9)), (5, .int (nI cap)), (2, .ref tb), (0, .ref M), (1, .ref kk)] [.ref f]
  refine r_dup hC dJ20_getNode_31 rfl 32 rfl ?_
  refine r_astore_n hC 3 [(3, .ref f), (6, .int (hsh c9 d9)), (5, .int (nI cap)), (2, .ref tb), (0, .ref M), (1, .ref kk)] dJ20_getNode_32 rfl (Nat.le_of_ble_eq_true rfl) rfl 33 rfl ?_
  refine r_ifnull hC dJ20_getNode_33 36 rfl ?_
  refine r_aload_n hC 0 dJ20_getNode_36 rfl 37 rfl ?_
  refine r_getI (v := .int (hs f)) hC kJ26 0 rfl q2234 (Or.inl rfl) (fun _ h => (h.at (fun _ p9 => hPn _ p9 f hfL)).trans (congrArg some (ndX_t hfk))) rfl dJ20_getNode_37 40 rfl ?_
  refine r_iload hC 1 dJ20_getNode_40 rfl 42 rfl ?_
  refine r_icne hC 71 dJ20_getNode_42 (by decide) 45 rfl (fun _ => ?_) (fun h => absurd h (hfne))
  refine r_aload_n hC 0 dJ20_getNode_71 rfl 72 rfl ?_
  refine r_getI (v := .ref e) hC kJ26 3 rfl q2250 (Or.inl rfl) (fun _ h => (h.at (fun _ p9 => hPn _ p9 f hfL)).trans (congrArg some (ndX_t hfk))) (congrArg (fun o9 => some (va_rf o9)) (hnf)) dJ20_getNode_72 75 rfl ?_
  refine r_dup hC dJ20_getNode_75 rfl 76 rfl ?_
  refine r_astore hC 4 [(4, .ref e), (3, .ref f), (6, .int (hsh c9 d9)), (5, .int (nI cap)), (2, .ref tb), (0, .ref M), (1, .ref kk)] dJ20_getNode_76 (Nat.le_of_ble_eq_true rfl) rfl 78 rfl ?_
  refine r_ifnull hC dJ20_getNode_78 81 rfl ?_
  refine r_aload_n hC 1 dJ20_getNode_81 rfl 82 rfl ?_
  refine r_instS hC kJ26 q1960 (fun _ h => ⟨_, (h.at (fun _ p9 => hPn _ p9 f hfL)).trans (congrArg some (ndX_t hfk))⟩) dJ20_getNode_82 85 rfl ?_
  refine r_ifeq hC 99 dJ20_getNode_85 (by decide) 88 rfl (fun h => absurd h (by decide)) (fun _ => ?_)
  refine r_aload_n hC 1 dJ20_getNode_88 rfl 89 rfl ?_
  refine r_castS hC kJ26 q1960 (fun _ h => ⟨_, (h.at (fun _ p9 => hPn _ p9 f hfL)).trans (congrArg some (ndX_t hfk))⟩) dJ20_getNode_89 92 rfl ?_
  refine r_iload hC 2 dJ20_getNode_92 rfl 94 rfl ?_
  refine r_aload_n hC 6 dJ20_getNode_94 rfl 95 rfl ?_
  refine xCall.r (r := some (.null)) (r_cV hC kJ26 f [.int (hsh c9 d9), .ref kk] mVJ26_getTreeNode q1961 (fun _ h => ⟨_, (h.at (fun _ p9 => hPn _ p9 f hfL)).trans (congrArg some (ndX_t hfk))⟩) (fun V9 h9 => (metJ26_getTreeNodeN _ _ hG P L kd hs ky vl nx bf af pa lf rt pv rd hPn T hTL hTk f ht kk (hsh c9 d9) c9 d9 hne) V9 h9.p (h9.in.sub [2] rfl rfl)) ⟨rfl, rfl⟩ (Nat.le_of_ble_eq_true rfl) (Nat.le_of_ble_eq_true rfl) rfl (Nat.le_of_ble_eq_true rfl) dJ20_getNode_95) 0 0 98 rfl rfl rfl ?_
  exact r_aret hC (v := none) (Or.inl ⟨_, rfl⟩) (Nat.le_of_ble_eq_true rfl) (Nat.le_of_ble_eq_true rfl) (fun V9 h => hQ _ _ ⟨rfl, h.1⟩) dJ20_getNode_98
set_option maxHeartbeats 4000000 in
set_option maxRecDepth 100000 in
theorem metJ20_getNodeNL (l : Launch) (G : xG) (hG : xGood G) (P : xV → Prop) (L : List Nat) (kd : Nat → Bool) (hs : Nat → Int32) (ky vl : Nat → Nat) (nx bf af pa lf rt pv : Nat → Option Nat) (rd : Nat → Int32) (hPn : ∀ V, P V → ∀ a, a ∈ L → V.2 a = some (ndX kd hs ky vl nx bf af pa lf rt pv rd a)) (M : Nat) (tbo es : Option Nat) (sz th : Nat) (mc : Int32) (hd tl : Option Nat) (tb cap : Nat) (tf : Nat → Option Nat) (hcap : capI cap) (kk b : Nat) (c9 d9 : Int32) (hb : ixN (hsh c9 d9) cap = b) (f : Nat) (hf : tf b = some f) (hfL : f ∈ L) (hfne : hs f ≠ hsh c9 d9) (hfk : kd f = false) (e : Nat) (hnf : nx f = some e) (t : List Nat) (hseg : seg nx (some e) (e :: t) none) (hBL : ∀ a, a ∈ e :: t → a ∈ L) (hBk : ∀ a, a ∈ e :: t → kd a = false) (hne : ∀ a, a ∈ e :: t → hs a ≠ hsh c9 d9) : xRmP P l G yJ20_getNode (Cond.code yJ20_getNode cJ20_getNode 8 (some (.object "java/util/HashMap$Node"))) { frames := 3, locals := 74, cells := 0, slots := 0 } [.ref M, .ref kk] [(M, .inr (25, [.ref tb, va_rf es, .int (nI sz), .int mc, .int (nI th), .float 1061158912, .null, .null, va_rf hd, va_rf tl, .int 0, .int 0])), (tb, .inl (8, cap, .inr (.inr (.inr (.inr tf))))), (kk, .inr (14, [.int c9, .int d9]))] (some (.null)) := by
  intro V hP hV
  refine xMet_ofT RJ20 hG rfl (by decide) (Nat.le_of_ble_eq_true rfl) fun C hC hQ hX hl hg _ hTab => ?_
  subst hl hg
  refine rn.mono (J := xRq [(M, .inr (25, [.ref tb, va_rf es, .int (nI sz), .int mc, .int (nI th), .float 1061158912, .null, .null, va_rf hd, va_rf tl, .int 0, .int 0])), (tb, .inl (8, cap, .inr (.inr (.inr (.inr tf))))), (kk, .inr (14, [.int c9, .int d9]))] P V) (fun V9 h => ⟨h, hV, hP⟩) ?_
  show rn C (xRq [(M, .inr (25, [.ref tb, va_rf es, .int (nI sz), .int mc, .int (nI th), .float 1061158912, .null, .null, va_rf hd, va_rf tl, .int 0, .int 0])), (tb, .inl (8, cap, .inr (.inr (.inr (.inr tf))))), (kk, .inr (14, [.int c9, .int d9]))] P V) 0 0 0 [(0, .ref M), (1, .ref kk)] []
  refine r_aload_n hC 0 dJ20_getNode_0 rfl 1 rfl ?_
  refine r_get (v := .ref tb) hC kJ21 0 rfl q1770 (fun _ h => h.get 0 rfl) rfl dJ20_getNode_1 4 rfl ?_
  refine r_dup hC dJ20_getNode_4 rfl 5 rfl ?_
  refine r_astore_n hC 2 [(2, .ref tb), (0, .ref M), (1, .ref kk)] dJ20_getNode_5 rfl (Nat.le_of_ble_eq_true rfl) rfl 6 rfl ?_
  refine r_ifnull hC dJ20_getNode_6 9 rfl ?_
  refine r_aload_n hC 0 dJ20_getNode_9 rfl 10 rfl ?_
  refine r_alen hC (nI cap) (t := 8) rfl (fun _ h => h.get 1 rfl) rfl dJ20_getNode_10 11 rfl ?_
  refine r_dup hC dJ20_getNode_11 rfl 12 rfl ?_
  refine r_istore hC 5 [(5, .int (nI cap)), (2, .ref tb), (0, .ref M), (1, .ref kk)] dJ20_getNode_12 (Nat.le_of_ble_eq_true rfl) rfl 14 rfl ?_
  refine r_ifle hC 148 dJ20_getNode_14 (by decide) 17 rfl (fun h => absurd h (ic_pos (by have := hcap.le; omega) (by have := hcap.le; omega))) (fun _ => ?_)
  refine r_aload_n hC 1 dJ20_getNode_17 rfl 18 rfl ?_
  refine r_iload hC 0 dJ20_getNode_18 rfl 20 rfl ?_
  refine r_iconst hC 1 dJ20_getNode_20 ic_1 21 rfl ?_
  refine r_isub hC (nI (cap - 1)) dJ20_getNode_21  (pk_sub (a := cap) (b := 1) (by have := hcap.le; omega)) 22 rfl ?_
  refine r_aload_n hC 3 dJ20_getNode_22 rfl 23 rfl ?_
  refine xCall.r (r := some (.int (hsh c9 d9))) (r_cS hC [.ref kk] mSJ20_hash q1839 (fun V9 h9 => (metJ20_hash _ _ hG kk c9 d9) V9 (h9.in.sub [2] rfl rfl)) ⟨rfl, rfl⟩ (Nat.le_of_ble_eq_true rfl) (Nat.le_of_ble_eq_true rfl) rfl (Nat.le_of_ble_eq_true rfl) dJ20_getNode_23) 0 0 26 rfl rfl rfl ?_
  refine r_dup hC dJ20_getNode_26 rfl 27 rfl ?_
  refine r_istore hC 6 [(6, .int (hsh c9 d9)), (5, .int (nI cap)), (2, .ref tb), (0, .ref M), (1, .ref kk)] dJ20_getNode_27 (Nat.le_of_ble_eq_true rfl) rfl 29 rfl ?_
  refine r_iand hC (nI b) dJ20_getNode_29  (by rw [ix_and hcap, hb]) 30 rfl ?_
  refine r_aald hC b (xix_n b (by rw [← hb]; exact ixN_lt hcap) (by have := hcap.le; omega)) (t := 8) rfl rfl (fun _ h => h.get 1 rfl) (some f) (hf) dJ20_getNode_30 31 rfl ?_
  show rn C (xRq [(M, .inr (25, [.ref tb, va_rf es, .int (nI sz), .int mc, .int (nI th), .float 1061158912, .null, .null, va_rf hd, va_rf tl, .int 0, .int 0])), (tb, .inl (8, cap, .inr (.inr (.inr (.inr tf))))), (kk, .inr (14, [.int c9, .int d9]))] P V) 0 0 31 [(6, .int (hsh c9 d9)), (5, .int (nI cap)), (2, .ref tb), (0, .ref M), (1, .ref kk)] [.ref f]
  refine r_dup hC dJ20_getNode_31 rfl 32 rfl ?_
  refine r_astore_n hC 3 [(3, .ref f), (6, .int (hsh c9 d9)), (5, .int (nI cap)), (2, .ref tb), (0, .ref M), (1, .ref kk)] dJ20_getNode_32 rfl (Nat.le_of_ble_eq_true rfl) rfl 33 rfl ?_
  refine r_ifnull hC dJ20_getNode_33 36 rfl ?_
  refine r_aload_n hC 0 dJ20_getNode_36 rfl 37 rfl ?_
  refine r_getI (v := .int (hs f)) hC kJ25 0 rfl q2234 (Or.inl rfl) (fun _ h => (h.at (fun _ p9 => hPn _ p9 f hfL)).trans (congrArg some (ndX_p hfk))) rfl dJ20_getNode_37 40 rfl ?_
  refine r_iload hC 1 dJ20_getNode_40 rfl 42 rfl ?_
  refine r_icne hC 71 dJ20_getNode_42 (by decide) 45 rfl (fun _ => ?_) (fun h => absurd h (hfne))
  refine r_aload_n hC 0 dJ20_getNode_71 rfl 72 rfl ?_
  refine r_getI (v := .ref e) hC kJ25 3 rfl q2250 (Or.inl rfl) (fun _ h => (h.at (fun _ p9 => hPn _ p9 f hfL)).trans (congrArg some (ndX_p hfk))) (congrArg (fun o9 => some (va_rf o9)) (hnf)) dJ20_getNode_72 75 rfl ?_
  refine r_dup hC dJ20_getNode_75 rfl 76 rfl ?_
  refine r_astore hC 4 [(4, .ref e), (3, .ref f), (6, .int (hsh c9 d9)), (5, .int (nI cap)), (2, .ref tb), (0, .ref M), (1, .ref kk)] dJ20_getNode_76 (Nat.le_of_ble_eq_true rfl) rfl 78 rfl ?_
  refine r_ifnull hC dJ20_getNode_78 81 rfl ?_
  refine r_aload_n hC 1 dJ20_getNode_81 rfl 82 rfl ?_
  refine r_instNo hC kJ25 q1960 (nt_25 hG) (fun _ h => ⟨_, (h.at (fun _ p9 => hPn _ p9 f hfL)).trans (congrArg some (ndX_p hfk))⟩) dJ20_getNode_82 85 rfl ?_
  refine r_ifeq hC 99 dJ20_getNode_85 (by decide) 88 rfl (fun _ => ?_) (fun h => absurd h (by decide))
  refine rn.sub (lv' := [(4, .ref e), (6, .int (hsh c9 d9)), (1, .ref kk)]) [0, 2, 6] rfl ?_
  refine rn.mono (J := xRq [(kk, .inr (14, [.int c9, .int d9]))] P V) (fun _ h => h.sub [2] rfl rfl) ?_
  refine lpJ20_gnN hG hC 0 0 (by decide) (by decide) P L kd hs ky vl nx bf af pa lf rt pv rd hPn V kk c9 d9 ?_ t e hseg hBL hBk hne
  show rn C (xRq [(kk, .inr (14, [.int c9, .int d9]))] P V) 0 0 149 [] [.null]
  exact r_aret hC (v := none) (Or.inl ⟨_, rfl⟩) (Nat.le_of_ble_eq_true rfl) (Nat.le_of_ble_eq_true rfl) (fun V9 h => hQ _ _ ⟨rfl, h.1⟩) dJ20_getNode_149
set_option maxHeartbeats 4000000 in
set_option maxRecDepth 100000 in
theorem metJ20_getNodeOK (l : Launch) (G : xG) (hG : xGood G) (P : xV → Prop) (L : List Nat) (kd : Nat → Bool) (hs : Nat → Int32) (ky vl : Nat → Nat) (nx bf af pa lf rt pv : Nat → Option Nat) (rd : Nat → Int32) (hPn : ∀ V, P V → ∀ a, a ∈ L → V.2 a = some (ndX kd hs ky vl nx bf af pa lf rt pv rd a)) (M : Nat) (tbo es : Option Nat) (sz th : Nat) (mc : Int32) (hd tl : Option Nat) (tb cap : Nat) (tf : Nat → Option Nat) (hcap : capI cap) (kk : Nat) (c9 d9 : Int32) (bins : Nat → List Nat) (ord : List Nat) (hbi : binsI kd hs nx pa lf rt pv tf cap bins ord) (hoL : ∀ a, a ∈ ord → a ∈ L) (hinj : ∀ a a9, a ∈ ord → a9 ∈ ord → hs a = hs a9 → a = a9) (i : Nat) (hio : i ∈ ord) (hkn : kk ≠ ky i) (hhi : hs i = hsh c9 d9) : xRmP P l G yJ20_getNode (Cond.code yJ20_getNode cJ20_getNode 8 (some (.object "java/util/HashMap$Node"))) { frames := 3, locals := 74, cells := 0, slots := 0 } [.ref M, .ref kk] [(M, .inr (25, [.ref tb, va_rf es, .int (nI sz), .int mc, .int (nI th), .float 1061158912, .null, .null, va_rf hd, va_rf tl, .int 0, .int 0])), (tb, .inl (8, cap, .inr (.inr (.inr (.inr tf))))), (kk, .inr (14, [.int c9, .int d9])), ((ky i), .inr (14, [.int c9, .int d9]))] (some (.ref i)) := by
  obtain ⟨b, hb⟩ : ∃ b, ixN (hsh c9 d9) cap = b := ⟨_, rfl⟩
  have hbl : b < cap := by rw [← hb]; exact ixN_lt hcap
  obtain ⟨h1, h2, h3⟩ := hbi.1 b hbl
  have him : i ∈ bins b := (hbi.2 b hbl i).mpr ⟨hio, by rw [hhi]; exact hb⟩
  have hBo : ∀ a, a ∈ bins b → a ∈ ord := fun a ha => ((hbi.2 b hbl a).mp ha).1
  cases hB : bins b with
  | nil => rw [hB] at him; exact absurd him List.not_mem_nil
  | cons f t =>
    rw [hB] at h1 h2 h3 him hBo
    have hf : tf b = some f := h1.1
    have hfo := hBo f List.mem_cons_self
    by_cases hfi : i = f
    · rw [hfi]
      exact metJ20_getNodeG l G hG P L kd hs ky vl nx bf af pa lf rt pv rd hPn M tbo es sz th mc hd tl tb cap tf hcap kk b c9 d9 hb f hf (hoL f hfo) (by rw [← hfi]; exact hkn) (by rw [← hfi]; exact hhi)
    · have hfne : hs f ≠ hsh c9 d9 := fun q => hfi (hinj i f hio hfo (hhi.trans q.symm))
      have hit : i ∈ t := (List.mem_cons.mp him).resolve_left hfi
      cases t with
      | nil => exact absurd hit List.not_mem_nil
      | cons e t =>
        have hnf : nx f = some e := h1.2.1
        rcases h3 with h3 | ⟨h3, h4, h5, root, t9, hrt, h6⟩
        · exact metJ20_getNodeL l G hG P L kd hs ky vl nx bf af pa lf rt pv rd hPn M tbo es sz th mc hd tl tb cap tf hcap kk b c9 d9 hb f hf (hoL f hfo) hfne (h3 f List.mem_cons_self) e hnf t ⟨rfl, h1.2.2⟩ (fun a ha => hoL a (hBo a (List.mem_cons_of_mem _ ha))) (fun a ha => h3 a (List.mem_cons_of_mem _ ha)) i hkn hhi hit (fun a ha q => hinj a i (hBo a (List.mem_cons_of_mem _ ha)) hio q)
        · have hrf : f = root := (List.cons.inj hrt).1
          rw [← hrf] at h6
          exact metJ20_getNodeT l G hG P L kd hs ky vl nx bf af pa lf rt pv rd hPn M tbo es sz th mc hd tl tb cap tf hcap kk b c9 d9 hb f hf (hoL f hfo) hfne (h3 f List.mem_cons_self) e hnf (fun a => a ∈ f :: e :: t) (fun a ha => hoL a (hBo a ha)) (fun a ha => h3 a ha) h6 i hkn hhi him
set_option maxHeartbeats 4000000 in
set_option maxRecDepth 100000 in
theorem metJ20_getNodeNO (l : Launch) (G : xG) (hG : xGood G) (P : xV → Prop) (L : List Nat) (kd : Nat → Bool) (hs : Nat → Int32) (ky vl : Nat → Nat) (nx bf af pa lf rt pv : Nat → Option Nat) (rd : Nat → Int32) (hPn : ∀ V, P V → ∀ a, a ∈ L → V.2 a = some (ndX kd hs ky vl nx bf af pa lf rt pv rd a)) (M : Nat) (tbo es : Option Nat) (sz th : Nat) (mc : Int32) (hd tl : Option Nat) (tb cap : Nat) (tf : Nat → Option Nat) (hcap : capI cap) (kk : Nat) (c9 d9 : Int32) (bins : Nat → List Nat) (ord : List Nat) (hbi : binsI kd hs nx pa lf rt pv tf cap bins ord) (hoL : ∀ a, a ∈ ord → a ∈ L) (hinj : ∀ a a9, a ∈ ord → a9 ∈ ord → hs a = hs a9 → a = a9) (hne : ∀ a, a ∈ ord → hs a ≠ hsh c9 d9) : xRmP P l G yJ20_getNode (Cond.code yJ20_getNode cJ20_getNode 8 (some (.object "java/util/HashMap$Node"))) { frames := 3, locals := 74, cells := 0, slots := 0 } [.ref M, .ref kk] [(M, .inr (25, [.ref tb, va_rf es, .int (nI sz), .int mc, .int (nI th), .float 1061158912, .null, .null, va_rf hd, va_rf tl, .int 0, .int 0])), (tb, .inl (8, cap, .inr (.inr (.inr (.inr tf))))), (kk, .inr (14, [.int c9, .int d9]))] (some .null) := by
  obtain ⟨b, hb⟩ : ∃ b, ixN (hsh c9 d9) cap = b := ⟨_, rfl⟩
  have hbl : b < cap := by rw [← hb]; exact ixN_lt hcap
  obtain ⟨h1, h2, h3⟩ := hbi.1 b hbl
  have hBo : ∀ a, a ∈ bins b → a ∈ ord := fun a ha => ((hbi.2 b hbl a).mp ha).1
  cases hB : bins b with
  | nil =>
    rw [hB] at h1
    exact metJ20_getNodeN0 l G hG P L kd hs ky vl nx bf af pa lf rt pv rd hPn M tbo es sz th mc hd tl tb cap tf hcap kk b c9 d9 hb h1
  | cons f t =>
    rw [hB] at h1 h2 h3 hBo
    have hf : tf b = some f := h1.1
    have hfo := hBo f List.mem_cons_self
    have hfne : hs f ≠ hsh c9 d9 := hne f hfo
    cases t with
    | nil => exact metJ20_getNodeN1 l G hG P L kd hs ky vl nx bf af pa lf rt pv rd hPn M tbo es sz th mc hd tl tb cap tf hcap kk b c9 d9 hb f hf (hoL f hfo) hfne h1.2
    | cons e t =>
      have hnf : nx f = some e := h1.2.1
      rcases h3 with h3 | ⟨h3, h4, h5, root, t9, hrt, h6⟩
      · exact metJ20_getNodeNL l G hG P L kd hs ky vl nx bf af pa lf rt pv rd hPn M tbo es sz th mc hd tl tb cap tf hcap kk b c9 d9 hb f hf (hoL f hfo) hfne (h3 f List.mem_cons_self) e hnf t ⟨rfl, h1.2.2⟩ (fun a ha => hoL a (hBo a (List.mem_cons_of_mem _ ha))) (fun a ha => h3 a (List.mem_cons_of_mem _ ha)) (fun a ha => hne a (hBo a (List.mem_cons_of_mem _ ha)))
      · have hrf : f = root := (List.cons.inj hrt).1
        rw [← hrf] at h6
        exact metJ20_getNodeNT l G hG P L kd hs ky vl nx bf af pa lf rt pv rd hPn M tbo es sz th mc hd tl tb cap tf hcap kk b c9 d9 hb f hf (hoL f hfo) hfne (h3 f List.mem_cons_self) e hnf (fun a => a ∈ f :: e :: t) (fun a ha => hoL a (hBo a ha)) (fun a ha => h3 a ha) h6 (fun a _ ha => hne a (hBo a ha))
set_option maxHeartbeats 4000000 in
set_option maxRecDepth 100000 in
theorem metJ21_getOK (l : Launch) (G : xG) (hG : xGood G) (P : xV → Prop) (L : List Nat) (kd : Nat → Bool) (hs : Nat → Int32) (ky vl : Nat → Nat) (nx bf af pa lf rt pv : Nat → Option Nat) (rd : Nat → Int32) (hPn : ∀ V, P V → ∀ a, a ∈ L → V.2 a = some (ndX kd hs ky vl nx bf af pa lf rt pv rd a)) (M : Nat) (tbo es : Option Nat) (sz th : Nat) (mc : Int32) (hd tl : Option Nat) (tb cap : Nat) (tf : Nat → Option Nat) (hcap : capI cap) (kk : Nat) (c9 d9 : Int32) (bins : Nat → List Nat) (ord : List Nat) (hbi : binsI kd hs nx pa lf rt pv tf cap bins ord) (hoL : ∀ a, a ∈ ord → a ∈ L) (hinj : ∀ a a9, a ∈ ord → a9 ∈ ord → hs a = hs a9 → a = a9) (i : Nat) (hio : i ∈ ord) (hkn : kk ≠ ky i) (hhi : hs i = hsh c9 d9) : xRmP P l G yJ21_get (Cond.code yJ21_get cJ21_get 3 (some (.object "java/lang/Object"))) { frames := 4, locals := 101, cells := 0, slots := 0 } [.ref M, .ref kk] [(M, .inr (25, [.ref tb, va_rf es, .int (nI sz), .int mc, .int (nI th), .float 1061158912, .null, .null, va_rf hd, va_rf tl, .int 0, .int 0])), (tb, .inl (8, cap, .inr (.inr (.inr (.inr tf))))), (kk, .inr (14, [.int c9, .int d9])), ((ky i), .inr (14, [.int c9, .int d9]))] (some (.ref (vl i))) := by
  intro V hP hV
  refine xMet_ofT RJ21 hG rfl (by decide) (Nat.le_of_ble_eq_true rfl) fun C hC hQ hX hl hg _ hTab => ?_
  subst hl hg
  refine rn.mono (J := xRq [(M, .inr (25, [.ref tb, va_rf es, .int (nI sz), .int mc, .int (nI th), .float 1061158912, .null, .null, va_rf hd, va_rf tl, .int 0, .int 0])), (tb, .inl (8, cap, .inr (.inr (.inr (.inr tf))))), (kk, .inr (14, [.int c9, .int d9])), ((ky i), .inr (14, [.int c9, .int d9]))] P V) (fun V9 h => ⟨h, hV, hP⟩) ?_
  show rn C (xRq [(M, .inr (25, [.ref tb, va_rf es, .int (nI sz), .int mc, .int (nI th), .float 1061158912, .null, .null, va_rf hd, va_rf tl, .int 0, .int 0])), (tb, .inl (8, cap, .inr (.inr (.inr (.inr tf))))), (kk, .inr (14, [.int c9, .int d9])), ((ky i), .inr (14, [.int c9, .int d9]))] P V) 0 0 0 [(0, .ref M), (1, .ref kk)] []
  refine r_aload_n hC 0 dJ21_get_0 rfl 1 rfl ?_
  refine r_aload_n hC 1 dJ21_get_1 rfl 2 rfl ?_
  refine xCall.r (r := some (.ref i)) (r_cVD hC hG kJ21 M [.ref kk] mDJ20_getNode_J21 q1833 (fun _ h => ⟨_, h.get 0 rfl⟩) (fun V9 h9 => (metJ20_getNodeOK _ _ hG P L kd hs ky vl nx bf af pa lf rt pv rd hPn M tbo es sz th mc hd tl tb cap tf hcap kk c9 d9 bins ord hbi hoL hinj i hio hkn hhi) V9 h9.p (h9.in.sub [0, 1, 2, 3] rfl rfl)) ⟨rfl, rfl⟩ (Nat.le_of_ble_eq_true rfl) (Nat.le_of_ble_eq_true rfl) rfl (Nat.le_of_ble_eq_true rfl) dJ21_get_2) 0 0 5 rfl rfl rfl ?_
  refine r_dup hC dJ21_get_5 rfl 6 rfl ?_
  refine r_astore_n hC 2 [(2, .ref i), (0, .ref M), (1, .ref kk)] dJ21_get_6 rfl (Nat.le_of_ble_eq_true rfl) rfl 7 rfl ?_
  refine r_ifnonnull hC 12 dJ21_get_7 (by decide) ?_
  refine r_aload_n hC 1 dJ21_get_12 rfl 13 rfl ?_
  refine r_get (v := .int 0) hC kJ21 10 rfl q1768 (fun _ h => h.get 0 rfl) rfl dJ21_get_13 16 rfl ?_
  refine r_ifeq hC 24 dJ21_get_16 (by decide) 19 rfl (fun _ => ?_) (fun h => absurd h (by decide))
  refine r_aload_n hC 0 dJ21_get_24 rfl 25 rfl ?_
  refine r_getX (v := .ref (vl i)) hC 2 rfl rfl q2245 q2245 (Or.inl rfl) (Or.inl rfl) (fun _ h => h.at (fun _ p9 => hPn _ p9 i (hoL i hio))) rfl rfl dJ21_get_25 28 rfl ?_
  exact r_aret hC (v := (some (vl i))) (Or.inl ⟨_, rfl⟩) (Nat.le_of_ble_eq_true rfl) (Nat.le_of_ble_eq_true rfl) (fun V9 h => hQ _ _ ⟨rfl, h.1⟩) dJ21_get_28
set_option maxHeartbeats 4000000 in
set_option maxRecDepth 100000 in
theorem metJ21_getNO (l : Launch) (G : xG) (hG : xGood G) (P : xV → Prop) (L : List Nat) (kd : Nat → Bool) (hs : Nat → Int32) (ky vl : Nat → Nat) (nx bf af pa lf rt pv : Nat → Option Nat) (rd : Nat → Int32) (hPn : ∀ V, P V → ∀ a, a ∈ L → V.2 a = some (ndX kd hs ky vl nx bf af pa lf rt pv rd a)) (M : Nat) (tbo es : Option Nat) (sz th : Nat) (mc : Int32) (hd tl : Option Nat) (tb cap : Nat) (tf : Nat → Option Nat) (hcap : capI cap) (kk : Nat) (c9 d9 : Int32) (bins : Nat → List Nat) (ord : List Nat) (hbi : binsI kd hs nx pa lf rt pv tf cap bins ord) (hoL : ∀ a, a ∈ ord → a ∈ L) (hinj : ∀ a a9, a ∈ ord → a9 ∈ ord → hs a = hs a9 → a = a9) (hne : ∀ a, a ∈ ord → hs a ≠ hsh c9 d9) : xRmP P l G yJ21_get (Cond.code yJ21_get cJ21_get 3 (some (.object "java/lang/Object"))) { frames := 4, locals := 101, cells := 0, slots := 0 } [.ref M, .ref kk] [(M, .inr (25, [.ref tb, va_rf es, .int (nI sz), .int mc, .int (nI th), .float 1061158912, .null, .null, va_rf hd, va_rf tl, .int 0, .int 0])), (tb, .inl (8, cap, .inr (.inr (.inr (.inr tf))))), (kk, .inr (14, [.int c9, .int d9]))] (some (.null)) := by
  intro V hP hV
  refine xMet_ofT RJ21 hG rfl (by decide) (Nat.le_of_ble_eq_true rfl) fun C hC hQ hX hl hg _ hTab => ?_
  subst hl hg
  refine rn.mono (J := xRq [(M, .inr (25, [.ref tb, va_rf es, .int (nI sz), .int mc, .int (nI th), .float 1061158912, .null, .null, va_rf hd, va_rf tl, .int 0, .int 0])), (tb, .inl (8, cap, .inr (.inr (.inr (.inr tf))))), (kk, .inr (14, [.int c9, .int d9]))] P V) (fun V9 h => ⟨h, hV, hP⟩) ?_
  show rn C (xRq [(M, .inr (25, [.ref tb, va_rf es, .int (nI sz), .int mc, .int (nI th), .float 1061158912, .null, .null, va_rf hd, va_rf tl, .int 0, .int 0])), (tb, .inl (8, cap, .inr (.inr (.inr (.inr tf))))), (kk, .inr (14, [.int c9, .int d9]))] P V) 0 0 0 [(0, .ref M), (1, .ref kk)] []
  refine r_aload_n hC 0 dJ21_get_0 rfl 1 rfl ?_
  refine r_aload_n hC 1 dJ21_get_1 rfl 2 rfl ?_
  refine xCall.r (r := some (.null)) (r_cVD hC hG kJ21 M [.ref kk] mDJ20_getNode_J21 q1833 (fun _ h => ⟨_, h.get 0 rfl⟩) (fun V9 h9 => (metJ20_getNodeNO _ _ hG P L kd hs ky vl nx bf af pa lf rt pv rd hPn M tbo es sz th mc hd tl tb cap tf hcap kk c9 d9 bins ord hbi hoL hinj hne) V9 h9.p (h9.in.sub [0, 1, 2] rfl rfl)) ⟨rfl, rfl⟩ (Nat.le_of_ble_eq_true rfl) (Nat.le_of_ble_eq_true rfl) rfl (Nat.le_of_ble_eq_true rfl) dJ21_get_2) 0 0 5 rfl rfl rfl ?_
  refine r_dup hC dJ21_get_5 rfl 6 rfl ?_
  refine r_astore_nN hC 2 [(2, .null), (0, .ref M), (1, .ref kk)] dJ21_get_6 rfl (Nat.le_of_ble_eq_true rfl) rfl 7 rfl ?_
  refine r_ifnonnullN hC dJ21_get_7 10 rfl ?_
  refine r_null hC dJ21_get_10 11 rfl ?_
  exact r_aret hC (v := none) (Or.inl ⟨_, rfl⟩) (Nat.le_of_ble_eq_true rfl) (Nat.le_of_ble_eq_true rfl) (fun V9 h => hQ _ _ ⟨rfl, h.1⟩) dJ21_get_11
set_option maxHeartbeats 4000000 in
set_option maxRecDepth 100000 in
theorem metJ20_getNodeE (l : Launch) (G : xG) (hG : xGood G) (M : Nat) (tbo es : Option Nat) (sz th : Nat) (mc : Int32) (hd tl : Option Nat) (kk : Nat) (htb : tbo = none) : xRm l G yJ20_getNode (Cond.code yJ20_getNode cJ20_getNode 8 (some (.object "java/util/HashMap$Node"))) { frames := 0, locals := 0, cells := 0, slots := 0 } [.ref M, .ref kk] [(M, .inr (25, [.null, va_rf es, .int (nI sz), .int mc, .int (nI th), .float 1061158912, .null, .null, va_rf hd, va_rf tl, .int 0, .int 0]))] (some (.null)) := by
  intro V hV
  refine xMet_ofT RJ20 hG rfl (by decide) (Nat.le_of_ble_eq_true rfl) fun C hC hQ hX hl hg _ hTab => ?_
  subst hl hg
  refine rn.mono (J := xRo [(M, .inr (25, [.null, va_rf es, .int (nI sz), .int mc, .int (nI th), .float 1061158912, .null, .null, va_rf hd, va_rf tl, .int 0, .int 0]))] V) (fun V9 h => ⟨h, hV⟩) ?_
  show rn C (xRo [(M, .inr (25, [.null, va_rf es, .int (nI sz), .int mc, .int (nI th), .float 1061158912, .null, .null, va_rf hd, va_rf tl, .int 0, .int 0]))] V) 0 0 0 [(0, .ref M), (1, .ref kk)] []
  refine r_aload_n hC 0 dJ20_getNode_0 rfl 1 rfl ?_
  refine r_get (v := .null) hC kJ21 0 rfl q1770 (fun _ h => h.get 0 rfl) rfl dJ20_getNode_1 4 rfl ?_
  refine r_dup hC dJ20_getNode_4 rfl 5 rfl ?_
  refine r_astore_nN hC 2 [(2, .null), (0, .ref M), (1, .ref kk)] dJ20_getNode_5 rfl (Nat.le_of_ble_eq_true rfl) rfl 6 rfl ?_
  refine r_ifnullN hC 148 dJ20_getNode_6 (by decide) ?_
  refine r_null hC dJ20_getNode_148 149 rfl ?_
  exact r_aret hC (v := none) (Or.inl ⟨_, rfl⟩) (Nat.le_of_ble_eq_true rfl) (Nat.le_of_ble_eq_true rfl) (fun V9 h => hQ _ _ ⟨rfl, h.1⟩) dJ20_getNode_149
set_option maxHeartbeats 4000000 in
set_option maxRecDepth 100000 in
theorem metJ21_getE (l : Launch) (G : xG) (hG : xGood G) (M : Nat) (tbo es : Option Nat) (sz th : Nat) (mc : Int32) (hd tl : Option Nat) (kk : Nat) (htb : tbo = none) : xRm l G yJ21_get (Cond.code yJ21_get cJ21_get 3 (some (.object "java/lang/Object"))) { frames := 1, locals := 27, cells := 0, slots := 0 } [.ref M, .ref kk] [(M, .inr (25, [.null, va_rf es, .int (nI sz), .int mc, .int (nI th), .float 1061158912, .null, .null, va_rf hd, va_rf tl, .int 0, .int 0]))] (some (.null)) := by
  intro V hV
  refine xMet_ofT RJ21 hG rfl (by decide) (Nat.le_of_ble_eq_true rfl) fun C hC hQ hX hl hg _ hTab => ?_
  subst hl hg
  refine rn.mono (J := xRo [(M, .inr (25, [.null, va_rf es, .int (nI sz), .int mc, .int (nI th), .float 1061158912, .null, .null, va_rf hd, va_rf tl, .int 0, .int 0]))] V) (fun V9 h => ⟨h, hV⟩) ?_
  show rn C (xRo [(M, .inr (25, [.null, va_rf es, .int (nI sz), .int mc, .int (nI th), .float 1061158912, .null, .null, va_rf hd, va_rf tl, .int 0, .int 0]))] V) 0 0 0 [(0, .ref M), (1, .ref kk)] []
  refine r_aload_n hC 0 dJ21_get_0 rfl 1 rfl ?_
  refine r_aload_n hC 1 dJ21_get_1 rfl 2 rfl ?_
  refine xCall.r (r := some (.null)) (r_cVD hC hG kJ21 M [.ref kk] mDJ20_getNode_J21 q1833 (fun _ h => ⟨_, h.get 0 rfl⟩) (fun V9 h9 => (metJ20_getNodeE _ _ hG M none es sz th mc hd tl kk rfl) V9 (h9.in.sub [0] rfl rfl)) ⟨rfl, rfl⟩ (Nat.le_of_ble_eq_true rfl) (Nat.le_of_ble_eq_true rfl) rfl (Nat.le_of_ble_eq_true rfl) dJ21_get_2) 0 0 5 rfl rfl rfl ?_
  refine r_dup hC dJ21_get_5 rfl 6 rfl ?_
  refine r_astore_nN hC 2 [(2, .null), (0, .ref M), (1, .ref kk)] dJ21_get_6 rfl (Nat.le_of_ble_eq_true rfl) rfl 7 rfl ?_
  refine r_ifnonnullN hC dJ21_get_7 10 rfl ?_
  refine r_null hC dJ21_get_10 11 rfl ?_
  exact r_aret hC (v := none) (Or.inl ⟨_, rfl⟩) (Nat.le_of_ble_eq_true rfl) (Nat.le_of_ble_eq_true rfl) (fun V9 h => hQ _ _ ⟨rfl, h.1⟩) dJ21_get_11
