/-! ===== the JDK: maps: untreeify, treeifyBin ===== -/
set_option maxRecDepth 100000
theorem r_aload_nO {C : xC} {I : xV → Prop} {own : String} {cc : ByteArray} {nL0 k n pc : Nat} {ret : Option FieldType} {rm : Room} {lv : List (Nat × Value)} {st : List Value} (hC : xCtx C own cc nL0 ret rm) {z : Fin 4} {o : Option Nat} (i : Nat) (hd : decode cc pc = .ok (.aload_n z, 1)) (hi : lv[i]? = some ((z : Nat), va_rf o)) (pc1 : Nat) (hp : pc + 1 = pc1) (kk : rn C I k n pc1 lv (va_rf o :: st)) : rn C I k n pc lv st := by
  cases o with
  | none => exact r_aload_nN hC i hd hi pc1 hp kk
  | some x => exact r_aload_n hC i hd hi pc1 hp kk
theorem r_aloadO {C : xC} {I : xV → Prop} {own : String} {cc : ByteArray} {nL0 k n pc : Nat} {ret : Option FieldType} {rm : Room} {lv : List (Nat × Value)} {st : List Value} (hC : xCtx C own cc nL0 ret rm) {z : Nat} {o : Option Nat} (i : Nat) (hd : decode cc pc = .ok (.aload z, 2)) (hi : lv[i]? = some (z, va_rf o)) (pc1 : Nat) (hp : pc + 2 = pc1) (kk : rn C I k n pc1 lv (va_rf o :: st)) : rn C I k n pc lv st := by
  cases o with
  | none => exact r_aloadN hC i hd hi pc1 hp kk
  | some x => exact r_aload hC i hd hi pc1 hp kk
section RB
variable {kb : Bool} {L0 : List Nat} {kd0 : Nat → Bool} {hs0 : Nat → Int32} {ky0 vl0 : Nat → Nat} {nx0 pa0 lf0 rt0 pv0 : Nat → Option Nat} {ord0 Lb done rest N L : List Nat} {kd : Nat → Bool} {hs : Nat → Int32} {ky vl : Nat → Nat} {nx bf af pa lf rt pv : Nat → Option Nat} {hd tl : Option Nat} {ord : List Nat}
theorem rb_oL (h : rbI kb L0 kd0 hs0 ky0 vl0 nx0 pa0 lf0 rt0 pv0 ord0 Lb done rest N L kd hs ky vl nx bf af pa lf rt pv hd tl ord) : ∀ a, a ∈ ord → a ∈ L := by
  obtain ⟨h1, h2, h3, h4, h5, h6, h7, h8, h9, h10, h11, h12, h13⟩ := h
  intro a ha
  rcases (h9 a).mp ha with ⟨g, -⟩ | g
  · exact (h7 a (h11 a g)).1
  · exact (h2 a g).1
theorem rb_in {s : Nat} (h : rbI kb L0 kd0 hs0 ky0 vl0 nx0 pa0 lf0 rt0 pv0 ord0 Lb done (s :: rest) N L kd hs ky vl nx bf af pa lf rt pv hd tl ord) : s ∈ ord := by
  obtain ⟨h1, h2, h3, h4, h5, h6, h7, h8, h9, h10, h11, h12, h13⟩ := h
  have hsLb : s ∈ Lb := by rw [h1]; exact List.mem_append_right _ List.mem_cons_self
  have hnd := h13
  rw [h1] at hnd
  exact (h9 s).mpr (Or.inl ⟨h12 s hsLb, (nd_split hnd).1⟩)
theorem rb_s0 {s : Nat} (h : rbI kb L0 kd0 hs0 ky0 vl0 nx0 pa0 lf0 rt0 pv0 ord0 Lb done (s :: rest) N L kd hs ky vl nx bf af pa lf rt pv hd tl ord) : s ∈ L0 := by
  obtain ⟨h1, h2, h3, h4, h5, h6, h7, h8, h9, h10, h11, h12, h13⟩ := h
  exact h11 s (h12 s (by rw [h1]; exact List.mem_append_right _ List.mem_cons_self))
theorem rb_last {z : Nat} (h : rbI kb L0 kd0 hs0 ky0 vl0 nx0 pa0 lf0 rt0 pv0 ord0 Lb done rest N L kd hs ky vl nx bf af pa lf rt pv hd tl ord) (hz : lstO none N = some z) : z ∈ L ∧ kd z = kb := by
  obtain ⟨l0, hz⟩ := lstO_some hz
  obtain ⟨g1, g2, g3⟩ := h.2.1 z (by rw [hz]; exact List.mem_append_right _ List.mem_cons_self)
  exact ⟨g1, g3⟩
theorem lst_none {N : List Nat} (h : lstO none N = none) : N = [] := lstO_none h
end RB
theorem seg_none {nx : Nat → Option Nat} {l : List Nat} (h : seg nx none l none) : l = [] := by
  cases l with
  | nil => rfl
  | cons c t => cases h.1
set_option maxHeartbeats 4000000 in
set_option maxRecDepth 100000 in
theorem lpJ_rbp {C : xC} {F : Nat → Prop} {V0 : xV} (c9 s9 : Nat) (hG : xGood (xGG C)) (hC : xCtx C RJ26 cJ26_untreeify 6 (some (.object "java/util/HashMap$Node")) { frames := 4, locals := 92, cells := c9, slots := s9 }) (L0 : List Nat) (kd0 : Nat → Bool) (hs0 : Nat → Int32) (ky0 vl0 : Nat → Nat) (nx0 pa0 lf0 rt0 pv0 : Nat → Option Nat) (ord0 Lb : List Nat) (M : Nat) (tbo es : Option Nat) (sz th : Nat) (mc : Int32) (hseg0 : ∀ a, a ∈ Lb → kd0 a = true) (kx : ∀ (N L : List Nat) (kd : Nat → Bool) (hs : Nat → Int32) (ky vl : Nat → Nat) (nx bf af pa lf rt pv : Nat → Option Nat) (rd : Nat → Int32) (hd tl : Option Nat) (ord : List Nat) (k n : Nat), rbI false L0 kd0 hs0 ky0 vl0 nx0 pa0 lf0 rt0 pv0 ord0 Lb Lb [] N L kd hs ky vl nx bf af pa lf rt pv hd tl ord → k ≤ c9 → n ≤ s9 → rn C (xSt F V0 ([(M, .inr (25, [va_rf tbo, va_rf es, .int (nI sz), .int mc, .int (nI th), .float 1061158912, .null, .null, va_rf hd, va_rf tl, .int 0, .int 0]))] ++ stW L (ndX kd hs ky vl nx bf af pa lf rt pv rd))) k n 51 [] [va_rf N.head?]) : ∀ (rest done N L : List Nat) (kd : Nat → Bool) (hs : Nat → Int32) (ky vl : Nat → Nat) (nx bf af pa lf rt pv : Nat → Option Nat) (rd : Nat → Int32) (hd tl : Option Nat) (ord : List Nat) (o : Option Nat) (k n : Nat), seg nx0 o rest none → rbI false L0 kd0 hs0 ky0 vl0 nx0 pa0 lf0 rt0 pv0 ord0 Lb done rest N L kd hs ky vl nx bf af pa lf rt pv hd tl ord → k + rest.length ≤ c9 → n + 6 * rest.length ≤ s9 → rn C (xSt F V0 ([(M, .inr (25, [va_rf tbo, va_rf es, .int (nI sz), .int mc, .int (nI th), .float 1061158912, .null, .null, va_rf hd, va_rf tl, .int 0, .int 0]))] ++ stW L (ndX kd hs ky vl nx bf af pa lf rt pv rd))) k n 7 [(4, (va_rf o)), (3, (va_rf (lstO none N))), (2, (va_rf N.head?)), (1, .ref M)] [] := by
  intro rest
  induction rest with
  | nil =>
    intro done N L kd hs ky vl nx bf af pa lf rt pv rd hd tl ord o k n hseg hI hk hn
    obtain rfl : o = none := hseg
    have hI1 := hI.1
    refine r_aloadN hC 0 dJ26_untreeify_7 rfl 9 rfl ?_
    refine r_ifnullN hC 50 dJ26_untreeify_9 (by decide) ?_
    refine r_aload_nO hC 2 dJ26_untreeify_50 rfl 51 rfl ?_
    refine rn.sub (lv' := []) [] rfl ?_
    rw [List.append_nil] at hI1
    subst hI1
    exact kx N L kd hs ky vl nx bf af pa lf rt pv rd hd tl ord k n hI (by simpa using hk) (by simpa using hn)
  | cons s rest ih =>
    intro done N L kd hs ky vl nx bf af pa lf rt pv rd hd tl ord o k n hseg hI hk hn
    obtain rfl : o = some s := hseg.1
    have hsLb : s ∈ Lb := by rw [hI.1]; exact List.mem_append_right _ List.mem_cons_self
    have hks : kd s = true := (hI.2.2.2.2.2.2.1 s (rb_s0 hI)).2.1.trans (hseg0 s hsLb)
    have hnx0 : nx s = nx0 s := (hI.2.2.2.2.2.2.1 s (rb_s0 hI)).2.2.2.2.2.1
    have hkl : k + (rest.length + 1) ≤ c9 := hk
    have hnl : n + 6 * (rest.length + 1) ≤ s9 := hn
    have hso : s ∈ ord := rb_in hI
    have hol := hI.2.2.2.2.2.2.2.1
    have hoL : ∀ a, a ∈ ord → a ∈ L := rb_oL hI
    have hbL : ∀ b, bf s = some b → b ∈ L := fun b e => hoL b (lnk_bf hol hso e).1
    have haL : ∀ b, af s = some b → b ∈ L := fun b e => hoL b (lnk_af hol hso e).1
    rcases opt_c (lstO none N) with hlz | ⟨z, hlz⟩
    · have hN00 : N = [] := lst_none hlz
      rw [hlz, show N.head? = none by rw [hN00]; rfl]
      refine r_aload hC 0 dJ26_untreeify_7 rfl 9 rfl ?_
      refine r_ifnull hC dJ26_untreeify_9 12 rfl ?_
      refine r_aload_n hC 3 dJ26_untreeify_12 rfl 13 rfl ?_
      refine r_aload hC 0 dJ26_untreeify_13 rfl 15 rfl ?_
      refine r_null hC dJ26_untreeify_15 16 rfl ?_
      refine xCall.ct (wcx := [(M, .inr (25, [va_rf tbo, va_rf es, .int (nI sz), .int mc, .int (nI th), .float 1061158912, .null, .null, va_rf hd, va_rf tl, .int 0, .int 0]))]) (wr := []) (r_cVD hC hG kJ21 M [.ref s, .null] mDJ21_replacementNode_J21 q2211 (fun _ h => ⟨_, h.get 0 rfl⟩) (fun V9 h9 => (metJ21_replacementNode _ _ hG L kd hs ky vl nx bf af pa lf rt pv rd M tbo es sz th mc hd tl s (rb_oL hI s (rb_in hI)) hks hbL haL) V9 (h9.in.cut (wcx := [(M, .inr (25, [va_rf tbo, va_rf es, .int (nI sz), .int mc, .int (nI th), .float 1061158912, .null, .null, va_rf hd, va_rf tl, .int 0, .int 0]))]) (wr := []) [0] [] 1 rfl rfl rfl rfl)) ⟨rfl, rfl⟩ (by first | omega | (dsimp only; omega)) (by first | omega | (dsimp only; omega)) rfl (Nat.le_of_ble_eq_true rfl) dJ26_untreeify_16) [0] [] 1 rfl rfl rfl rfl (k + 1) (n + 6) 19 rfl rfl rfl (fun v3 w4 h5 => ?_) (fun _ _ h => h.elim)
      obtain ⟨q1, rfl, hq2, rfl⟩ := h5
      refine rn.mono (J := xSt F V0 ([(M, .inr (25, [va_rf tbo, va_rf es, .int (nI sz), .int mc, .int (nI th), .float 1061158912, .null, .null, va_rf (hdn hd q1 (bf s)), va_rf (hdn tl q1 (af s)), .int 0, .int 0]))] ++ stW (L ++ [q1]) (ndX (va_up kd q1 false) (va_up hs q1 (hs s)) (va_up ky q1 (ky s)) (va_up vl q1 (vl s)) (va_up nx q1 none) (lkr bf q1 (bf s) (af s)) (lkr af q1 (af s) (bf s)) pa lf rt pv rd))) (fun _ h => by rw [← List.append_assoc] at h; exact h) ?_
      show rn C (xSt F V0 ([(M, .inr (25, [va_rf tbo, va_rf es, .int (nI sz), .int mc, .int (nI th), .float 1061158912, .null, .null, va_rf (hdn hd q1 (bf s)), va_rf (hdn tl q1 (af s)), .int 0, .int 0]))] ++ stW (L ++ [q1]) (ndX (va_up kd q1 false) (va_up hs q1 (hs s)) (va_up ky q1 (ky s)) (va_up vl q1 (vl s)) (va_up nx q1 none) (lkr bf q1 (bf s) (af s)) (lkr af q1 (af s) (bf s)) pa lf rt pv rd))) (k + 1) (n + 6) 19 [(4, .ref s), (3, .null), (2, .null), (1, .ref M)] [.ref q1]
      have nn_s : s ≠ q1 := fun e => hq2 (by rw [← e]; exact (rb_oL hI s (rb_in hI)))
      refine r_astore hC 5 [(5, .ref q1), (4, .ref s), (3, .null), (2, .null), (1, .ref M)] dJ26_untreeify_19 (Nat.le_of_ble_eq_true rfl) rfl 21 rfl ?_
      refine r_aload_nN hC 2 dJ26_untreeify_21 rfl 22 rfl ?_
      refine r_ifnonnullN hC dJ26_untreeify_22 25 rfl ?_
      refine r_aload hC 0 dJ26_untreeify_25 rfl 27 rfl ?_
      refine r_astore_n hC 2 [(2, .ref q1), (5, .ref q1), (4, .ref s), (3, .null), (1, .ref M)] dJ26_untreeify_27 rfl (Nat.le_of_ble_eq_true rfl) rfl 28 rfl ?_
      refine r_goto hC 37 dJ26_untreeify_28 (by decide) ?_
      refine r_aload hC 1 dJ26_untreeify_37 rfl 39 rfl ?_
      refine r_astore_n hC 3 [(3, .ref q1), (2, .ref q1), (5, .ref q1), (4, .ref s), (1, .ref M)] dJ26_untreeify_39 rfl (Nat.le_of_ble_eq_true rfl) rfl 40 rfl ?_
      refine r_aload hC 3 dJ26_untreeify_40 rfl 42 rfl ?_
      rcases opt_c (nx s) with hl6 | ⟨x7, hl6⟩
      · skip
        refine r_getI (v := .null) hC kJ26 3 rfl q2249 (Or.inl rfl) (fun _ h => stW_get h (List.mem_append_left _ (rb_oL hI s (rb_in hI))) (ndX_t ((up_ne nn_s).trans hks))) (congrArg (fun o9 => some (va_rf o9)) ((up_ne nn_s).trans hl6)) dJ26_untreeify_42 45 rfl ?_
        refine r_astoreN hC 4 [(4, .null), (3, .ref q1), (2, .ref q1), (5, .ref q1), (1, .ref M)] dJ26_untreeify_45 (Nat.le_of_ble_eq_true rfl) rfl 47 rfl ?_
        refine r_goto hC 7 dJ26_untreeify_47 (by decide) ?_
        refine rn.sub (lv' := [(4, .null), (3, .ref q1), (2, .ref q1), (1, .ref M)]) [0, 1, 2, 4] rfl ?_
        have hN0 : N = [] := lst_none hlz
        obtain ⟨ord', hI'⟩ := hI.step hq2 (nx' := va_up nx q1 none) (pv' := pv) (pa' := pa) (lf' := lf) (rt' := rt) (up_same _ _ _) (fun z9 e9 => by rw [hlz] at e9; cases e9) (fun a na _ => up_ne na) (fun h9 => by cases h9) (fun a na => rfl) (fun a na => rfl) (fun a na => rfl) (fun a na => rfl)
        have hsg : seg nx0 none rest none := by have h8 := hseg.2; rw [← (hI.2.2.2.2.2.2.1 s (rb_s0 hI)).2.2.2.2.2.1, hl6] at h8; exact h8
        have key := ih (done ++ [s]) (N ++ [q1]) (L ++ [q1]) (va_up kd q1 false) (va_up hs q1 (hs s)) (va_up ky q1 (ky s)) (va_up vl q1 (vl s)) (va_up nx q1 none) (lkr bf q1 (bf s) (af s)) (lkr af q1 (af s) (bf s)) pa lf rt pv rd (hdn hd q1 (bf s)) (hdn tl q1 (af s)) ord' none (k + 1) (n + 6) hsg hI' (by simp only [List.length_cons] at hk; omega) (by simp only [List.length_cons] at hn; omega)
        rw [show lstO none (N ++ [q1]) = some q1 from lstO_snoc, show (N ++ [q1]).head? = some q1 by rw [hN0]; rfl] at key
        exact key
      · skip
        refine r_getI (v := .ref x7) hC kJ26 3 rfl q2249 (Or.inl rfl) (fun _ h => stW_get h (List.mem_append_left _ (rb_oL hI s (rb_in hI))) (ndX_t ((up_ne nn_s).trans hks))) (congrArg (fun o9 => some (va_rf o9)) ((up_ne nn_s).trans hl6)) dJ26_untreeify_42 45 rfl ?_
        refine r_astore hC 4 [(4, .ref x7), (3, .ref q1), (2, .ref q1), (5, .ref q1), (1, .ref M)] dJ26_untreeify_45 (Nat.le_of_ble_eq_true rfl) rfl 47 rfl ?_
        refine r_goto hC 7 dJ26_untreeify_47 (by decide) ?_
        refine rn.sub (lv' := [(4, .ref x7), (3, .ref q1), (2, .ref q1), (1, .ref M)]) [0, 1, 2, 4] rfl ?_
        have hN0 : N = [] := lst_none hlz
        obtain ⟨ord', hI'⟩ := hI.step hq2 (nx' := va_up nx q1 none) (pv' := pv) (pa' := pa) (lf' := lf) (rt' := rt) (up_same _ _ _) (fun z9 e9 => by rw [hlz] at e9; cases e9) (fun a na _ => up_ne na) (fun h9 => by cases h9) (fun a na => rfl) (fun a na => rfl) (fun a na => rfl) (fun a na => rfl)
        have hsg : seg nx0 (some x7) rest none := by have h8 := hseg.2; rw [← (hI.2.2.2.2.2.2.1 s (rb_s0 hI)).2.2.2.2.2.1, hl6] at h8; exact h8
        have key := ih (done ++ [s]) (N ++ [q1]) (L ++ [q1]) (va_up kd q1 false) (va_up hs q1 (hs s)) (va_up ky q1 (ky s)) (va_up vl q1 (vl s)) (va_up nx q1 none) (lkr bf q1 (bf s) (af s)) (lkr af q1 (af s) (bf s)) pa lf rt pv rd (hdn hd q1 (bf s)) (hdn tl q1 (af s)) ord' (some x7) (k + 1) (n + 6) hsg hI' (by simp only [List.length_cons] at hk; omega) (by simp only [List.length_cons] at hn; omega)
        rw [show lstO none (N ++ [q1]) = some q1 from lstO_snoc, show (N ++ [q1]).head? = some q1 by rw [hN0]; rfl] at key
        exact key
    · obtain ⟨hzL, hzk⟩ := rb_last hI hlz
      have hsz : s ≠ z := fun e => by rw [e, hzk] at hks; cases hks
      obtain ⟨hN, hhN⟩ : ∃ hN, N.head? = some hN := by
        obtain ⟨l0, hz⟩ := lstO_some hlz
        cases hN9 : N with
        | nil => rw [hN9] at hlz; cases hlz
        | cons c t => exact ⟨c, rfl⟩
      rw [hlz, hhN]
      refine r_aload hC 0 dJ26_untreeify_7 rfl 9 rfl ?_
      refine r_ifnull hC dJ26_untreeify_9 12 rfl ?_
      refine r_aload_n hC 3 dJ26_untreeify_12 rfl 13 rfl ?_
      refine r_aload hC 0 dJ26_untreeify_13 rfl 15 rfl ?_
      refine r_null hC dJ26_untreeify_15 16 rfl ?_
      refine xCall.ct (wcx := [(M, .inr (25, [va_rf tbo, va_rf es, .int (nI sz), .int mc, .int (nI th), .float 1061158912, .null, .null, va_rf hd, va_rf tl, .int 0, .int 0]))]) (wr := []) (r_cVD hC hG kJ21 M [.ref s, .null] mDJ21_replacementNode_J21 q2211 (fun _ h => ⟨_, h.get 0 rfl⟩) (fun V9 h9 => (metJ21_replacementNode _ _ hG L kd hs ky vl nx bf af pa lf rt pv rd M tbo es sz th mc hd tl s (rb_oL hI s (rb_in hI)) hks hbL haL) V9 (h9.in.cut (wcx := [(M, .inr (25, [va_rf tbo, va_rf es, .int (nI sz), .int mc, .int (nI th), .float 1061158912, .null, .null, va_rf hd, va_rf tl, .int 0, .int 0]))]) (wr := []) [0] [] 1 rfl rfl rfl rfl)) ⟨rfl, rfl⟩ (by first | omega | (dsimp only; omega)) (by first | omega | (dsimp only; omega)) rfl (Nat.le_of_ble_eq_true rfl) dJ26_untreeify_16) [0] [] 1 rfl rfl rfl rfl (k + 1) (n + 6) 19 rfl rfl rfl (fun v3 w4 h5 => ?_) (fun _ _ h => h.elim)
      obtain ⟨q1, rfl, hq2, rfl⟩ := h5
      refine rn.mono (J := xSt F V0 ([(M, .inr (25, [va_rf tbo, va_rf es, .int (nI sz), .int mc, .int (nI th), .float 1061158912, .null, .null, va_rf (hdn hd q1 (bf s)), va_rf (hdn tl q1 (af s)), .int 0, .int 0]))] ++ stW (L ++ [q1]) (ndX (va_up kd q1 false) (va_up hs q1 (hs s)) (va_up ky q1 (ky s)) (va_up vl q1 (vl s)) (va_up nx q1 none) (lkr bf q1 (bf s) (af s)) (lkr af q1 (af s) (bf s)) pa lf rt pv rd))) (fun _ h => by rw [← List.append_assoc] at h; exact h) ?_
      show rn C (xSt F V0 ([(M, .inr (25, [va_rf tbo, va_rf es, .int (nI sz), .int mc, .int (nI th), .float 1061158912, .null, .null, va_rf (hdn hd q1 (bf s)), va_rf (hdn tl q1 (af s)), .int 0, .int 0]))] ++ stW (L ++ [q1]) (ndX (va_up kd q1 false) (va_up hs q1 (hs s)) (va_up ky q1 (ky s)) (va_up vl q1 (vl s)) (va_up nx q1 none) (lkr bf q1 (bf s) (af s)) (lkr af q1 (af s) (bf s)) pa lf rt pv rd))) (k + 1) (n + 6) 19 [(4, .ref s), (3, .ref z), (2, .ref hN), (1, .ref M)] [.ref q1]
      have nn_s : s ≠ q1 := fun e => hq2 (by rw [← e]; exact (rb_oL hI s (rb_in hI)))
      have nn_z : z ≠ q1 := fun e => hq2 (by rw [← e]; exact hzL)
      refine r_astore hC 5 [(5, .ref q1), (4, .ref s), (3, .ref z), (2, .ref hN), (1, .ref M)] dJ26_untreeify_19 (Nat.le_of_ble_eq_true rfl) rfl 21 rfl ?_
      refine r_aload_n hC 2 dJ26_untreeify_21 rfl 22 rfl ?_
      refine r_ifnonnull hC 31 dJ26_untreeify_22 (by decide) ?_
      refine r_aload_n hC 2 dJ26_untreeify_31 rfl 32 rfl ?_
      refine r_aload hC 0 dJ26_untreeify_32 rfl 34 rfl ?_
      refine r_putI (J := xSt F V0 ([(M, .inr (25, [va_rf tbo, va_rf es, .int (nI sz), .int mc, .int (nI th), .float 1061158912, .null, .null, va_rf (hdn hd q1 (bf s)), va_rf (hdn tl q1 (af s)), .int 0, .int 0]))] ++ stW (L ++ [q1]) (ndX (va_up kd q1 false) (va_up hs q1 (hs s)) (va_up ky q1 (ky s)) (va_up vl q1 (vl s)) (va_up (va_up nx q1 none) z (some q1)) (lkr bf q1 (bf s) (af s)) (lkr af q1 (af s) (bf s)) pa lf rt pv rd))) hC kJ25 3 rfl q2249 (Or.inl rfl) rfl (fun _ h => stW_get h (List.mem_append_left _ hzL) (ndX_p ((up_ne nn_z).trans hzk))) (Nat.le_of_ble_eq_true rfl) rfl rfl dJ26_untreeify_34 (fun _ h => stW_set h (List.mem_append_left _ hzL) (ndP_nx ((up_ne nn_z).trans hzk))) 37 rfl ?_
      refine r_aload hC 0 dJ26_untreeify_37 rfl 39 rfl ?_
      refine r_astore_n hC 3 [(3, .ref q1), (5, .ref q1), (4, .ref s), (2, .ref hN), (1, .ref M)] dJ26_untreeify_39 rfl (Nat.le_of_ble_eq_true rfl) rfl 40 rfl ?_
      refine r_aload hC 2 dJ26_untreeify_40 rfl 42 rfl ?_
      rcases opt_c (nx s) with hl6 | ⟨x7, hl6⟩
      · skip
        refine r_getI (v := .null) hC kJ26 3 rfl q2249 (Or.inl rfl) (fun _ h => stW_get h (List.mem_append_left _ (rb_oL hI s (rb_in hI))) (ndX_t ((up_ne nn_s).trans hks))) (congrArg (fun o9 => some (va_rf o9)) (((up_ne hsz).trans (up_ne nn_s)).trans hl6)) dJ26_untreeify_42 45 rfl ?_
        refine r_astoreN hC 4 [(4, .null), (3, .ref q1), (5, .ref q1), (2, .ref hN), (1, .ref M)] dJ26_untreeify_45 (Nat.le_of_ble_eq_true rfl) rfl 47 rfl ?_
        refine r_goto hC 7 dJ26_untreeify_47 (by decide) ?_
        refine rn.sub (lv' := [(4, .null), (3, .ref q1), (2, .ref hN), (1, .ref M)]) [0, 1, 3, 4] rfl ?_
        obtain ⟨ord', hI'⟩ := hI.step hq2 (nx' := va_up (va_up nx q1 none) z (some q1)) (pv' := pv) (pa' := pa) (lf' := lf) (rt' := rt) ((up_ne (Ne.symm nn_z)).trans (up_same _ _ _)) (fun z9 e9 => by obtain rfl : z = z9 := Option.some.inj (hlz.symm.trans e9); exact up_same _ _ _) (fun a na n9 => (up_ne (fun e9 => n9 (by rw [e9]; exact hlz))).trans (up_ne na)) (fun h9 => by cases h9) (fun a na => rfl) (fun a na => rfl) (fun a na => rfl) (fun a na => rfl)
        have hsg : seg nx0 none rest none := by have h8 := hseg.2; rw [← (hI.2.2.2.2.2.2.1 s (rb_s0 hI)).2.2.2.2.2.1, hl6] at h8; exact h8
        have key := ih (done ++ [s]) (N ++ [q1]) (L ++ [q1]) (va_up kd q1 false) (va_up hs q1 (hs s)) (va_up ky q1 (ky s)) (va_up vl q1 (vl s)) (va_up (va_up nx q1 none) z (some q1)) (lkr bf q1 (bf s) (af s)) (lkr af q1 (af s) (bf s)) pa lf rt pv rd (hdn hd q1 (bf s)) (hdn tl q1 (af s)) ord' none (k + 1) (n + 6) hsg hI' (by simp only [List.length_cons] at hk; omega) (by simp only [List.length_cons] at hn; omega)
        rw [show lstO none (N ++ [q1]) = some q1 from lstO_snoc, show (N ++ [q1]).head? = some hN by rw [head_app, hhN]; rfl] at key
        exact key
      · skip
        refine r_getI (v := .ref x7) hC kJ26 3 rfl q2249 (Or.inl rfl) (fun _ h => stW_get h (List.mem_append_left _ (rb_oL hI s (rb_in hI))) (ndX_t ((up_ne nn_s).trans hks))) (congrArg (fun o9 => some (va_rf o9)) (((up_ne hsz).trans (up_ne nn_s)).trans hl6)) dJ26_untreeify_42 45 rfl ?_
        refine r_astore hC 4 [(4, .ref x7), (3, .ref q1), (5, .ref q1), (2, .ref hN), (1, .ref M)] dJ26_untreeify_45 (Nat.le_of_ble_eq_true rfl) rfl 47 rfl ?_
        refine r_goto hC 7 dJ26_untreeify_47 (by decide) ?_
        refine rn.sub (lv' := [(4, .ref x7), (3, .ref q1), (2, .ref hN), (1, .ref M)]) [0, 1, 3, 4] rfl ?_
        obtain ⟨ord', hI'⟩ := hI.step hq2 (nx' := va_up (va_up nx q1 none) z (some q1)) (pv' := pv) (pa' := pa) (lf' := lf) (rt' := rt) ((up_ne (Ne.symm nn_z)).trans (up_same _ _ _)) (fun z9 e9 => by obtain rfl : z = z9 := Option.some.inj (hlz.symm.trans e9); exact up_same _ _ _) (fun a na n9 => (up_ne (fun e9 => n9 (by rw [e9]; exact hlz))).trans (up_ne na)) (fun h9 => by cases h9) (fun a na => rfl) (fun a na => rfl) (fun a na => rfl) (fun a na => rfl)
        have hsg : seg nx0 (some x7) rest none := by have h8 := hseg.2; rw [← (hI.2.2.2.2.2.2.1 s (rb_s0 hI)).2.2.2.2.2.1, hl6] at h8; exact h8
        have key := ih (done ++ [s]) (N ++ [q1]) (L ++ [q1]) (va_up kd q1 false) (va_up hs q1 (hs s)) (va_up ky q1 (ky s)) (va_up vl q1 (vl s)) (va_up (va_up nx q1 none) z (some q1)) (lkr bf q1 (bf s) (af s)) (lkr af q1 (af s) (bf s)) pa lf rt pv rd (hdn hd q1 (bf s)) (hdn tl q1 (af s)) ord' (some x7) (k + 1) (n + 6) hsg hI' (by simp only [List.length_cons] at hk; omega) (by simp only [List.length_cons] at hn; omega)
        rw [show lstO none (N ++ [q1]) = some q1 from lstO_snoc, show (N ++ [q1]).head? = some hN by rw [head_app, hhN]; rfl] at key
        exact key
set_option maxHeartbeats 4000000 in
set_option maxRecDepth 100000 in
theorem lpJ_rbt {C : xC} {F : Nat → Prop} {V0 : xV} (c9 s9 : Nat) (hG : xGood (xGG C)) (hC : xCtx C RJ20 cJ20_treeifyBin 9 none { frames := 5, locals := 116, cells := c9, slots := s9 }) (L0 : List Nat) (kd0 : Nat → Bool) (hs0 : Nat → Int32) (ky0 vl0 : Nat → Nat) (nx0 pa0 lf0 rt0 pv0 : Nat → Option Nat) (ord0 Lb : List Nat) (M : Nat) (tbo es : Option Nat) (sz th : Nat) (mc : Int32) (tb cap : Nat) (tf : Nat → Option Nat) (b : Nat) (hseg0 : ∀ a, a ∈ Lb → kd0 a = false) (kx : ∀ (N L : List Nat) (kd : Nat → Bool) (hs : Nat → Int32) (ky vl : Nat → Nat) (nx bf af pa lf rt pv : Nat → Option Nat) (rd : Nat → Int32) (hd tl : Option Nat) (ord : List Nat) (k n : Nat), rbI true L0 kd0 hs0 ky0 vl0 nx0 pa0 lf0 rt0 pv0 ord0 Lb Lb [] N L kd hs ky vl nx bf af pa lf rt pv hd tl ord → k ≤ c9 → n ≤ s9 → rn C (xSt F V0 ([(M, .inr (25, [va_rf tbo, va_rf es, .int (nI sz), .int mc, .int (nI th), .float 1061158912, .null, .null, va_rf hd, va_rf tl, .int 0, .int 0])), (tb, .inl (8, cap, .inr (.inr (.inr (.inr tf)))))] ++ stW L (ndX kd hs ky vl nx bf af pa lf rt pv rd))) k n 93 [(6, (va_rf N.head?)), (4, .int (nI b)), (1, .ref tb)] []) : ∀ (rest done N L : List Nat) (kd : Nat → Bool) (hs : Nat → Int32) (ky vl : Nat → Nat) (nx bf af pa lf rt pv : Nat → Option Nat) (rd : Nat → Int32) (hd tl : Option Nat) (ord : List Nat) (o : Option Nat) (k n : Nat), seg nx0 o rest none → rbI true L0 kd0 hs0 ky0 vl0 nx0 pa0 lf0 rt0 pv0 ord0 Lb done rest N L kd hs ky vl nx bf af pa lf rt pv hd tl ord → k + rest.length ≤ c9 → n + 11 * rest.length ≤ s9 → rest ≠ [] → rn C (xSt F V0 ([(M, .inr (25, [va_rf tbo, va_rf es, .int (nI sz), .int mc, .int (nI th), .float 1061158912, .null, .null, va_rf hd, va_rf tl, .int 0, .int 0])), (tb, .inl (8, cap, .inr (.inr (.inr (.inr tf)))))] ++ stW L (ndX kd hs ky vl nx bf af pa lf rt pv rd))) k n 43 [(5, (va_rf o)), (7, (va_rf (lstO none N))), (6, (va_rf N.head?)), (4, .int (nI b)), (1, .ref tb), (0, .ref M)] [] := by
  intro rest
  induction rest with
  | nil =>
    intro done N L kd hs ky vl nx bf af pa lf rt pv rd hd tl ord o k n hseg hI hk hn hr
    exact absurd rfl hr
  | cons s rest ih =>
    intro done N L kd hs ky vl nx bf af pa lf rt pv rd hd tl ord o k n hseg hI hk hn hr
    obtain rfl : o = some s := hseg.1
    have hsLb : s ∈ Lb := by rw [hI.1]; exact List.mem_append_right _ List.mem_cons_self
    have hks : kd s = false := (hI.2.2.2.2.2.2.1 s (rb_s0 hI)).2.1.trans (hseg0 s hsLb)
    have hnx0 : nx s = nx0 s := (hI.2.2.2.2.2.2.1 s (rb_s0 hI)).2.2.2.2.2.1
    have hkl : k + (rest.length + 1) ≤ c9 := hk
    have hnl : n + 11 * (rest.length + 1) ≤ s9 := hn
    have hso : s ∈ ord := rb_in hI
    have hol := hI.2.2.2.2.2.2.2.1
    have hoL : ∀ a, a ∈ ord → a ∈ L := rb_oL hI
    have hbL : ∀ b, bf s = some b → b ∈ L := fun b e => hoL b (lnk_bf hol hso e).1
    have haL : ∀ b, af s = some b → b ∈ L := fun b e => hoL b (lnk_af hol hso e).1
    rcases opt_c (lstO none N) with hlz | ⟨z, hlz⟩
    · have hN00 : N = [] := lst_none hlz
      rw [hlz, show N.head? = none by rw [hN00]; rfl]
      refine r_aload_n hC 5 dJ20_treeifyBin_43 rfl 44 rfl ?_
      refine r_aload hC 0 dJ20_treeifyBin_44 rfl 46 rfl ?_
      refine r_null hC dJ20_treeifyBin_46 47 rfl ?_
      refine xCall.ct (wcx := [(M, .inr (25, [va_rf tbo, va_rf es, .int (nI sz), .int mc, .int (nI th), .float 1061158912, .null, .null, va_rf hd, va_rf tl, .int 0, .int 0]))]) (wr := [(tb, .inl (8, cap, .inr (.inr (.inr (.inr tf)))))]) (r_cVD hC hG kJ21 M [.ref s, .null] mDJ21_replacementTreeNode_J21 q2344 (fun _ h => ⟨_, h.get 0 rfl⟩) (fun V9 h9 => (metJ21_replacementTreeNode _ _ hG L kd hs ky vl nx bf af pa lf rt pv rd M tbo es sz th mc hd tl s (rb_oL hI s (rb_in hI)) hks hbL haL) V9 (h9.in.cut (wcx := [(M, .inr (25, [va_rf tbo, va_rf es, .int (nI sz), .int mc, .int (nI th), .float 1061158912, .null, .null, va_rf hd, va_rf tl, .int 0, .int 0]))]) (wr := [(tb, .inl (8, cap, .inr (.inr (.inr (.inr tf)))))]) [0] [1] 2 rfl rfl rfl rfl)) ⟨rfl, rfl⟩ (by first | omega | (dsimp only; omega)) (by first | omega | (dsimp only; omega)) rfl (Nat.le_of_ble_eq_true rfl) dJ20_treeifyBin_47) [0] [1] 2 rfl rfl rfl rfl (k + 1) (n + 11) 50 rfl rfl rfl (fun v3 w4 h5 => ?_) (fun _ _ h => h.elim)
      obtain ⟨q1, rfl, hq2, rfl⟩ := h5
      refine rn.mono (J := xSt F V0 ([(tb, .inl (8, cap, .inr (.inr (.inr (.inr tf))))), (M, .inr (25, [va_rf tbo, va_rf es, .int (nI sz), .int mc, .int (nI th), .float 1061158912, .null, .null, va_rf (hdn hd q1 (bf s)), va_rf (hdn tl q1 (af s)), .int 0, .int 0]))] ++ stW (L ++ [q1]) (ndX (va_up kd q1 true) (va_up hs q1 (hs s)) (va_up ky q1 (ky s)) (va_up vl q1 (vl s)) (va_up nx q1 none) (lkr bf q1 (bf s) (af s)) (lkr af q1 (af s) (bf s)) (va_up pa q1 none) (va_up lf q1 none) (va_up rt q1 none) (va_up pv q1 none) (va_up rd q1 0)))) (fun _ h => by rw [← List.append_assoc] at h; exact h) ?_
      show rn C (xSt F V0 ([(tb, .inl (8, cap, .inr (.inr (.inr (.inr tf))))), (M, .inr (25, [va_rf tbo, va_rf es, .int (nI sz), .int mc, .int (nI th), .float 1061158912, .null, .null, va_rf (hdn hd q1 (bf s)), va_rf (hdn tl q1 (af s)), .int 0, .int 0]))] ++ stW (L ++ [q1]) (ndX (va_up kd q1 true) (va_up hs q1 (hs s)) (va_up ky q1 (ky s)) (va_up vl q1 (vl s)) (va_up nx q1 none) (lkr bf q1 (bf s) (af s)) (lkr af q1 (af s) (bf s)) (va_up pa q1 none) (va_up lf q1 none) (va_up rt q1 none) (va_up pv q1 none) (va_up rd q1 0)))) (k + 1) (n + 11) 50 [(5, .ref s), (7, .null), (6, .null), (4, .int (nI b)), (1, .ref tb), (0, .ref M)] [.ref q1]
      have nn_s : s ≠ q1 := fun e => hq2 (by rw [← e]; exact (rb_oL hI s (rb_in hI)))
      refine r_astore hC 8 [(8, .ref q1), (5, .ref s), (7, .null), (6, .null), (4, .int (nI b)), (1, .ref tb), (0, .ref M)] dJ20_treeifyBin_50 (Nat.le_of_ble_eq_true rfl) rfl 52 rfl ?_
      refine r_aloadN hC 2 dJ20_treeifyBin_52 rfl 54 rfl ?_
      refine r_ifnonnullN hC dJ20_treeifyBin_54 57 rfl ?_
      refine r_aload hC 0 dJ20_treeifyBin_57 rfl 59 rfl ?_
      refine r_astore hC 6 [(6, .ref q1), (8, .ref q1), (5, .ref s), (7, .null), (4, .int (nI b)), (1, .ref tb), (0, .ref M)] dJ20_treeifyBin_59 (Nat.le_of_ble_eq_true rfl) rfl 61 rfl ?_
      refine r_goto hC 78 dJ20_treeifyBin_61 (by decide) ?_
      refine r_aload hC 1 dJ20_treeifyBin_78 rfl 80 rfl ?_
      refine r_astore hC 7 [(7, .ref q1), (6, .ref q1), (8, .ref q1), (5, .ref s), (4, .int (nI b)), (1, .ref tb), (0, .ref M)] dJ20_treeifyBin_80 (Nat.le_of_ble_eq_true rfl) rfl 82 rfl ?_
      refine r_aload hC 3 dJ20_treeifyBin_82 rfl 84 rfl ?_
      rcases opt_c (nx s) with hl6 | ⟨x7, hl6⟩
      · skip
        refine r_getI (v := .null) hC kJ25 3 rfl q2250 (Or.inl rfl) (fun _ h => stW_get h (List.mem_append_left _ (rb_oL hI s (rb_in hI))) (ndX_p ((up_ne nn_s).trans hks))) (congrArg (fun o9 => some (va_rf o9)) ((up_ne nn_s).trans hl6)) dJ20_treeifyBin_84 87 rfl ?_
        refine r_dup hC dJ20_treeifyBin_87 rfl 88 rfl ?_
        refine r_astoreN hC 5 [(5, .null), (7, .ref q1), (6, .ref q1), (8, .ref q1), (4, .int (nI b)), (1, .ref tb), (0, .ref M)] dJ20_treeifyBin_88 (Nat.le_of_ble_eq_true rfl) rfl 90 rfl ?_
        refine r_ifnonnullN hC dJ20_treeifyBin_90 93 rfl ?_
        refine rn.sub (lv' := [(5, .null), (7, .ref q1), (6, .ref q1), (4, .int (nI b)), (1, .ref tb), (0, .ref M)]) [0, 1, 2, 4, 5, 6] rfl ?_
        have hN0 : N = [] := lst_none hlz
        obtain ⟨ord', hI'⟩ := hI.step hq2 (nx' := va_up nx q1 none) (pv' := va_up pv q1 none) (pa' := va_up pa q1 none) (lf' := va_up lf q1 none) (rt' := va_up rt q1 none) (up_same _ _ _) (fun z9 e9 => by rw [hlz] at e9; cases e9) (fun a na _ => up_ne na) (fun _ => (up_same _ _ _).trans hlz.symm) (fun a na => up_ne na) (fun a na => up_ne na) (fun a na => up_ne na) (fun a na => up_ne na)
        refine rn.sub (lv' := [(6, .ref q1), (4, .int (nI b)), (1, .ref tb)]) [2, 3, 4] rfl ?_
        refine rn.mono (J := xSt F V0 ([(M, .inr (25, [va_rf tbo, va_rf es, .int (nI sz), .int mc, .int (nI th), .float 1061158912, .null, .null, va_rf (hdn hd q1 (bf s)), va_rf (hdn tl q1 (af s)), .int 0, .int 0])), (tb, .inl (8, cap, .inr (.inr (.inr (.inr tf)))))] ++ stW (L ++ [q1]) (ndX (va_up kd q1 true) (va_up hs q1 (hs s)) (va_up ky q1 (ky s)) (va_up vl q1 (vl s)) (va_up nx q1 none) (lkr bf q1 (bf s) (af s)) (lkr af q1 (af s) (bf s)) (va_up pa q1 none) (va_up lf q1 none) (va_up rt q1 none) (va_up pv q1 none) (va_up rd q1 0)))) (fun _ h => h.ordT [1, 0] 2 rfl rfl rfl) ?_
        have hr0 : rest = [] := by have h8 := hseg.2; rw [← (hI.2.2.2.2.2.2.1 s (rb_s0 hI)).2.2.2.2.2.1, hl6] at h8; exact seg_none h8
        have key := kx (N ++ [q1]) (L ++ [q1]) (va_up kd q1 true) (va_up hs q1 (hs s)) (va_up ky q1 (ky s)) (va_up vl q1 (vl s)) (va_up nx q1 none) (lkr bf q1 (bf s) (af s)) (lkr af q1 (af s) (bf s)) (va_up pa q1 none) (va_up lf q1 none) (va_up rt q1 none) (va_up pv q1 none) (va_up rd q1 0) (hdn hd q1 (bf s)) (hdn tl q1 (af s)) ord' (k + 1) (n + 11) (by have h7 := hI'.1; rw [hr0, List.append_nil] at h7; rw [hr0] at hI'; rw [h7]; rw [h7] at hI'; exact hI') (by simp only [List.length_cons] at hk; omega) (by simp only [List.length_cons] at hn; omega)
        rw [show (N ++ [q1]).head? = some q1 by rw [hN0]; rfl] at key
        exact key
      · skip
        refine r_getI (v := .ref x7) hC kJ25 3 rfl q2250 (Or.inl rfl) (fun _ h => stW_get h (List.mem_append_left _ (rb_oL hI s (rb_in hI))) (ndX_p ((up_ne nn_s).trans hks))) (congrArg (fun o9 => some (va_rf o9)) ((up_ne nn_s).trans hl6)) dJ20_treeifyBin_84 87 rfl ?_
        refine r_dup hC dJ20_treeifyBin_87 rfl 88 rfl ?_
        refine r_astore hC 5 [(5, .ref x7), (7, .ref q1), (6, .ref q1), (8, .ref q1), (4, .int (nI b)), (1, .ref tb), (0, .ref M)] dJ20_treeifyBin_88 (Nat.le_of_ble_eq_true rfl) rfl 90 rfl ?_
        refine r_ifnonnull hC 43 dJ20_treeifyBin_90 (by decide) ?_
        refine rn.sub (lv' := [(5, .ref x7), (7, .ref q1), (6, .ref q1), (4, .int (nI b)), (1, .ref tb), (0, .ref M)]) [0, 1, 2, 4, 5, 6] rfl ?_
        have hN0 : N = [] := lst_none hlz
        obtain ⟨ord', hI'⟩ := hI.step hq2 (nx' := va_up nx q1 none) (pv' := va_up pv q1 none) (pa' := va_up pa q1 none) (lf' := va_up lf q1 none) (rt' := va_up rt q1 none) (up_same _ _ _) (fun z9 e9 => by rw [hlz] at e9; cases e9) (fun a na _ => up_ne na) (fun _ => (up_same _ _ _).trans hlz.symm) (fun a na => up_ne na) (fun a na => up_ne na) (fun a na => up_ne na) (fun a na => up_ne na)
        have hsg : seg nx0 (some x7) rest none := by have h8 := hseg.2; rw [← (hI.2.2.2.2.2.2.1 s (rb_s0 hI)).2.2.2.2.2.1, hl6] at h8; exact h8
        refine rn.mono (J := xSt F V0 ([(M, .inr (25, [va_rf tbo, va_rf es, .int (nI sz), .int mc, .int (nI th), .float 1061158912, .null, .null, va_rf (hdn hd q1 (bf s)), va_rf (hdn tl q1 (af s)), .int 0, .int 0])), (tb, .inl (8, cap, .inr (.inr (.inr (.inr tf)))))] ++ stW (L ++ [q1]) (ndX (va_up kd q1 true) (va_up hs q1 (hs s)) (va_up ky q1 (ky s)) (va_up vl q1 (vl s)) (va_up nx q1 none) (lkr bf q1 (bf s) (af s)) (lkr af q1 (af s) (bf s)) (va_up pa q1 none) (va_up lf q1 none) (va_up rt q1 none) (va_up pv q1 none) (va_up rd q1 0)))) (fun _ h => h.ordT [1, 0] 2 rfl rfl rfl) ?_
        have key := ih (done ++ [s]) (N ++ [q1]) (L ++ [q1]) (va_up kd q1 true) (va_up hs q1 (hs s)) (va_up ky q1 (ky s)) (va_up vl q1 (vl s)) (va_up nx q1 none) (lkr bf q1 (bf s) (af s)) (lkr af q1 (af s) (bf s)) (va_up pa q1 none) (va_up lf q1 none) (va_up rt q1 none) (va_up pv q1 none) (va_up rd q1 0) (hdn hd q1 (bf s)) (hdn tl q1 (af s)) ord' (some x7) (k + 1) (n + 11) hsg hI' (by simp only [List.length_cons] at hk; omega) (by simp only [List.length_cons] at hn; omega)
        rw [show lstO none (N ++ [q1]) = some q1 from lstO_snoc, show (N ++ [q1]).head? = some q1 by rw [hN0]; rfl] at key
        exact key (fun e9 => by rw [e9] at hsg; cases hsg)
    · obtain ⟨hzL, hzk⟩ := rb_last hI hlz
      have hsz : s ≠ z := fun e => by rw [e, hzk] at hks; cases hks
      obtain ⟨hN, hhN⟩ : ∃ hN, N.head? = some hN := by
        obtain ⟨l0, hz⟩ := lstO_some hlz
        cases hN9 : N with
        | nil => rw [hN9] at hlz; cases hlz
        | cons c t => exact ⟨c, rfl⟩
      rw [hlz, hhN]
      refine r_aload_n hC 5 dJ20_treeifyBin_43 rfl 44 rfl ?_
      refine r_aload hC 0 dJ20_treeifyBin_44 rfl 46 rfl ?_
      refine r_null hC dJ20_treeifyBin_46 47 rfl ?_
      refine xCall.ct (wcx := [(M, .inr (25, [va_rf tbo, va_rf es, .int (nI sz), .int mc, .int (nI th), .float 1061158912, .null, .null, va_rf hd, va_rf tl, .int 0, .int 0]))]) (wr := [(tb, .inl (8, cap, .inr (.inr (.inr (.inr tf)))))]) (r_cVD hC hG kJ21 M [.ref s, .null] mDJ21_replacementTreeNode_J21 q2344 (fun _ h => ⟨_, h.get 0 rfl⟩) (fun V9 h9 => (metJ21_replacementTreeNode _ _ hG L kd hs ky vl nx bf af pa lf rt pv rd M tbo es sz th mc hd tl s (rb_oL hI s (rb_in hI)) hks hbL haL) V9 (h9.in.cut (wcx := [(M, .inr (25, [va_rf tbo, va_rf es, .int (nI sz), .int mc, .int (nI th), .float 1061158912, .null, .null, va_rf hd, va_rf tl, .int 0, .int 0]))]) (wr := [(tb, .inl (8, cap, .inr (.inr (.inr (.inr tf)))))]) [0] [1] 2 rfl rfl rfl rfl)) ⟨rfl, rfl⟩ (by first | omega | (dsimp only; omega)) (by first | omega | (dsimp only; omega)) rfl (Nat.le_of_ble_eq_true rfl) dJ20_treeifyBin_47) [0] [1] 2 rfl rfl rfl rfl (k + 1) (n + 11) 50 rfl rfl rfl (fun v3 w4 h5 => ?_) (fun _ _ h => h.elim)
      obtain ⟨q1, rfl, hq2, rfl⟩ := h5
      refine rn.mono (J := xSt F V0 ([(tb, .inl (8, cap, .inr (.inr (.inr (.inr tf))))), (M, .inr (25, [va_rf tbo, va_rf es, .int (nI sz), .int mc, .int (nI th), .float 1061158912, .null, .null, va_rf (hdn hd q1 (bf s)), va_rf (hdn tl q1 (af s)), .int 0, .int 0]))] ++ stW (L ++ [q1]) (ndX (va_up kd q1 true) (va_up hs q1 (hs s)) (va_up ky q1 (ky s)) (va_up vl q1 (vl s)) (va_up nx q1 none) (lkr bf q1 (bf s) (af s)) (lkr af q1 (af s) (bf s)) (va_up pa q1 none) (va_up lf q1 none) (va_up rt q1 none) (va_up pv q1 none) (va_up rd q1 0)))) (fun _ h => by rw [← List.append_assoc] at h; exact h) ?_
      show rn C (xSt F V0 ([(tb, .inl (8, cap, .inr (.inr (.inr (.inr tf))))), (M, .inr (25, [va_rf tbo, va_rf es, .int (nI sz), .int mc, .int (nI th), .float 1061158912, .null, .null, va_rf (hdn hd q1 (bf s)), va_rf (hdn tl q1 (af s)), .int 0, .int 0]))] ++ stW (L ++ [q1]) (ndX (va_up kd q1 true) (va_up hs q1 (hs s)) (va_up ky q1 (ky s)) (va_up vl q1 (vl s)) (va_up nx q1 none) (lkr bf q1 (bf s) (af s)) (lkr af q1 (af s) (bf s)) (va_up pa q1 none) (va_up lf q1 none) (va_up rt q1 none) (va_up pv q1 none) (va_up rd q1 0)))) (k + 1) (n + 11) 50 [(5, .ref s), (7, .ref z), (6, .ref hN), (4, .int (nI b)), (1, .ref tb), (0, .ref M)] [.ref q1]
      have nn_s : s ≠ q1 := fun e => hq2 (by rw [← e]; exact (rb_oL hI s (rb_in hI)))
      have nn_z : z ≠ q1 := fun e => hq2 (by rw [← e]; exact hzL)
      refine r_astore hC 8 [(8, .ref q1), (5, .ref s), (7, .ref z), (6, .ref hN), (4, .int (nI b)), (1, .ref tb), (0, .ref M)] dJ20_treeifyBin_50 (Nat.le_of_ble_eq_true rfl) rfl 52 rfl ?_
      refine r_aload hC 2 dJ20_treeifyBin_52 rfl 54 rfl ?_
      refine r_ifnonnull hC 64 dJ20_treeifyBin_54 (by decide) ?_
      refine r_aload hC 0 dJ20_treeifyBin_64 rfl 66 rfl ?_
      refine r_aload hC 2 dJ20_treeifyBin_66 rfl 68 rfl ?_
      refine r_putI (J := xSt F V0 ([(tb, .inl (8, cap, .inr (.inr (.inr (.inr tf))))), (M, .inr (25, [va_rf tbo, va_rf es, .int (nI sz), .int mc, .int (nI th), .float 1061158912, .null, .null, va_rf (hdn hd q1 (bf s)), va_rf (hdn tl q1 (af s)), .int 0, .int 0]))] ++ stW (L ++ [q1]) (ndX (va_up kd q1 true) (va_up hs q1 (hs s)) (va_up ky q1 (ky s)) (va_up vl q1 (vl s)) (va_up nx q1 none) (lkr bf q1 (bf s) (af s)) (lkr af q1 (af s) (bf s)) (va_up pa q1 none) (va_up lf q1 none) (va_up rt q1 none) (va_up (va_up pv q1 none) q1 (some z)) (va_up rd q1 0)))) hC kJ26 9 rfl q2319 (Or.inl rfl) rfl (fun _ h => stW_get h (List.mem_append_right _ List.mem_cons_self) (ndX_t (up_same _ _ _))) (Nat.le_of_ble_eq_true rfl) rfl rfl dJ20_treeifyBin_68 (fun _ h => stW_set h (List.mem_append_right _ List.mem_cons_self) (ndX_pv (up_same _ _ _))) 71 rfl ?_
      refine r_aload hC 2 dJ20_treeifyBin_71 rfl 73 rfl ?_
      refine r_aload hC 0 dJ20_treeifyBin_73 rfl 75 rfl ?_
      refine r_putI (J := xSt F V0 ([(tb, .inl (8, cap, .inr (.inr (.inr (.inr tf))))), (M, .inr (25, [va_rf tbo, va_rf es, .int (nI sz), .int mc, .int (nI th), .float 1061158912, .null, .null, va_rf (hdn hd q1 (bf s)), va_rf (hdn tl q1 (af s)), .int 0, .int 0]))] ++ stW (L ++ [q1]) (ndX (va_up kd q1 true) (va_up hs q1 (hs s)) (va_up ky q1 (ky s)) (va_up vl q1 (vl s)) (va_up (va_up nx q1 none) z (some q1)) (lkr bf q1 (bf s) (af s)) (lkr af q1 (af s) (bf s)) (va_up pa q1 none) (va_up lf q1 none) (va_up rt q1 none) (va_up (va_up pv q1 none) q1 (some z)) (va_up rd q1 0)))) hC kJ26 3 rfl q2251 (Or.inr q2248) rfl (fun _ h => stW_get h (List.mem_append_left _ hzL) (ndX_t ((up_ne nn_z).trans hzk))) (Nat.le_of_ble_eq_true rfl) rfl rfl dJ20_treeifyBin_75 (fun _ h => stW_set h (List.mem_append_left _ hzL) (ndX_nx ((up_ne nn_z).trans hzk))) 78 rfl ?_
      refine r_aload hC 0 dJ20_treeifyBin_78 rfl 80 rfl ?_
      refine r_astore hC 7 [(7, .ref q1), (8, .ref q1), (5, .ref s), (6, .ref hN), (4, .int (nI b)), (1, .ref tb), (0, .ref M)] dJ20_treeifyBin_80 (Nat.le_of_ble_eq_true rfl) rfl 82 rfl ?_
      refine r_aload hC 2 dJ20_treeifyBin_82 rfl 84 rfl ?_
      rcases opt_c (nx s) with hl6 | ⟨x7, hl6⟩
      · skip
        refine r_getI (v := .null) hC kJ25 3 rfl q2250 (Or.inl rfl) (fun _ h => stW_get h (List.mem_append_left _ (rb_oL hI s (rb_in hI))) (ndX_p ((up_ne nn_s).trans hks))) (congrArg (fun o9 => some (va_rf o9)) (((up_ne hsz).trans (up_ne nn_s)).trans hl6)) dJ20_treeifyBin_84 87 rfl ?_
        refine r_dup hC dJ20_treeifyBin_87 rfl 88 rfl ?_
        refine r_astoreN hC 5 [(5, .null), (7, .ref q1), (8, .ref q1), (6, .ref hN), (4, .int (nI b)), (1, .ref tb), (0, .ref M)] dJ20_treeifyBin_88 (Nat.le_of_ble_eq_true rfl) rfl 90 rfl ?_
        refine r_ifnonnullN hC dJ20_treeifyBin_90 93 rfl ?_
        refine rn.sub (lv' := [(5, .null), (7, .ref q1), (6, .ref hN), (4, .int (nI b)), (1, .ref tb), (0, .ref M)]) [0, 1, 3, 4, 5, 6] rfl ?_
        obtain ⟨ord', hI'⟩ := hI.step hq2 (nx' := va_up (va_up nx q1 none) z (some q1)) (pv' := va_up (va_up pv q1 none) q1 (some z)) (pa' := va_up pa q1 none) (lf' := va_up lf q1 none) (rt' := va_up rt q1 none) ((up_ne (Ne.symm nn_z)).trans (up_same _ _ _)) (fun z9 e9 => by obtain rfl : z = z9 := Option.some.inj (hlz.symm.trans e9); exact up_same _ _ _) (fun a na n9 => (up_ne (fun e9 => n9 (by rw [e9]; exact hlz))).trans (up_ne na)) (fun _ => (up_same _ _ _).trans hlz.symm) (fun a na => (up_ne na).trans (up_ne na)) (fun a na => up_ne na) (fun a na => up_ne na) (fun a na => up_ne na)
        refine rn.sub (lv' := [(6, .ref hN), (4, .int (nI b)), (1, .ref tb)]) [2, 3, 4] rfl ?_
        refine rn.mono (J := xSt F V0 ([(M, .inr (25, [va_rf tbo, va_rf es, .int (nI sz), .int mc, .int (nI th), .float 1061158912, .null, .null, va_rf (hdn hd q1 (bf s)), va_rf (hdn tl q1 (af s)), .int 0, .int 0])), (tb, .inl (8, cap, .inr (.inr (.inr (.inr tf)))))] ++ stW (L ++ [q1]) (ndX (va_up kd q1 true) (va_up hs q1 (hs s)) (va_up ky q1 (ky s)) (va_up vl q1 (vl s)) (va_up (va_up nx q1 none) z (some q1)) (lkr bf q1 (bf s) (af s)) (lkr af q1 (af s) (bf s)) (va_up pa q1 none) (va_up lf q1 none) (va_up rt q1 none) (va_up (va_up pv q1 none) q1 (some z)) (va_up rd q1 0)))) (fun _ h => h.ordT [1, 0] 2 rfl rfl rfl) ?_
        have hr0 : rest = [] := by have h8 := hseg.2; rw [← (hI.2.2.2.2.2.2.1 s (rb_s0 hI)).2.2.2.2.2.1, hl6] at h8; exact seg_none h8
        have key := kx (N ++ [q1]) (L ++ [q1]) (va_up kd q1 true) (va_up hs q1 (hs s)) (va_up ky q1 (ky s)) (va_up vl q1 (vl s)) (va_up (va_up nx q1 none) z (some q1)) (lkr bf q1 (bf s) (af s)) (lkr af q1 (af s) (bf s)) (va_up pa q1 none) (va_up lf q1 none) (va_up rt q1 none) (va_up (va_up pv q1 none) q1 (some z)) (va_up rd q1 0) (hdn hd q1 (bf s)) (hdn tl q1 (af s)) ord' (k + 1) (n + 11) (by have h7 := hI'.1; rw [hr0, List.append_nil] at h7; rw [hr0] at hI'; rw [h7]; rw [h7] at hI'; exact hI') (by simp only [List.length_cons] at hk; omega) (by simp only [List.length_cons] at hn; omega)
        rw [show (N ++ [q1]).head? = some hN by rw [head_app, hhN]; rfl] at key
        exact key
      · skip
        refine r_getI (v := .ref x7) hC kJ25 3 rfl q2250 (Or.inl rfl) (fun _ h => stW_get h (List.mem_append_left _ (rb_oL hI s (rb_in hI))) (ndX_p ((up_ne nn_s).trans hks))) (congrArg (fun o9 => some (va_rf o9)) (((up_ne hsz).trans (up_ne nn_s)).trans hl6)) dJ20_treeifyBin_84 87 rfl ?_
        refine r_dup hC dJ20_treeifyBin_87 rfl 88 rfl ?_
        refine r_astore hC 5 [(5, .ref x7), (7, .ref q1), (8, .ref q1), (6, .ref hN), (4, .int (nI b)), (1, .ref tb), (0, .ref M)] dJ20_treeifyBin_88 (Nat.le_of_ble_eq_true rfl) rfl 90 rfl ?_
        refine r_ifnonnull hC 43 dJ20_treeifyBin_90 (by decide) ?_
        refine rn.sub (lv' := [(5, .ref x7), (7, .ref q1), (6, .ref hN), (4, .int (nI b)), (1, .ref tb), (0, .ref M)]) [0, 1, 3, 4, 5, 6] rfl ?_
        obtain ⟨ord', hI'⟩ := hI.step hq2 (nx' := va_up (va_up nx q1 none) z (some q1)) (pv' := va_up (va_up pv q1 none) q1 (some z)) (pa' := va_up pa q1 none) (lf' := va_up lf q1 none) (rt' := va_up rt q1 none) ((up_ne (Ne.symm nn_z)).trans (up_same _ _ _)) (fun z9 e9 => by obtain rfl : z = z9 := Option.some.inj (hlz.symm.trans e9); exact up_same _ _ _) (fun a na n9 => (up_ne (fun e9 => n9 (by rw [e9]; exact hlz))).trans (up_ne na)) (fun _ => (up_same _ _ _).trans hlz.symm) (fun a na => (up_ne na).trans (up_ne na)) (fun a na => up_ne na) (fun a na => up_ne na) (fun a na => up_ne na)
        have hsg : seg nx0 (some x7) rest none := by have h8 := hseg.2; rw [← (hI.2.2.2.2.2.2.1 s (rb_s0 hI)).2.2.2.2.2.1, hl6] at h8; exact h8
        refine rn.mono (J := xSt F V0 ([(M, .inr (25, [va_rf tbo, va_rf es, .int (nI sz), .int mc, .int (nI th), .float 1061158912, .null, .null, va_rf (hdn hd q1 (bf s)), va_rf (hdn tl q1 (af s)), .int 0, .int 0])), (tb, .inl (8, cap, .inr (.inr (.inr (.inr tf)))))] ++ stW (L ++ [q1]) (ndX (va_up kd q1 true) (va_up hs q1 (hs s)) (va_up ky q1 (ky s)) (va_up vl q1 (vl s)) (va_up (va_up nx q1 none) z (some q1)) (lkr bf q1 (bf s) (af s)) (lkr af q1 (af s) (bf s)) (va_up pa q1 none) (va_up lf q1 none) (va_up rt q1 none) (va_up (va_up pv q1 none) q1 (some z)) (va_up rd q1 0)))) (fun _ h => h.ordT [1, 0] 2 rfl rfl rfl) ?_
        have key := ih (done ++ [s]) (N ++ [q1]) (L ++ [q1]) (va_up kd q1 true) (va_up hs q1 (hs s)) (va_up ky q1 (ky s)) (va_up vl q1 (vl s)) (va_up (va_up nx q1 none) z (some q1)) (lkr bf q1 (bf s) (af s)) (lkr af q1 (af s) (bf s)) (va_up pa q1 none) (va_up lf q1 none) (va_up rt q1 none) (va_up (va_up pv q1 none) q1 (some z)) (va_up rd q1 0) (hdn hd q1 (bf s)) (hdn tl q1 (af s)) ord' (some x7) (k + 1) (n + 11) hsg hI' (by simp only [List.length_cons] at hk; omega) (by simp only [List.length_cons] at hn; omega)
        rw [show lstO none (N ++ [q1]) = some q1 from lstO_snoc, show (N ++ [q1]).head? = some hN by rw [head_app, hhN]; rfl] at key
        exact key (fun e9 => by rw [e9] at hsg; cases hsg)
set_option maxHeartbeats 4000000 in
set_option maxRecDepth 100000 in
theorem metJ26_untreeify (l : Launch) (G : xG) (hG : xGood G) (L : List Nat) (kd : Nat → Bool) (hs : Nat → Int32) (ky vl : Nat → Nat) (nx bf af pa lf rt pv : Nat → Option Nat) (rd : Nat → Int32) (M : Nat) (tbo es : Option Nat) (sz th : Nat) (mc : Int32) (hd tl : Option Nat) (ord Lb : List Nat) (x0 : Nat) (hseg : seg nx (some x0) Lb none) (hk9 : ∀ a, a ∈ Lb → kd a = true) (hl : lnk bf af hd tl ord) (hoL : ∀ a, a ∈ ord → a ∈ L) (hLo : ∀ a, a ∈ Lb → a ∈ ord) (hnd : Lb.Nodup) : xWm l G yJ26_untreeify (Cond.code yJ26_untreeify cJ26_untreeify 6 (some (.object "java/util/HashMap$Node"))) { frames := 4, locals := 92, cells := Lb.length, slots := 6 * Lb.length } [.ref x0, .ref M] ([(M, .inr (25, [va_rf tbo, va_rf es, .int (nI sz), .int mc, .int (nI th), .float 1061158912, .null, .null, va_rf hd, va_rf tl, .int 0, .int 0]))] ++ stW L (ndX kd hs ky vl nx bf af pa lf rt pv rd)) (fun v w' => ∃ (L' ord' Ns : List Nat) (kd' : Nat → Bool) (hs' : Nat → Int32) (ky' vl' : Nat → Nat) (nx' bf' af' pa' lf' rt' pv' : Nat → Option Nat) (rd' : Nat → Int32) (hd' tl' : Option Nat), v = some (va_rf Ns.head?) ∧ brI L ord kd hs ky vl nx pa lf rt pv Lb L' ord' kd' hs' ky' vl' nx' bf' af' pa' lf' rt' pv' hd' tl' Ns ∧ binI kd' hs' nx' pa' lf' rt' pv' Ns.head? Ns ∧ (∀ a, a ∈ Ns → kd' a = false) ∧ w' = ([(M, .inr (25, [va_rf tbo, va_rf es, .int (nI sz), .int mc, .int (nI th), .float 1061158912, .null, .null, va_rf hd', va_rf tl', .int 0, .int 0]))] ++ stW L' (ndX kd' hs' ky' vl' nx' bf' af' pa' lf' rt' pv' rd'))) (fun _ _ => False) := by
  intro V hV
  refine xMet_ofT RJ26 hG rfl (by decide) (Nat.le_of_ble_eq_true rfl) fun C hC hQ hX hl hg _ hTab => ?_
  subst hl hg
  obtain ⟨V0, hV0⟩ : ∃ V0, V0 = V := ⟨_, rfl⟩
  obtain ⟨F, hF⟩ : ∃ F, F = xF ([(M, .inr (25, [va_rf tbo, va_rf es, .int (nI sz), .int mc, .int (nI th), .float 1061158912, .null, .null, va_rf hd, va_rf tl, .int 0, .int 0]))] ++ stW L (ndX kd hs ky vl nx bf af pa lf rt pv rd)) := ⟨_, rfl⟩
  refine rn.mono (J := xSt F V0 ([(M, .inr (25, [va_rf tbo, va_rf es, .int (nI sz), .int mc, .int (nI th), .float 1061158912, .null, .null, va_rf hd, va_rf tl, .int 0, .int 0]))] ++ stW L (ndX kd hs ky vl nx bf af pa lf rt pv rd))) (fun V9 h => by rw [h, hV0, hF]; exact hV.st) ?_
  show rn C (xSt F V0 ([(M, .inr (25, [va_rf tbo, va_rf es, .int (nI sz), .int mc, .int (nI th), .float 1061158912, .null, .null, va_rf hd, va_rf tl, .int 0, .int 0]))] ++ stW L (ndX kd hs ky vl nx bf af pa lf rt pv rd))) 0 0 0 [(0, .ref x0), (1, .ref M)] []
  refine r_null hC dJ26_untreeify_0 1 rfl ?_
  refine r_astore_nN hC 2 [(2, .null), (0, .ref x0), (1, .ref M)] dJ26_untreeify_1 rfl (Nat.le_of_ble_eq_true rfl) rfl 2 rfl ?_
  refine r_null hC dJ26_untreeify_2 3 rfl ?_
  refine r_astore_nN hC 3 [(3, .null), (2, .null), (0, .ref x0), (1, .ref M)] dJ26_untreeify_3 rfl (Nat.le_of_ble_eq_true rfl) rfl 4 rfl ?_
  refine r_aload_n hC 2 dJ26_untreeify_4 rfl 5 rfl ?_
  refine r_astore hC 4 [(4, .ref x0), (3, .null), (2, .null), (0, .ref x0), (1, .ref M)] dJ26_untreeify_5 (Nat.le_of_ble_eq_true rfl) rfl 7 rfl ?_
  refine rn.sub (lv' := [(4, .ref x0), (3, .null), (2, .null), (1, .ref M)]) [0, 1, 2, 4] rfl ?_
  refine lpJ_rbp Lb.length (6 * Lb.length) hG hC L kd hs ky vl nx pa lf rt pv ord Lb M tbo es sz th mc hk9 (fun N L' kd' hs' ky' vl' nx' bf' af' pa' lf' rt' pv' rd' hd' tl' ord' k' n' hR' hk' hn' => ?_) Lb [] [] L kd hs ky vl nx bf af pa lf rt pv rd hd tl ord (some x0) 0 0 hseg (rbI.start hl hoL hLo hnd) (by omega) (by omega)
  exact r_aret hC (v := N.head?) (Or.inl ⟨_, rfl⟩) hk' hn' (fun V9 h => hQ _ _ ⟨_, ⟨L', ord', N, kd', hs', ky', vl', nx', bf', af', pa', lf', rt', pv', rd', hd', tl', rfl, (br_plain hR').1, (br_plain hR').2, (fun a ha => (hR'.2.1 a ha).2.2), rfl⟩, by rw [← hV0, ← hF]; exact h⟩) dJ26_untreeify_51
theorem mem_rot {r a : Nat} {l1 l2 : List Nat} (h : a ∈ r :: (l1 ++ l2)) : a ∈ l1 ++ r :: l2 := by
  rcases List.mem_cons.mp h with e | h
  · rw [e]; exact List.mem_append_right _ List.mem_cons_self
  · rcases List.mem_append.mp h with h | h
    · exact List.mem_append_left _ h
    · exact List.mem_append_right _ (List.mem_cons_of_mem _ h)
theorem rb_inj {kb : Bool} {L0 : List Nat} {kd0 : Nat → Bool} {hs0 : Nat → Int32} {ky0 vl0 : Nat → Nat} {nx0 pa0 lf0 rt0 pv0 : Nat → Option Nat} {ord0 Lb rest N L : List Nat} {kd : Nat → Bool} {hs : Nat → Int32} {ky vl : Nat → Nat} {nx bf af pa lf rt pv : Nat → Option Nat} {hd tl : Option Nat} {ord : List Nat} (h : rbI kb L0 kd0 hs0 ky0 vl0 nx0 pa0 lf0 rt0 pv0 ord0 Lb Lb rest N L kd hs ky vl nx bf af pa lf rt pv hd tl ord) (hinj : ∀ a a9, a ∈ ord0 → a9 ∈ ord0 → hs0 a = hs0 a9 → a = a9) : ∀ a a9, a ∈ N → a9 ∈ N → hs a = hs a9 → a = a9 := by
  obtain ⟨h1, h2, h3, h4, h5, h6, h7, h8, h9, h10, h11, h12, h13⟩ := h
  exact inj_map (map_dt_hs h6) h13 h3 (fun a c ha hc => hinj a c (h12 a ha) (h12 c hc))
theorem rb_ix {kb : Bool} {L0 : List Nat} {kd0 : Nat → Bool} {hs0 : Nat → Int32} {ky0 vl0 : Nat → Nat} {nx0 pa0 lf0 rt0 pv0 : Nat → Option Nat} {ord0 Lb rest N L : List Nat} {kd : Nat → Bool} {hs : Nat → Int32} {ky vl : Nat → Nat} {nx bf af pa lf rt pv : Nat → Option Nat} {hd tl : Option Nat} {ord : List Nat} {cap b : Nat} (h : rbI kb L0 kd0 hs0 ky0 vl0 nx0 pa0 lf0 rt0 pv0 ord0 Lb Lb rest N L kd hs ky vl nx bf af pa lf rt pv hd tl ord) (hix : ∀ a, a ∈ Lb → (nI (cap - 1) &&& hs0 a) = nI b) : ∀ a, a ∈ N → (nI (cap - 1) &&& hs a) = nI b := by
  obtain ⟨h1, h2, h3, h4, h5, h6, h7, h8, h9, h10, h11, h12, h13⟩ := h
  intro a ha
  obtain ⟨c, hc, e⟩ := mem_map_eq (map_dt_hs h6) ha
  rw [e]
  exact hix c hc
set_option maxHeartbeats 4000000 in
set_option maxRecDepth 100000 in
theorem metJ20_treeifyBinB (l : Launch) (G : xG) (hG : xGood G) (L : List Nat) (kd : Nat → Bool) (hs : Nat → Int32) (ky vl : Nat → Nat) (nx bf af pa lf rt pv : Nat → Option Nat) (rd : Nat → Int32) (M : Nat) (tbo es : Option Nat) (sz th : Nat) (mc : Int32) (hd tl : Option Nat) (tb cap b : Nat) (tf : Nat → Option Nat) (hc1 : 1 ≤ cap) (hc2 : cap ≤ 1024) (hb : b < cap) (hc64 : 64 ≤ cap) (hz : Int32) (hhb : (nI (cap - 1) &&& hz) = nI b) (ord Lb : List Nat) (x0 : Nat) (hf : tf b = some x0) (hseg : seg nx (some x0) Lb none) (hk9 : ∀ a, a ∈ Lb → kd a = false) (hl : lnk bf af hd tl ord) (hoL : ∀ a, a ∈ ord → a ∈ L) (hLo : ∀ a, a ∈ Lb → a ∈ ord) (hnd : Lb.Nodup) (hlen : 6 < Lb.length) (hixs : ∀ a, a ∈ Lb → (nI (cap - 1) &&& hs a) = nI b) (hinj : ∀ a a9, a ∈ ord → a9 ∈ ord → hs a = hs a9 → a = a9) : xWm l G yJ20_treeifyBin (Cond.code yJ20_treeifyBin cJ20_treeifyBin 9 none) { frames := 5, locals := 116, cells := Lb.length, slots := 11 * Lb.length } [.ref M, .ref tb, .int hz] ([(M, .inr (25, [va_rf tbo, va_rf es, .int (nI sz), .int mc, .int (nI th), .float 1061158912, .null, .null, va_rf hd, va_rf tl, .int 0, .int 0])), (tb, .inl (8, cap, .inr (.inr (.inr (.inr tf)))))] ++ stW L (ndX kd hs ky vl nx bf af pa lf rt pv rd)) (fun v w' => ∃ (L' ord' Ns : List Nat) (kd' : Nat → Bool) (hs' : Nat → Int32) (ky' vl' : Nat → Nat) (nx' bf' af' pa' lf' rt' pv' : Nat → Option Nat) (rd' : Nat → Int32) (hd' tl' : Option Nat) (root : Nat), v = none ∧ brI L ord kd hs ky vl nx pa lf rt pv Lb L' ord' kd' hs' ky' vl' nx' bf' af' pa' lf' rt' pv' hd' tl' Ns ∧ binI kd' hs' nx' pa' lf' rt' pv' (some root) Ns ∧ (∀ a, a ∈ Ns → kd' a = true) ∧ w' = ([(M, .inr (25, [va_rf tbo, va_rf es, .int (nI sz), .int mc, .int (nI th), .float 1061158912, .null, .null, va_rf hd', va_rf tl', .int 0, .int 0])), (tb, .inl (8, cap, .inr (.inr (.inr (.inr (va_up tf b (some root)))))))] ++ stW L' (ndX kd' hs' ky' vl' nx' bf' af' pa' lf' rt' pv' rd'))) (fun _ _ => False) := by
  intro V hV
  refine xMet_ofT RJ20 hG rfl (by decide) (Nat.le_of_ble_eq_true rfl) fun C hC hQ hX hl hg _ hTab => ?_
  subst hl hg
  have hx0 : x0 ∈ Lb := by obtain ⟨t9, ht9⟩ := seg_some hseg; rw [ht9]; exact List.mem_cons_self
  obtain ⟨V0, hV0⟩ : ∃ V0, V0 = V := ⟨_, rfl⟩
  obtain ⟨F, hF⟩ : ∃ F, F = xF ([(M, .inr (25, [va_rf tbo, va_rf es, .int (nI sz), .int mc, .int (nI th), .float 1061158912, .null, .null, va_rf hd, va_rf tl, .int 0, .int 0])), (tb, .inl (8, cap, .inr (.inr (.inr (.inr tf)))))] ++ stW L (ndX kd hs ky vl nx bf af pa lf rt pv rd)) := ⟨_, rfl⟩
  refine rn.mono (J := xSt F V0 ([(M, .inr (25, [va_rf tbo, va_rf es, .int (nI sz), .int mc, .int (nI th), .float 1061158912, .null, .null, va_rf hd, va_rf tl, .int 0, .int 0])), (tb, .inl (8, cap, .inr (.inr (.inr (.inr tf)))))] ++ stW L (ndX kd hs ky vl nx bf af pa lf rt pv rd))) (fun V9 h => by rw [h, hV0, hF]; exact hV.st) ?_
  show rn C (xSt F V0 ([(M, .inr (25, [va_rf tbo, va_rf es, .int (nI sz), .int mc, .int (nI th), .float 1061158912, .null, .null, va_rf hd, va_rf tl, .int 0, .int 0])), (tb, .inl (8, cap, .inr (.inr (.inr (.inr tf)))))] ++ stW L (ndX kd hs ky vl nx bf af pa lf rt pv rd))) 0 0 0 [(0, .ref M), (1, .ref tb), (2, .int hz)] []
  refine r_aload_n hC 1 dJ20_treeifyBin_0 rfl 1 rfl ?_
  refine r_ifnull hC dJ20_treeifyBin_1 4 rfl ?_
  refine r_aload_n hC 1 dJ20_treeifyBin_4 rfl 5 rfl ?_
  refine r_alen hC (nI cap) (t := 8) rfl (fun _ h => h.get 1 rfl) rfl dJ20_treeifyBin_5 6 rfl ?_
  refine r_dup hC dJ20_treeifyBin_6 rfl 7 rfl ?_
  refine r_istore_n hC 3 [(3, .int (nI cap)), (0, .ref M), (1, .ref tb), (2, .int hz)] dJ20_treeifyBin_7 rfl (Nat.le_of_ble_eq_true rfl) rfl 8 rfl ?_
  refine r_bipush hC 64 dJ20_treeifyBin_8 bp_64 10 rfl ?_
  refine r_icge hC 21 dJ20_treeifyBin_10 (by decide) 13 rfl (fun _ => ?_) (fun h => absurd (nI_le (a := 64) (b := cap) hc64 (by omega)) h)
  refine r_aload_n hC 2 dJ20_treeifyBin_21 rfl 22 rfl ?_
  refine r_iload_n hC 0 dJ20_treeifyBin_22 rfl 23 rfl ?_
  refine r_iconst hC 1 dJ20_treeifyBin_23 ic_1 24 rfl ?_
  refine r_isub hC (nI (cap - 1)) dJ20_treeifyBin_24  (pk_sub (a := cap) (b := 1) (by omega)) 25 rfl ?_
  refine r_iload_n hC 3 dJ20_treeifyBin_25 rfl 26 rfl ?_
  refine r_iand hC (nI b) dJ20_treeifyBin_26  (hhb) 27 rfl ?_
  refine r_dup hC dJ20_treeifyBin_27 rfl 28 rfl ?_
  refine r_istore hC 4 [(4, .int (nI b)), (3, .int (nI cap)), (0, .ref M), (1, .ref tb), (2, .int hz)] dJ20_treeifyBin_28 (Nat.le_of_ble_eq_true rfl) rfl 30 rfl ?_
  refine r_aald hC b (xix_n b hb (by omega)) (t := 8) rfl rfl (fun _ h => h.get 1 rfl) (some x0) (hf) dJ20_treeifyBin_30 31 rfl ?_
  show rn C (xSt F V0 ([(M, .inr (25, [va_rf tbo, va_rf es, .int (nI sz), .int mc, .int (nI th), .float 1061158912, .null, .null, va_rf hd, va_rf tl, .int 0, .int 0])), (tb, .inl (8, cap, .inr (.inr (.inr (.inr tf)))))] ++ stW L (ndX kd hs ky vl nx bf af pa lf rt pv rd))) 0 0 31 [(4, .int (nI b)), (3, .int (nI cap)), (0, .ref M), (1, .ref tb), (2, .int hz)] [.ref x0]
  refine r_dup hC dJ20_treeifyBin_31 rfl 32 rfl ?_
  refine r_astore hC 5 [(5, .ref x0), (4, .int (nI b)), (3, .int (nI cap)), (0, .ref M), (1, .ref tb), (2, .int hz)] dJ20_treeifyBin_32 (Nat.le_of_ble_eq_true rfl) rfl 34 rfl ?_
  refine r_ifnull hC dJ20_treeifyBin_34 37 rfl ?_
  refine r_null hC dJ20_treeifyBin_37 38 rfl ?_
  refine r_astoreN hC 6 [(6, .null), (5, .ref x0), (4, .int (nI b)), (3, .int (nI cap)), (0, .ref M), (1, .ref tb), (2, .int hz)] dJ20_treeifyBin_38 (Nat.le_of_ble_eq_true rfl) rfl 40 rfl ?_
  refine r_null hC dJ20_treeifyBin_40 41 rfl ?_
  refine r_astoreN hC 7 [(7, .null), (6, .null), (5, .ref x0), (4, .int (nI b)), (3, .int (nI cap)), (0, .ref M), (1, .ref tb), (2, .int hz)] dJ20_treeifyBin_41 (Nat.le_of_ble_eq_true rfl) rfl 43 rfl ?_
  refine rn.sub (lv' := [(5, .ref x0), (7, .null), (6, .null), (4, .int (nI b)), (1, .ref tb), (0, .ref M)]) [2, 0, 1, 3, 6, 5] rfl ?_
  refine lpJ_rbt Lb.length (11 * Lb.length) hG hC L kd hs ky vl nx pa lf rt pv ord Lb M tbo es sz th mc tb cap tf b hk9 (fun N L1 kd1 hs1 ky1 vl1 nx1 bf1 af1 pa1 lf1 rt1 pv1 rd1 hd1 tl1 ord1 k' n' hR' hk' hn' => ?_) Lb [] [] L kd hs ky vl nx bf af pa lf rt pv rd hd tl ord (some x0) 0 0 hseg (rbI.start hl hoL hLo hnd) (by omega) (by omega) (fun e => by rw [e] at hlen; cases hlen)
  obtain ⟨hN, tN, hNe⟩ : ∃ hN tN, N = hN :: tN := by
    cases hN9 : N with
    | nil => exfalso; have h9 := congrArg List.length hR'.2.2.2.2.2.1; rw [hN9, List.length_map] at h9; simp at h9; rw [← h9] at hlen; cases hlen
    | cons c t => exact ⟨c, t, rfl⟩
  have hNm : hN ∈ N := by rw [hNe]; exact List.mem_cons_self
  have hN1 := hR'.2.1 hN hNm
  rw [show N.head? = some hN by rw [hNe]; rfl]
  show rn C (xSt F V0 ([(M, .inr (25, [va_rf tbo, va_rf es, .int (nI sz), .int mc, .int (nI th), .float 1061158912, .null, .null, va_rf hd1, va_rf tl1, .int 0, .int 0])), (tb, .inl (8, cap, .inr (.inr (.inr (.inr tf)))))] ++ stW L1 (ndX kd1 hs1 ky1 vl1 nx1 bf1 af1 pa1 lf1 rt1 pv1 rd1))) k' n' 93 [(6, .ref hN), (4, .int (nI b)), (1, .ref tb)] []
  refine r_aload_n hC 2 dJ20_treeifyBin_93 rfl 94 rfl ?_
  refine r_iload hC 1 dJ20_treeifyBin_94 rfl 96 rfl ?_
  refine r_aload hC 0 dJ20_treeifyBin_96 rfl 98 rfl ?_
  refine r_dupx2 hC dJ20_treeifyBin_98 rfl rfl rfl 99 rfl ?_
  refine r_aastO (J := xSt F V0 ([(M, .inr (25, [va_rf tbo, va_rf es, .int (nI sz), .int mc, .int (nI th), .float 1061158912, .null, .null, va_rf hd1, va_rf tl1, .int 0, .int 0])), (tb, .inl (8, cap, .inr (.inr (.inr (.inr (va_up tf b (some hN)))))))] ++ stW L1 (ndX kd1 hs1 ky1 vl1 nx1 bf1 af1 pa1 lf1 rt1 pv1 rd1))) hC hG kJ26 q3423 b (xix_n b hb (by omega)) rfl (fun _ h => ⟨_, stW_get h hN1.1 (ndX_t hN1.2.2)⟩) (fun _ h => h.get 1 rfl) dJ20_treeifyBin_99 (fun _ h => h.set 1 _ rfl) 100 rfl ?_
  refine r_ifnull hC dJ20_treeifyBin_100 103 rfl ?_
  refine r_aload hC 0 dJ20_treeifyBin_103 rfl 105 rfl ?_
  refine r_aload_n hC 2 dJ20_treeifyBin_105 rfl 106 rfl ?_
  refine xCall.ct (wcx := [(tb, .inl (8, cap, .inr (.inr (.inr (.inr (va_up tf b (some hN)))))))]) (wr := [(M, .inr (25, [va_rf tbo, va_rf es, .int (nI sz), .int mc, .int (nI th), .float 1061158912, .null, .null, va_rf hd1, va_rf tl1, .int 0, .int 0]))]) (r_cV hC kJ26 hN [.ref tb] mVJ26_treeify q2351 (fun _ h => ⟨_, stW_get h hN1.1 (ndX_t hN1.2.2)⟩) (fun V9 h9 => (metJ26_treeify _ _ hG L1 kd1 hs1 ky1 vl1 nx1 bf1 af1 pa1 lf1 rt1 pv1 rd1 tb cap b (va_up tf b (some hN)) hc1 hc2 hb hN N (fun a ha => ⟨(hR'.2.1 a ha).1, (hR'.2.1 a ha).2.2⟩) hR'.2.2.1 (rb_inj hR' hinj) (by rw [hNe]; exact List.cons_ne_nil _ _) (up_same _ _ _) (by have h8 := hR'.2.2.2.1; rw [show N.head? = some hN by rw [hNe]; rfl] at h8; exact h8) (hR'.2.2.2.2.1 rfl) (rb_ix hR' hixs)) V9 (h9.in.cut (wcx := [(tb, .inl (8, cap, .inr (.inr (.inr (.inr (va_up tf b (some hN)))))))]) (wr := [(M, .inr (25, [va_rf tbo, va_rf es, .int (nI sz), .int mc, .int (nI th), .float 1061158912, .null, .null, va_rf hd1, va_rf tl1, .int 0, .int 0]))]) [1] [0] 2 rfl rfl rfl rfl)) ⟨rfl, rfl⟩ (by first | omega | (dsimp only; omega)) (by first | omega | (dsimp only; omega)) rfl (Nat.le_of_ble_eq_true rfl) dJ20_treeifyBin_106) [1] [0] 2 rfl rfl rfl rfl k' n' 109 rfl rfl rfl (fun v16 w17 h18 => ?_) (fun _ _ h => h.elim)
  obtain ⟨nx1, pv2, pa3, lf4, rt5, rd6, ro7, la8, lb9, rfl, hN10, hT11, hS12, hB13, hu14, ho15, rfl⟩ := h18
  refine rn.mono (J := xSt F V0 ([(M, .inr (25, [va_rf tbo, va_rf es, .int (nI sz), .int mc, .int (nI th), .float 1061158912, .null, .null, va_rf hd1, va_rf tl1, .int 0, .int 0])), (tb, .inl (8, cap, .inr (.inr (.inr (.inr (va_up (va_up tf b (some hN)) b (some ro7)))))))] ++ stW L1 (ndX kd1 hs1 ky1 vl1 nx1 bf1 af1 pa3 lf4 rt5 pv2 rd6))) (fun _ h => by rw [← List.append_assoc] at h; exact h) ?_
  show rn C (xSt F V0 ([(M, .inr (25, [va_rf tbo, va_rf es, .int (nI sz), .int mc, .int (nI th), .float 1061158912, .null, .null, va_rf hd1, va_rf tl1, .int 0, .int 0])), (tb, .inl (8, cap, .inr (.inr (.inr (.inr (va_up (va_up tf b (some hN)) b (some ro7)))))))] ++ stW L1 (ndX kd1 hs1 ky1 vl1 nx1 bf1 af1 pa3 lf4 rt5 pv2 rd6))) k' n' 109 [(6, .ref hN), (4, .int (nI b)), (1, .ref tb)] []
  exact r_vret hC (by first | omega | (dsimp only; omega)) (by first | omega | (dsimp only; omega)) (fun V9 h => hQ _ _ ⟨_, ⟨L1, ord1, ro7 :: (la8 ++ lb9), kd1, hs1, ky1, vl1, nx1, bf1, af1, pa3, lf4, rt5, pv2, rd6, hd1, tl1, ro7, rfl, (br_tree hR' hlen hN10 hT11 hS12 hB13 hu14 ho15).1, (br_tree hR' hlen hN10 hT11 hS12 hB13 hu14 ho15).2, (fun a ha => (hR'.2.1 a (by rw [hN10]; exact mem_rot ha)).2.2), rfl⟩, by rw [← hV0, ← hF]; rw [up_up] at h; exact h.ordT [0, 1] 2 rfl rfl rfl⟩) dJ20_treeifyBin_109
