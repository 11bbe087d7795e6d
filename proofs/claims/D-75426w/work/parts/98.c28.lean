/-! ===== the JDK: ArrayDeque.addLast of a shared approach; the class: State.copy ===== -/
set_option maxRecDepth 100000
/-- x is an object of class 12 that isn't owned -/
def shx (own : List Nat) (x : Nat) (fs : List Value) (V : xV) : Prop := x < V.1 ∧ x ∉ own ∧ V.2 x = some (.inr (12, fs))
theorem dqA.snoc {PL : List (Nat × (Int32 × Int32 × Int32))} {r : Nat → Int64} {m z i m' z' x : Nat} {f f' : Nat → Option Nat} (hD : dqA PL r m z i f) (h1 : ∀ j, j < i → f' (dqT m' z' j) = f (dqT m z j)) (h2 : f' (dqT m' z' i) = some x) (hx : (x, apQ r i) ∈ PL) : dqA PL r m' z' (i + 1) f' := by
  intro j hj
  by_cases hq : j = i
  · subst hq
    exact ⟨x, h2, hx⟩
  · obtain ⟨y, h3, h4⟩ := hD j (by omega)
    exact ⟨y, (h1 j (by omega)).trans h3, h4⟩
set_option maxHeartbeats 4000000 in
set_option maxRecDepth 100000 in
theorem metJ1_addLastBs (l : Launch) (G : xG) (hG : xGood G) (a e m z n : Nat) (f : Nat → Option Nat) (hm : m < 65536) (hh : z < m) (hn : n < m) (hn1 : n + 1 < m) (x : Nat) (fs : List Value) : xWmP (fun V => True ∧ shx [a, e] x fs V) l G yJ1_addLast (Cond.code yJ1_addLast cJ1_addLast 3 none) { frames := 4, locals := 132, cells := 1, slots := 36 } [.ref a, .ref x] [(a, .inr (19, [.ref e, .int (nI z), .int (nI (dqT m z n))])), (e, .inl (3, m, .inr (.inr (.inr (.inr f)))))] (fun v w' => v = none ∧ w' = [(a, .inr (19, [.ref e, .int (nI z), .int (nI (dqT m z (n + 1)))])), (e, .inl (3, m, .inr (.inr (.inr (.inr (va_up f (dqT m z n) (some x)))))))]) (fun _ _ => False) := by
  intro V hP hV
  refine xMet_ofT RJ1 hG rfl (by decide) (Nat.le_of_ble_eq_true rfl) fun C hC hQ hX hl hg _ hTab => ?_
  subst hl hg
  obtain ⟨V0, hV0⟩ : ∃ V0, V0 = V := ⟨_, rfl⟩
  obtain ⟨F, hF⟩ : ∃ F, F = xF [(a, .inr (19, [.ref e, .int (nI z), .int (nI (dqT m z n))])), (e, .inl (3, m, .inr (.inr (.inr (.inr f)))))] := ⟨_, rfl⟩
  rw [← hV0] at hP
  refine rn.mono (J := xSt F V0 [(a, .inr (19, [.ref e, .int (nI z), .int (nI (dqT m z n))])), (e, .inl (3, m, .inr (.inr (.inr (.inr f)))))]) (fun V9 h => by rw [h, hV0, hF]; exact hV.st) ?_
  show rn C (xSt F V0 [(a, .inr (19, [.ref e, .int (nI z), .int (nI (dqT m z n))])), (e, .inl (3, m, .inr (.inr (.inr (.inr f)))))]) 0 0 0 [(0, .ref a), (1, .ref x)] []
  refine r_aload_n hC 1 dJ1_addLast_0 rfl 1 rfl ?_
  refine r_ifnonnull hC 12 dJ1_addLast_1 (by decide) ?_
  refine r_aload_n hC 0 dJ1_addLast_12 rfl 13 rfl ?_
  refine r_get (v := .ref e) hC kJ1 0 rfl q238 (fun _ h => h.get 0 rfl) rfl dJ1_addLast_13 16 rfl ?_
  refine r_astore_n hC 2 [(2, .ref e), (0, .ref a), (1, .ref x)] dJ1_addLast_16 rfl (Nat.le_of_ble_eq_true rfl) rfl 17 rfl ?_
  refine r_aload_n hC 0 dJ1_addLast_17 rfl 18 rfl ?_
  refine r_aload_n hC 1 dJ1_addLast_18 rfl 19 rfl ?_
  refine r_get (v := .int (nI (dqT m z n))) hC kJ1 2 rfl q242 (fun _ h => h.get 0 rfl) rfl dJ1_addLast_19 22 rfl ?_
  refine r_aload_n hC 2 dJ1_addLast_22 rfl 23 rfl ?_
  refine r_aastO (J := xSt F V0 [(a, .inr (19, [.ref e, .int (nI z), .int (nI (dqT m z n))])), (e, .inl (3, m, .inr (.inr (.inr (.inr (va_up f (dqT m z n) (some x)))))))]) hC hG kX14 q3407 (dqT m z n) (xix_n (dqT m z n) (dqT_lt hh (by omega)) (by omega)) rfl (fun _ h => ⟨fs, h.old hP.2.2.2 hP.2.1 (by rw [hF]; exact xF_not (by simpa using hP.2.2.1))⟩) (fun _ h => h.get 1 rfl) dJ1_addLast_23 (fun _ h => h.set 1 _ rfl) 24 rfl ?_
  refine r_aload_n hC 1 dJ1_addLast_24 rfl 25 rfl ?_
  refine r_get (v := .int (nI z)) hC kJ1 1 rfl q241 (fun _ h => h.get 0 rfl) rfl dJ1_addLast_25 28 rfl ?_
  refine r_aload_n hC 1 dJ1_addLast_28 rfl 29 rfl ?_
  refine r_aload_n hC 1 dJ1_addLast_29 rfl 30 rfl ?_
  refine r_get (v := .int (nI (dqT m z n))) hC kJ1 2 rfl q242 (fun _ h => h.get 0 rfl) rfl dJ1_addLast_30 33 rfl ?_
  refine r_aload_n hC 0 dJ1_addLast_33 rfl 34 rfl ?_
  refine r_alen hC (nI m) (t := 3) rfl (fun _ h => h.get 1 rfl) rfl dJ1_addLast_34 35 rfl ?_
  refine xCall.r (r := some (.int (nI (incQ (dqT m z n) m)))) (r_cS hC [.int (nI (dqT m z n)), .int (nI m)] mSJ1_inc q634 (fun V9 h9 => (metJ1_inc _ _ hG (dqT m z n) m (dqT_lt hh (by omega)) hm) V9 xIn.nil) ⟨rfl, rfl⟩ (Nat.le_of_ble_eq_true rfl) (Nat.le_of_ble_eq_true rfl) rfl (Nat.le_of_ble_eq_true rfl) dJ1_addLast_35) 0 0 38 rfl rfl rfl ?_
  refine r_dup_x1 hC dJ1_addLast_38 rfl rfl 39 rfl ?_
  refine r_put (J := xSt F V0 [(a, .inr (19, [.ref e, .int (nI z), .int (nI (incQ (dqT m z n) m))])), (e, .inl (3, m, .inr (.inr (.inr (.inr (va_up f (dqT m z n) (some x)))))))]) hC kJ1 2 rfl q242 rfl (fun _ h => h.get 0 rfl) (Nat.le_of_ble_eq_true rfl) (rfl) (rfl) dJ1_addLast_39 (fun _ h => h.set 0 _ rfl) 42 rfl ?_
  refine r_icne hC 50 dJ1_addLast_42 (by decide) 45 rfl (fun _ => ?_) (fun h => absurd h (fun q => dqT_ne hh hn1 (by omega) ((eq_nI (by omega) (by have := dqT_lt hh (Nat.le_of_lt hn1); omega)).mp (by rw [← dqT_inc hh (by omega)]; exact q))))
  have he9 : (.int (nI (incQ (dqT m z n) m)) : Value) = .int (nI (dqT m z (n + 1))) := by rw [dqT_inc hh (by omega)]
  refine rn.mono (J := xSt F V0 [(a, .inr (19, [.ref e, .int (nI z), .int (nI (dqT m z (n + 1)))])), (e, .inl (3, m, .inr (.inr (.inr (.inr (va_up f (dqT m z n) (some x)))))))]) (fun _ h => by rw [he9] at h; exact h) ?_
  exact r_vret hC (Nat.le_of_ble_eq_true rfl) (Nat.le_of_ble_eq_true rfl) (fun V9 h => hQ _ _ ⟨[(a, .inr (19, [.ref e, .int (nI z), .int (nI (dqT m z (n + 1)))])), (e, .inl (3, m, .inr (.inr (.inr (.inr (va_up f (dqT m z n) (some x)))))))], ⟨rfl, rfl⟩, by rw [← hV0, ← hF]; exact h⟩) dJ1_addLast_50
set_option maxHeartbeats 4000000 in
set_option maxRecDepth 100000 in
theorem metJ1_addLastGs (l : Launch) (G : xG) (hG : xGood G) (a e mi x x0 : Nat) (fs : List Value) (f : Nat → Option Nat) (hM : va_Mi "[Ljava/lang/Object;" mi G.1) (hx0 : f 0 = some x0) : xWmP (fun V => xSh 12 [a, e] f 16 V ∧ shx [a, e] x fs V) l G yJ1_addLast (Cond.code yJ1_addLast cJ1_addLast 3 none) { frames := 4, locals := 132, cells := 1, slots := 36 } [.ref a, .ref x] [(a, .inr (19, [.ref e, .int 0, .int 16])), (e, .inl (3, 17, .inr (.inr (.inr (.inr f)))))] (fun v w' => v = none ∧ ∃ (e' : Nat) (f' : Nat → Option Nat), (∀ j, j < 17 → f' (19 + j) = va_up f 16 (some x) j) ∧ w' = [(a, .inr (19, [.ref e', .int (nI 19), .int (nI (dqT 36 19 17))])), (e', .inl (3, 36, .inr (.inr (.inr (.inr f')))))]) (fun _ _ => False) := by
  intro V hP hV
  refine xMet_ofT RJ1 hG rfl (by decide) (Nat.le_of_ble_eq_true rfl) fun C hC hQ hX hl hg _ hTab => ?_
  subst hl hg
  obtain ⟨V0, hV0⟩ : ∃ V0, V0 = V := ⟨_, rfl⟩
  obtain ⟨F, hF⟩ : ∃ F, F = xF [(a, .inr (19, [.ref e, .int 0, .int 16])), (e, .inl (3, 17, .inr (.inr (.inr (.inr f)))))] := ⟨_, rfl⟩
  rw [← hV0] at hP
  refine rn.mono (J := xSt F V0 [(a, .inr (19, [.ref e, .int 0, .int 16])), (e, .inl (3, 17, .inr (.inr (.inr (.inr f)))))]) (fun V9 h => by rw [h, hV0, hF]; exact hV.st) ?_
  show rn C (xSt F V0 [(a, .inr (19, [.ref e, .int 0, .int 16])), (e, .inl (3, 17, .inr (.inr (.inr (.inr f)))))]) 0 0 0 [(0, .ref a), (1, .ref x)] []
  refine r_aload_n hC 1 dJ1_addLast_0 rfl 1 rfl ?_
  refine r_ifnonnull hC 12 dJ1_addLast_1 (by decide) ?_
  refine r_aload_n hC 0 dJ1_addLast_12 rfl 13 rfl ?_
  refine r_get (v := .ref e) hC kJ1 0 rfl q238 (fun _ h => h.get 0 rfl) rfl dJ1_addLast_13 16 rfl ?_
  refine r_astore_n hC 2 [(2, .ref e), (0, .ref a), (1, .ref x)] dJ1_addLast_16 rfl (Nat.le_of_ble_eq_true rfl) rfl 17 rfl ?_
  refine r_aload_n hC 0 dJ1_addLast_17 rfl 18 rfl ?_
  refine r_aload_n hC 1 dJ1_addLast_18 rfl 19 rfl ?_
  refine r_get (v := .int 16) hC kJ1 2 rfl q242 (fun _ h => h.get 0 rfl) rfl dJ1_addLast_19 22 rfl ?_
  refine r_aload_n hC 2 dJ1_addLast_22 rfl 23 rfl ?_
  refine r_aastO (J := xSt F V0 [(a, .inr (19, [.ref e, .int 0, .int 16])), (e, .inl (3, 17, .inr (.inr (.inr (.inr (va_up f 16 (some x)))))))]) hC hG kX14 q3407 16 (xix_n 16 (Nat.le_of_ble_eq_true rfl) (Nat.le_of_ble_eq_true rfl)) rfl (fun _ h => ⟨fs, h.old hP.2.2.2 hP.2.1 (by rw [hF]; exact xF_not (by simpa using hP.2.2.1))⟩) (fun _ h => h.get 1 rfl) dJ1_addLast_23 (fun _ h => h.set 1 _ rfl) 24 rfl ?_
  refine r_aload_n hC 1 dJ1_addLast_24 rfl 25 rfl ?_
  refine r_get (v := .int 0) hC kJ1 1 rfl q241 (fun _ h => h.get 0 rfl) rfl dJ1_addLast_25 28 rfl ?_
  refine r_aload_n hC 1 dJ1_addLast_28 rfl 29 rfl ?_
  refine r_aload_n hC 1 dJ1_addLast_29 rfl 30 rfl ?_
  refine r_get (v := .int 16) hC kJ1 2 rfl q242 (fun _ h => h.get 0 rfl) rfl dJ1_addLast_30 33 rfl ?_
  refine r_aload_n hC 0 dJ1_addLast_33 rfl 34 rfl ?_
  refine r_alen hC 17 (t := 3) rfl (fun _ h => h.get 1 rfl) rfl dJ1_addLast_34 35 rfl ?_
  refine xCall.r (r := some (.int (nI (incQ 16 17)))) (r_cS hC [.int 16, .int 17] mSJ1_inc q634 (fun V9 h9 => (metJ1_inc _ _ hG 16 17 (by decide) (by decide)) V9 xIn.nil) ⟨rfl, rfl⟩ (Nat.le_of_ble_eq_true rfl) (Nat.le_of_ble_eq_true rfl) rfl (Nat.le_of_ble_eq_true rfl) dJ1_addLast_35) 0 0 38 rfl rfl rfl ?_
  refine r_eqi (y := 0) (by decide) ?_
  refine r_dup_x1 hC dJ1_addLast_38 rfl rfl 39 rfl ?_
  refine r_put (J := xSt F V0 [(a, .inr (19, [.ref e, .int 0, .int 0])), (e, .inl (3, 17, .inr (.inr (.inr (.inr (va_up f 16 (some x)))))))]) hC kJ1 2 rfl q242 rfl (fun _ h => h.get 0 rfl) (Nat.le_of_ble_eq_true rfl) (rfl) (rfl) dJ1_addLast_39 (fun _ h => h.set 0 _ rfl) 42 rfl ?_
  refine r_icne hC 50 dJ1_addLast_42 (by decide) 45 rfl (fun h => absurd h (by decide)) (fun _ => ?_)
  refine r_aload_n hC 1 dJ1_addLast_45 rfl 46 rfl ?_
  refine r_iconst hC 1 dJ1_addLast_46 ic_1 47 rfl ?_
  refine xCall.w (wr := []) (r_cV hC kJ1 a [.int 1] mVJ1_grow q786 (fun _ h => ⟨_, h.get 0 rfl⟩) (fun V9 h9 => (metJ1_grow _ _ hG a e mi x0 (va_up f 16 (some x)) hM ((up_ne (by decide)).trans hx0)) V9 (xSh_up (fs := fs) (xSh_st hP.1 h9 (fun a9 ha => by rw [hF]; exact xF_not (by simpa using ha)) (fun a9 ha => ha)) (Nat.lt_of_lt_of_le hP.2.1 h9.2.2.1) hP.2.2.1 (h9.old hP.2.2.2 hP.2.1 (by rw [hF]; exact xF_not (by simpa using hP.2.2.1)))) (h9.in.sub [0, 1] rfl rfl)) ⟨rfl, rfl⟩ (Nat.le_of_ble_eq_true rfl) (Nat.le_of_ble_eq_true rfl) rfl (Nat.le_of_ble_eq_true rfl) dJ1_addLast_47) [0, 1] [] rfl rfl rfl (by decide) 1 36 50 rfl rfl rfl (fun v4 w5 h6 => ?_) (fun _ _ h => h.elim)
  obtain ⟨rfl, e1, f2, hf3, rfl⟩ := h6
  show rn C (xSt F V0 [(a, .inr (19, [.ref e1, .int (nI 19), .int (nI (dqT 36 19 17))])), (e1, .inl (3, 36, .inr (.inr (.inr (.inr f2)))))]) 1 36 50 [(2, .ref e), (0, .ref a), (1, .ref x)] []
  exact r_vret hC (Nat.le_of_ble_eq_true rfl) (Nat.le_of_ble_eq_true rfl) (fun V9 h => hQ _ _ ⟨[(a, .inr (19, [.ref e1, .int (nI 19), .int (nI (dqT 36 19 17))])), (e1, .inl (3, 36, .inr (.inr (.inr (.inr f2)))))], ⟨rfl, e1, f2, hf3, rfl⟩, by rw [← hV0, ← hF]; exact (h.sub [0, 1] rfl rfl)⟩) dJ1_addLast_50
set_option maxHeartbeats 4000000 in
set_option maxRecDepth 100000 in
theorem metJ1_addS (l : Launch) (G : xG) (hG : xGood G) (a e m z n x : Nat) (f : Nat → Option Nat) (fs : List Value) (hS : dqS m z n) (hn : n < 30) (hfull : ∀ i, i < n → ∃ x0, f (dqT m z i) = some x0) : xWmP (fun V => xSh 12 [a, e] (fun i => f (dqT m z i)) n V ∧ shx [a, e] x fs V) l G yJ1_addLast (Cond.code yJ1_addLast cJ1_addLast 3 none) { frames := 4, locals := 132, cells := 1, slots := 36 } [.ref a, .ref x] [(a, .inr (19, [.ref e, .int (nI z), .int (nI (dqT m z n))])), (e, .inl (3, m, .inr (.inr (.inr (.inr f)))))] (fun v w' => v = none ∧ ∃ (m' z' e' : Nat) (f' : Nat → Option Nat), dqS m' z' (n + 1) ∧ (∀ i, i < n → f' (dqT m' z' i) = f (dqT m z i)) ∧ f' (dqT m' z' n) = some x ∧ w' = [(a, .inr (19, [.ref e', .int (nI z'), .int (nI (dqT m' z' (n + 1)))])), (e', .inl (3, m', .inr (.inr (.inr (.inr f')))))]) (fun _ _ => False) := by
  intro V hP hV
  by_cases hg : n + 1 < m
  · refine xMet.imp (metJ1_addLastBs l G hG a e m z n f hS.m hS.z hS.n hg x fs V ⟨trivial, hP.2⟩ hV) (fun v V' h => ?_) (fun _ _ h => h)
    obtain ⟨w', ⟨h1, h2⟩, h3⟩ := h
    refine ⟨w', ⟨h1, m, z, e, va_up f (dqT m z n) (some x), ?_, fun i hi => ?_, up_same _ _ _, h2⟩, h3⟩
    · unfold dqS at hS ⊢; omega
    · exact up_ne (fun hh => by have := dqT_inj hS.z (by have := hS.n; omega) hS.n hh; omega)
  · have h17 : m = 17 ∧ z = 0 ∧ n = 16 := by unfold dqS at hS; omega
    obtain ⟨rfl, rfl, rfl⟩ := h17
    obtain ⟨x0, hx0⟩ := hfull 0 (by omega)
    rw [dqT_17 (by omega)] at hx0
    obtain ⟨mi, hM⟩ := mirO hG
    have he : (Value.int (nI (dqT 17 0 16))) = .int 16 := by rw [dqT_17 (by omega)]; rfl
    have he0 : (Value.int (nI 0)) = .int 0 := rfl
    rw [he, he0] at hV ⊢
    refine xMet.imp (metJ1_addLastGs l G hG a e mi x x0 fs f hM hx0 V ⟨?_, hP.2⟩ hV) (fun v V' h => ?_) (fun _ _ h => h)
    · intro j y hj hy
      exact hP.1 j y hj (by show f (dqT 17 0 j) = some y; rw [dqT_17 (by omega)]; exact hy)
    · obtain ⟨w', ⟨h1, e', f', h2, h4⟩, h3⟩ := h
      refine ⟨w', ⟨h1, 36, 19, e', f', Or.inr (by omega), fun i hi => ?_, ?_, h4⟩, h3⟩
      · rw [dqT_36 (by omega), dqT_17 (by omega), h2 i (by omega), up_ne (by omega)]
      · rw [dqT_36 (by omega), h2 16 (by omega), up_same]
