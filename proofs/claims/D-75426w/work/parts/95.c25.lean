/-! ===== the class: State.notice ===== -/
set_option maxRecDepth 100000
theorem i32_le64 {a b : Int32} : a.toInt64 ≤ b.toInt64 ↔ a ≤ b := by
  rw [Int64.le_iff_toInt_le, Int32.toInt_toInt64, Int32.toInt_toInt64, Int32.le_iff_toInt_le]
theorem i32_lt64 {a b : Int32} : a.toInt64 < b.toInt64 ↔ a < b := by
  rw [Int64.lt_iff_toInt_lt, Int32.toInt_toInt64, Int32.toInt_toInt64, Int32.lt_iff_toInt_lt]
/-- what is remembered, on both sides -/
def meR (mm : Nat → Int64) (m : Nat) (ol la : Nat → Int32) : Prop := (m = 1 → ∀ j, j < 3 → (la j).toInt64 = mm j) ∧ (m = 2 → ∀ j, j < 3 → (ol j).toInt64 = mm j ∧ (la j).toInt64 = mm (3 + j))
/-- the same clock, scheme and bodies -/
def loE (rr r : Nat → Int64) : Prop := (rr 0 = r 0 ∧ rr 1 = r 1) ∧ ∀ x, 6 ≤ x → x < 21 → rr x = r x
theorem loE.rfl {r : Nat → Int64} : loE r r := ⟨⟨Eq.refl _, Eq.refl _⟩, fun _ _ _ => Eq.refl _⟩
theorem loE.symm {rr r : Nat → Int64} (h : loE rr r) : loE r rr := ⟨⟨h.1.1.symm, h.1.2.symm⟩, fun x h1 h2 => (h.2 x h1 h2).symm⟩
theorem loE.trans {a b c : Nat → Int64} (h : loE a b) (g : loE b c) : loE a c := ⟨⟨h.1.1.trans g.1.1, h.1.2.trans g.1.2⟩, fun x h1 h2 => (h.2 x h1 h2).trans (g.2 x h1 h2)⟩
theorem dist_lo {rr r : Nat → Int64} {p : Nat} (h : loE rr r) : distQ rr p = distQ r p := by
  have h1 := @m_first_lt p
  have h2 := @m_second_lt p
  unfold distQ
  rw [h.2 _ (by omega) (by omega), h.2 _ (by omega) (by omega), h.2 _ (by omega) (by omega), h.2 _ (by omega) (by omega)]
theorem loE_look {t mm rr r : Nat → Int64} {p : Nat} (h : loE rr r) : loE (lookP t mm rr p) r := ⟨⟨(lookP_lo (by omega) (by omega)).trans h.1.1, (lookP_lo (by omega) (by omega)).trans h.1.2⟩, fun x h1 h2 => (lookP_lo h2 (by omega)).trans (h.2 x h1 h2)⟩
theorem plIn.sh {V : xV} {ws : xW} {PL : List (Nat × (Int32 × Int32 × Int32))} {r : Nat → Int64} {m z n : Nat} {f : Nat → Option Nat} {own : List Nat} (h : plIn ws PL V) (hD : dqA PL r m z n f) (ho : ∀ a, a ∈ own → xF ws a) : xSh 12 own (fun i => f (dqT m z i)) n V := by
  intro j x hj hx
  obtain ⟨y, h1, h2⟩ := hD j hj
  have hx : f (dqT m z j) = some x := hx
  rw [h1] at hx
  obtain rfl := Option.some.inj hx
  obtain ⟨h3, h4, h5⟩ := h _ h2
  exact ⟨h3, fun ha => h4 (ho _ ha), _, h5⟩
theorem dqA.full {PL : List (Nat × (Int32 × Int32 × Int32))} {r : Nat → Int64} {m z n : Nat} {f : Nat → Option Nat} (h : dqA PL r m z n f) : ∀ i, i < n → ∃ x0, f (dqT m z i) = some x0 := fun i hi => by
  obtain ⟨x, h1, -⟩ := h i hi
  exact ⟨x, h1⟩
theorem keepA_ap {rr : Nat → Int64} {q i : Nat} {ck p d : Int64} (h : i < q) : apQ (keepA rr q ck p d) i = apQ rr i := by
  unfold apQ keepA
  rw [up_ne (by omega), up_ne (by omega), up_ne (by omega), up_ne (by omega), up_ne (by omega), up_ne (by omega), up_ne (by omega), up_ne (by omega), up_ne (by omega), up_ne (by omega), up_ne (by omega), up_ne (by omega)]
theorem keepA_new {rr : Nat → Int64} {q : Nat} {ck p d : Int64} : apQ (keepA rr q ck p d) q = (ck.toInt32, p.toInt32, d.toInt32) := by
  unfold apQ keepA
  rw [up_ne (by omega), up_ne (by omega), up_ne (by omega), up_same, up_ne (by omega), up_ne (by omega), up_same, up_ne (by omega), up_same]
theorem dqA.add {PL PL' : List (Nat × (Int32 × Int32 × Int32))} {rr : Nat → Int64} {m z q m' z' x : Nat} {f f' : Nat → Option Nat} {ck p d : Int64} (hD : dqA PL rr m z q f) (h1 : ∀ i, i < q → f' (dqT m' z' i) = f (dqT m z i)) (h2 : f' (dqT m' z' q) = some x) (hs : ∀ y, y ∈ PL → y ∈ PL') (hx : (x, ck.toInt32, p.toInt32, d.toInt32) ∈ PL') : dqA PL' (keepA rr q ck p d) m' z' (q + 1) f' := by
  intro i hi
  by_cases hq : i = q
  · subst hq
    exact ⟨x, h2, by rw [keepA_new]; exact hx⟩
  · obtain ⟨y, h3, h4⟩ := hD i (by omega)
    exact ⟨y, (h1 i (by omega)).trans h3, by rw [keepA_ap (by omega)]; exact hs _ h4⟩
theorem dqA.first {PL : List (Nat × (Int32 × Int32 × Int32))} {rr : Nat → Int64} {z : Nat} {f : Nat → Option Nat} (hD : dqA PL rr 36 z 30 f) (hz : z < 36) : dqA PL (va_up (downA rr) 5 29) 36 (incQ z 36) 29 (va_up f z none) := by
  intro i hi
  obtain ⟨y, h3, h4⟩ := hD (i + 1) (by omega)
  refine ⟨y, ?_, ?_⟩
  · have h5 := dqT_hd (n := i + 1) hz (by omega) (by omega)
    rw [Nat.add_sub_cancel] at h5
    rw [h5, up_ne (fun e => dqT_ne hz (n := i + 1) (by omega) (by omega) e.symm)]
    exact h3
  · have h6 : ∀ k, k < 87 → (va_up (downA rr) 5 29) (21 + k) = rr (24 + k) := by
      intro k hk
      rw [up_ne (by omega)]
      unfold downA
      rw [cpy_in (by omega) (by omega), show 24 + (21 + k - 21) = 24 + k by omega]
    have h7 : apQ (va_up (downA rr) 5 29) i = apQ rr (i + 1) := by
      unfold apQ
      rw [show 21 + 3 * i + 1 = 21 + (3 * i + 1) by omega, show 21 + 3 * i + 2 = 21 + (3 * i + 2) by omega, h6 _ (by omega), h6 _ (by omega), h6 _ (by omega), show 24 + 3 * i = 21 + 3 * (i + 1) by omega, show 24 + (3 * i + 1) = 21 + 3 * (i + 1) + 1 by omega, show 24 + (3 * i + 2) = 21 + 3 * (i + 1) + 2 by omega]
    rw [h7]
    exact h4
/-- the new approach, on both sides -/
theorem ap_new {rr r mm : Nat → Int64} {la : Nat → Int32} {p : Nat} (h0 : rr 0 = r 0) (hl : (la p).toInt64 = mm (3 + p)) : ((rr 0 - 1).toInt32, (nI p).toInt64.toInt32, (mm (3 + p)).toInt32) = ((r 0).toInt32 - 1, nI p, la p) := by
  rw [h0, Int64.toInt32_sub, Int32.toInt32_toInt64, ← hl, Int32.toInt32_toInt64]
  rfl
theorem lN_dist {r : Nat → Int64} {p : Nat} : (nI (distQ r p)).toInt64 = lN (distQ r p) := by
  have hd := @dist_le r p
  apply Int64.toInt_inj.mp
  rw [Int32.toInt_toInt64, nI_toInt (by omega), lN_toInt (by omega)]
set_option maxHeartbeats 4000000 in
set_option maxRecDepth 100000 in
theorem adX2_notice {C : xC} {F : Nat → Prop} {V0 : xV} {k n : Nat} (hG : xGood (xGG C)) (hC : xCtx C RX2 cX2_notice 3 none { frames := 5, locals := 154, cells := 6, slots := 117 }) (o u : Nat → Nat) (t r mm rr : Nat → Int64) (cr : Int32) (lo hi : Int64) (ol la : Nat → Int32) (ws0 : xW) (PL nw : List (Nat × (Int32 × Int32 × Int32))) (hF : F = xF ws0) (hP : plIn ws0 PL V0) (hpl : plR r) (ht : tOK t) (e m z n0 : Nat) (f : Nat → Option Nat) (p : Nat) (hp : p < 3) (hS : dqS m z n0) (hn : n0 < 30) (hD : dqA (PL ++ nw) rr m z n0 f) (h0 : rr 0 = r 0) (hla : (la p).toInt64 = mm (3 + p)) (hk : k + 2 ≤ 6) (hn0 : n + 39 ≤ 117) (kJ : ∀ (m' z' n' e' : Nat) (f' : Nat → Option Nat) (nw' : List (Nat × (Int32 × Int32 × Int32))), dqS m' z' n' → n' = cntQ (keepA rr n0 (rr 0 - 1) (nI p).toInt64 (mm (3 + p))) → dqA (PL ++ nw') (keepA rr n0 (rr 0 - 1) (nI p).toInt64 (mm (3 + p))) m' z' n' f' → rowA (keepA rr n0 (rr 0 - 1) (nI p).toInt64 (mm (3 + p))) → rn C (xSt F V0 ([(u 0, .inr (1, [.ref (o 0), .ref (u 1), .ref (u 2), .ref (u 3), .int (nI 2), .int cr, .long lo, .long hi])), (o 0, .inr (2, [.ref (o 1), .ref (o 2), .ref (o 3), .ref (o 4), .ref (o 5), .ref (o 6), .ref (o 7), .ref (o 8), .ref (o 9), .ref (o 10), .int ((r 0).toInt32)])), (o 1, .inl (0, 6, .inl (seF t r))), (o 3, .inl (0, 3, .inl (plX r))), (o 4, .inl (0, 3, .inl (plY r))), (u 2, .inl (0, 3, .inl ol)), (u 3, .inl (0, 3, .inl la)), (u 1, .inr (19, [.ref e', .int (nI z'), .int (nI (dqT m' z' n'))])), (e', .inl (3, m', .inr (.inr (.inr (.inr f')))))] ++ (nw'.map plC))) (k + 2) (n + 39) 102 [(1, .int (nI p)), (0, .ref (u 0))] []) : rn C (xSt F V0 ([(u 0, .inr (1, [.ref (o 0), .ref (u 1), .ref (u 2), .ref (u 3), .int (nI 2), .int cr, .long lo, .long hi])), (o 0, .inr (2, [.ref (o 1), .ref (o 2), .ref (o 3), .ref (o 4), .ref (o 5), .ref (o 6), .ref (o 7), .ref (o 8), .ref (o 9), .ref (o 10), .int ((r 0).toInt32)])), (o 1, .inl (0, 6, .inl (seF t r))), (o 3, .inl (0, 3, .inl (plX r))), (o 4, .inl (0, 3, .inl (plY r))), (u 2, .inl (0, 3, .inl ol)), (u 3, .inl (0, 3, .inl la)), (u 1, .inr (19, [.ref e, .int (nI z), .int (nI (dqT m z n0))])), (e, .inl (3, m, .inr (.inr (.inr (.inr f)))))] ++ (nw.map plC))) k n 77 [(2, .int (la p)), (1, .int (nI p)), (0, .ref (u 0))] [] := by
  refine r_aload_n hC 2 dX2_notice_77 rfl 78 rfl ?_
  refine r_get (v := .ref (u 1)) hC kX2 1 rfl q291 (fun _ h => h.get 0 rfl) rfl dX2_notice_78 81 rfl ?_
  refine r_new (J := fun q1 => xSt F V0 ([(u 0, .inr (1, [.ref (o 0), .ref (u 1), .ref (u 2), .ref (u 3), .int (nI 2), .int cr, .long lo, .long hi])), (o 0, .inr (2, [.ref (o 1), .ref (o 2), .ref (o 3), .ref (o 4), .ref (o 5), .ref (o 6), .ref (o 7), .ref (o 8), .ref (o 9), .ref (o 10), .int ((r 0).toInt32)])), (o 1, .inl (0, 6, .inl (seF t r))), (o 3, .inl (0, 3, .inl (plX r))), (o 4, .inl (0, 3, .inl (plY r))), (u 2, .inl (0, 3, .inl ol)), (u 3, .inl (0, 3, .inl la)), (u 1, .inr (19, [.ref e, .int (nI z), .int (nI (dqT m z n0))])), (e, .inl (3, m, .inr (.inr (.inr (.inr f))))), (q1, .inr (12, [.int 0, .int 0, .int 0]))] ++ (nw.map plC))) hC [.int 0, .int 0, .int 0] kX14 q781 q1576 q133 dfX14 (by first | omega | (dsimp only; omega)) (by first | omega | (dsimp only; omega)) dX2_notice_81 (fun _ h => h.pushT _) 84 rfl (fun q1 => ?_)
  show rn C (xSt F V0 ([(u 0, .inr (1, [.ref (o 0), .ref (u 1), .ref (u 2), .ref (u 3), .int (nI 2), .int cr, .long lo, .long hi])), (o 0, .inr (2, [.ref (o 1), .ref (o 2), .ref (o 3), .ref (o 4), .ref (o 5), .ref (o 6), .ref (o 7), .ref (o 8), .ref (o 9), .ref (o 10), .int ((r 0).toInt32)])), (o 1, .inl (0, 6, .inl (seF t r))), (o 3, .inl (0, 3, .inl (plX r))), (o 4, .inl (0, 3, .inl (plY r))), (u 2, .inl (0, 3, .inl ol)), (u 3, .inl (0, 3, .inl la)), (u 1, .inr (19, [.ref e, .int (nI z), .int (nI (dqT m z n0))])), (e, .inl (3, m, .inr (.inr (.inr (.inr f))))), (q1, .inr (12, [.int 0, .int 0, .int 0]))] ++ (nw.map plC))) (k + 1) (n + 3) 84 [(2, .int (la p)), (1, .int (nI p)), (0, .ref (u 0))] [.ref q1, .ref (u 1)]
  refine r_dup hC dX2_notice_84 rfl 85 rfl ?_
  refine r_aload_n hC 2 dX2_notice_85 rfl 86 rfl ?_
  refine r_get (v := .ref (o 0)) hC kX2 0 rfl q288 (fun _ h => h.get 0 rfl) rfl dX2_notice_86 89 rfl ?_
  refine r_getN (v := .int ((r 0).toInt32)) hC hG kX3 10 rfl q199 (fun _ h => h.get 1 rfl) rfl dX2_notice_89 92 rfl ?_
  refine r_iconst hC 1 dX2_notice_92 ic_1 93 rfl ?_
  refine r_isub hC (((r 0).toInt32) - 1) dX2_notice_93  (rfl) 94 rfl ?_
  refine r_iload_n hC 1 dX2_notice_94 rfl 95 rfl ?_
  refine r_iload_n hC 0 dX2_notice_95 rfl 96 rfl ?_
  refine xCall.t (wr := [(u 0, .inr (1, [.ref (o 0), .ref (u 1), .ref (u 2), .ref (u 3), .int (nI 2), .int cr, .long lo, .long hi])), (o 0, .inr (2, [.ref (o 1), .ref (o 2), .ref (o 3), .ref (o 4), .ref (o 5), .ref (o 6), .ref (o 7), .ref (o 8), .ref (o 9), .ref (o 10), .int ((r 0).toInt32)])), (o 1, .inl (0, 6, .inl (seF t r))), (o 3, .inl (0, 3, .inl (plX r))), (o 4, .inl (0, 3, .inl (plY r))), (u 2, .inl (0, 3, .inl ol)), (u 3, .inl (0, 3, .inl la)), (u 1, .inr (19, [.ref e, .int (nI z), .int (nI (dqT m z n0))])), (e, .inl (3, m, .inr (.inr (.inr (.inr f)))))]) (r_cI hC q1 [.int (((r 0).toInt32) - 1), .int (nI p), .int (la p)] mIX14_init q1577 (fun V9 h9 => (metX14_init _ _ hG q1 (((r 0).toInt32) - 1) (nI p) (la p)) V9 (h9.in.sub [9] rfl rfl)) ⟨rfl, rfl⟩ (by first | omega | (dsimp only; omega)) (by first | omega | (dsimp only; omega)) rfl (Nat.le_of_ble_eq_true rfl) dX2_notice_96) [9] [0, 1, 2, 3, 4, 5, 6, 7, 8] 10 rfl rfl rfl rfl ((k + 1) + 0) ((n + 3) + 0) 99 rfl rfl rfl (fun v2 w3 h4 => ?_) (fun _ _ h => h.elim)
  obtain ⟨rfl, rfl⟩ := h4
  show rn C (xSt F V0 ([(u 0, .inr (1, [.ref (o 0), .ref (u 1), .ref (u 2), .ref (u 3), .int (nI 2), .int cr, .long lo, .long hi])), (o 0, .inr (2, [.ref (o 1), .ref (o 2), .ref (o 3), .ref (o 4), .ref (o 5), .ref (o 6), .ref (o 7), .ref (o 8), .ref (o 9), .ref (o 10), .int ((r 0).toInt32)])), (o 1, .inl (0, 6, .inl (seF t r))), (o 3, .inl (0, 3, .inl (plX r))), (o 4, .inl (0, 3, .inl (plY r))), (u 2, .inl (0, 3, .inl ol)), (u 3, .inl (0, 3, .inl la)), (u 1, .inr (19, [.ref e, .int (nI z), .int (nI (dqT m z n0))])), (e, .inl (3, m, .inr (.inr (.inr (.inr f))))), (q1, .inr (12, [.int (((r 0).toInt32) - 1), .int (nI p), .int (la p)]))] ++ (nw.map plC))) ((k + 1) + 0) ((n + 3) + 0) 99 [(2, .int (la p)), (1, .int (nI p)), (0, .ref (u 0))] [.ref q1, .ref (u 1)]
  refine xCall.t (wr := [(u 0, .inr (1, [.ref (o 0), .ref (u 1), .ref (u 2), .ref (u 3), .int (nI 2), .int cr, .long lo, .long hi])), (o 0, .inr (2, [.ref (o 1), .ref (o 2), .ref (o 3), .ref (o 4), .ref (o 5), .ref (o 6), .ref (o 7), .ref (o 8), .ref (o 9), .ref (o 10), .int ((r 0).toInt32)])), (o 1, .inl (0, 6, .inl (seF t r))), (o 3, .inl (0, 3, .inl (plX r))), (o 4, .inl (0, 3, .inl (plY r))), (u 2, .inl (0, 3, .inl ol)), (u 3, .inl (0, 3, .inl la))]) (r_cV hC kJ1 (u 1) [.ref q1] mVJ1_addLast q782 (fun _ h => ⟨_, h.get 7 rfl⟩) (fun V9 h9 => (metJ1_addA _ _ hG (u 1) e m z n0 q1 f [.int (((r 0).toInt32) - 1), .int (nI p), .int (la p)] hS hn hD.full) V9 (((hP.st hF h9).left.app (plIn.tail h9)).sh hD (fun a9 ha => by rcases List.mem_cons.mp ha with rfl | ha; exact ⟨7, _, rfl⟩; rcases List.mem_cons.mp ha with rfl | ha; exact ⟨8, _, rfl⟩; rcases List.mem_cons.mp ha with rfl | ha; exact ⟨9, _, rfl⟩; cases ha)) (h9.in.sub [7, 8, 9] rfl rfl)) ⟨rfl, rfl⟩ (by first | omega | (dsimp only; omega)) (by first | omega | (dsimp only; omega)) rfl (Nat.le_of_ble_eq_true rfl) dX2_notice_99) [7, 8, 9] [0, 1, 2, 3, 4, 5, 6] 10 rfl rfl rfl rfl (((k + 1) + 0) + 1) (((n + 3) + 0) + 36) 102 rfl rfl rfl (fun v15 w16 h17 => ?_) (fun _ _ h => h.elim)
  obtain ⟨rfl, m8, z9, e10, f11, hS12, hO13, hX14, rfl⟩ := h17
  show rn C (xSt F V0 ([(u 0, .inr (1, [.ref (o 0), .ref (u 1), .ref (u 2), .ref (u 3), .int (nI 2), .int cr, .long lo, .long hi])), (o 0, .inr (2, [.ref (o 1), .ref (o 2), .ref (o 3), .ref (o 4), .ref (o 5), .ref (o 6), .ref (o 7), .ref (o 8), .ref (o 9), .ref (o 10), .int ((r 0).toInt32)])), (o 1, .inl (0, 6, .inl (seF t r))), (o 3, .inl (0, 3, .inl (plX r))), (o 4, .inl (0, 3, .inl (plY r))), (u 2, .inl (0, 3, .inl ol)), (u 3, .inl (0, 3, .inl la)), (u 1, .inr (19, [.ref e10, .int (nI z9), .int (nI (dqT m8 z9 (n0 + 1)))])), (e10, .inl (3, m8, .inr (.inr (.inr (.inr f11))))), (q1, .inr (12, [.int (((r 0).toInt32) - 1), .int (nI p), .int (la p)]))] ++ (nw.map plC))) (((k + 1) + 0) + 1) (((n + 3) + 0) + 36) 102 [(2, .int (la p)), (1, .int (nI p)), (0, .ref (u 0))] []
  have hA9 := dqA.add (PL' := PL ++ (q1, ((r 0).toInt32) - 1, nI p, la p) :: nw) (ck := rr 0 - 1) (p := (nI p).toInt64) (d := mm (3 + p)) hD hO13 hX14 (fun y hy => by rcases List.mem_append.mp hy with h | h; exact List.mem_append_left _ h; exact List.mem_append_right _ (List.mem_cons_of_mem _ h)) (by rw [ap_new h0 hla]; exact List.mem_append_right _ (List.mem_cons_self ..))
  refine rn.sub (lv' := [(1, .int (nI p)), (0, .ref (u 0))]) [1, 2] rfl ?_
  refine rn.widen (k' := k + 2) (n' := n + 39) (by omega) (by omega) ?_
  have hc9 : n0 + 1 = cntQ (keepA rr n0 (rr 0 - 1) (nI p).toInt64 (mm (3 + p))) := by unfold cntQ; rw [keepA_5, lN_cl (by omega)]
  exact kJ m8 z9 (n0 + 1) e10 f11 ((q1, ((r 0).toInt32) - 1, nI p, la p) :: nw) hS12 hc9 hA9 (rowA_of (by omega) keepA_5)
set_option maxHeartbeats 4000000 in
set_option maxRecDepth 100000 in
theorem itX2_notice {C : xC} {F : Nat → Prop} {V0 : xV} {k n : Nat} (hG : xGood (xGG C)) (hC : xCtx C RX2 cX2_notice 3 none { frames := 5, locals := 154, cells := 6, slots := 117 }) (o u : Nat → Nat) (t r mm rr : Nat → Int64) (cr : Int32) (lo hi : Int64) (ol la : Nat → Int32) (ws0 : xW) (PL nw : List (Nat × (Int32 × Int32 × Int32))) (hF : F = xF ws0) (hP : plIn ws0 PL V0) (hpl : plR r) (ht : tOK t) (e m z : Nat) (f : Nat → Option Nat) (p : Nat) (hp : p < 3) (hlo : loE rr r) (hS : dqS m z (cntQ rr)) (hA : rowA rr) (hD : dqA (PL ++ nw) rr m z (cntQ rr) f) (hol : (ol p).toInt64 = mm p) (hla : (la p).toInt64 = mm (3 + p)) (hk : k + 2 ≤ 6) (hn0 : n + 39 ≤ 117) (kJ : ∀ (m' z' n' e' : Nat) (f' : Nat → Option Nat) (nw' : List (Nat × (Int32 × Int32 × Int32))), dqS m' z' n' → n' = cntQ (lookP t mm rr p) → dqA (PL ++ nw') (lookP t mm rr p) m' z' n' f' → rowA (lookP t mm rr p) → rn C (xSt F V0 ([(u 0, .inr (1, [.ref (o 0), .ref (u 1), .ref (u 2), .ref (u 3), .int (nI 2), .int cr, .long lo, .long hi])), (o 0, .inr (2, [.ref (o 1), .ref (o 2), .ref (o 3), .ref (o 4), .ref (o 5), .ref (o 6), .ref (o 7), .ref (o 8), .ref (o 9), .ref (o 10), .int ((r 0).toInt32)])), (o 1, .inl (0, 6, .inl (seF t r))), (o 3, .inl (0, 3, .inl (plX r))), (o 4, .inl (0, 3, .inl (plY r))), (u 2, .inl (0, 3, .inl ol)), (u 3, .inl (0, 3, .inl la)), (u 1, .inr (19, [.ref e', .int (nI z'), .int (nI (dqT m' z' n'))])), (e', .inl (3, m', .inr (.inr (.inr (.inr f')))))] ++ (nw'.map plC))) (k + 2) (n + 39) 102 [(1, .int (nI p)), (0, .ref (u 0))] []) : rn C (xSt F V0 ([(u 0, .inr (1, [.ref (o 0), .ref (u 1), .ref (u 2), .ref (u 3), .int (nI 2), .int cr, .long lo, .long hi])), (o 0, .inr (2, [.ref (o 1), .ref (o 2), .ref (o 3), .ref (o 4), .ref (o 5), .ref (o 6), .ref (o 7), .ref (o 8), .ref (o 9), .ref (o 10), .int ((r 0).toInt32)])), (o 1, .inl (0, 6, .inl (seF t r))), (o 3, .inl (0, 3, .inl (plX r))), (o 4, .inl (0, 3, .inl (plY r))), (u 2, .inl (0, 3, .inl ol)), (u 3, .inl (0, 3, .inl la)), (u 1, .inr (19, [.ref e, .int (nI z), .int (nI (dqT m z (cntQ rr)))])), (e, .inl (3, m, .inr (.inr (.inr (.inr f)))))] ++ (nw.map plC))) k n 15 [(1, .int (nI p)), (0, .ref (u 0))] [] := by
  refine r_aload_n hC 1 dX2_notice_15 rfl 16 rfl ?_
  refine r_get (v := .ref (u 3)) hC kX2 3 rfl q294 (fun _ h => h.get 0 rfl) rfl dX2_notice_16 19 rfl ?_
  refine r_iload_n hC 0 dX2_notice_19 rfl 20 rfl ?_
  refine r_iald hC p (xix_n p (by omega) (Nat.le_of_ble_eq_true rfl)) (fun _ h => h.get 6 rfl) (la p) (rfl) dX2_notice_20 21 rfl ?_
  refine r_istore_n hC 2 [(2, .int (la p)), (1, .int (nI p)), (0, .ref (u 0))] dX2_notice_21 rfl (Nat.le_of_ble_eq_true rfl) rfl 22 rfl ?_
  refine r_iload_n hC 0 dX2_notice_22 rfl 23 rfl ?_
  refine r_aload_n hC 2 dX2_notice_23 rfl 24 rfl ?_
  refine r_get (v := .ref (u 2)) hC kX2 2 rfl q293 (fun _ h => h.get 0 rfl) rfl dX2_notice_24 27 rfl ?_
  refine r_iload_n hC 1 dX2_notice_27 rfl 28 rfl ?_
  refine r_iald hC p (xix_n p (by omega) (Nat.le_of_ble_eq_true rfl)) (fun _ h => h.get 5 rfl) (ol p) (rfl) dX2_notice_28 29 rfl ?_
  refine r_icge hC 102 dX2_notice_29 (by decide) 32 rfl (fun c1 => ?_) (fun c1 => ?_)
  · skip
    have hk9 : lookP t mm rr p = rr := if_pos (Or.inl (by rw [← hol, ← hla]; exact i32_le64.mpr c1))
    refine rn.sub (lv' := [(1, .int (nI p)), (0, .ref (u 0))]) [1, 2] rfl ?_
    refine rn.widen (k' := k + 2) (n' := n + 39) (by omega) (by omega) ?_
    exact kJ m z (cntQ rr) e f nw hS (by rw [hk9]) (by rw [hk9]; exact hD) (by rw [hk9]; exact hA)
  · skip
    refine r_iload_n hC 0 dX2_notice_32 rfl 33 rfl ?_
    refine r_aload_n hC 2 dX2_notice_33 rfl 34 rfl ?_
    refine r_get (v := .ref (o 0)) hC kX2 0 rfl q288 (fun _ h => h.get 0 rfl) rfl dX2_notice_34 37 rfl ?_
    refine r_iload_n hC 1 dX2_notice_37 rfl 38 rfl ?_
    refine xCall.r (r := some (.int (nI (distQ r p)))) (r_cV hC kX3 (o 0) [.int (nI p)] mVX3_distanceOf q1566 (fun _ h => ⟨_, h.get 1 rfl⟩) (fun V9 h9 => (metX3_distanceOf _ _ hG o t r p (by omega) hpl) V9 (h9.in.sub [1, 3, 4] rfl rfl)) ⟨rfl, rfl⟩ (by first | omega | (dsimp only; omega)) (by first | omega | (dsimp only; omega)) rfl (Nat.le_of_ble_eq_true rfl) dX2_notice_38) (k + 0) (n + 0) 41 rfl rfl rfl ?_
    refine r_icgt hC 102 dX2_notice_41 (by decide) 44 rfl (fun c2 => ?_) (fun c2 => ?_)
    · skip
      have hk9 : lookP t mm rr p = rr := if_pos (Or.inr (Or.inl (by rw [dist_lo hlo, ← lN_dist, ← hla]; exact i32_lt64.mpr c2)))
      refine rn.sub (lv' := [(1, .int (nI p)), (0, .ref (u 0))]) [1, 2] rfl ?_
      refine rn.widen (k' := k + 2) (n' := n + 39) (by omega) (by omega) ?_
      exact kJ m z (cntQ rr) e f nw hS (by rw [hk9]) (by rw [hk9]; exact hD) (by rw [hk9]; exact hA)
    · skip
      refine r_iload_n hC 0 dX2_notice_44 rfl 45 rfl ?_
      refine r_aload_n hC 2 dX2_notice_45 rfl 46 rfl ?_
      refine r_get (v := .ref (o 0)) hC kX2 0 rfl q288 (fun _ h => h.get 0 rfl) rfl dX2_notice_46 49 rfl ?_
      refine r_getN (v := .ref (o 1)) hC hG kX3 0 rfl q175 (fun _ h => h.get 1 rfl) rfl dX2_notice_49 52 rfl ?_
      refine r_iconst hC 4 dX2_notice_52 ic_4 53 rfl ?_
      refine r_iald hC 4 (xix_n 4 (Nat.le_of_ble_eq_true rfl) (Nat.le_of_ble_eq_true rfl)) (fun _ h => h.get 2 rfl) (seF t r 4) (rfl) dX2_notice_53 54 rfl ?_
      refine r_icgt hC 102 dX2_notice_54 (by decide) 57 rfl (fun c3 => ?_) (fun c3 => ?_)
      · skip
        have hk9 : lookP t mm rr p = rr := if_pos (Or.inr (Or.inr (by rw [← se4_l (r := r) ht, ← hla]; exact i32_lt64.mpr c3)))
        refine rn.sub (lv' := [(1, .int (nI p)), (0, .ref (u 0))]) [1, 2] rfl ?_
        refine rn.widen (k' := k + 2) (n' := n + 39) (by omega) (by omega) ?_
        exact kJ m z (cntQ rr) e f nw hS (by rw [hk9]) (by rw [hk9]; exact hD) (by rw [hk9]; exact hA)
      · skip
        have hno : ¬ (mm p ≤ mm (3 + p) ∨ lN (distQ rr p) < mm (3 + p) ∨ t 3 < mm (3 + p)) := by
          rintro (h | h | h)
          · rw [← hol, ← hla] at h; exact c1 (i32_le64.mp h)
          · rw [dist_lo hlo, ← lN_dist, ← hla] at h; exact c2 (i32_lt64.mp h)
          · rw [← se4_l (r := r) ht, ← hla] at h; exact c3 (i32_lt64.mp h)
        refine r_aload_n hC 2 dX2_notice_57 rfl 58 rfl ?_
        refine r_get (v := .ref (u 1)) hC kX2 1 rfl q291 (fun _ h => h.get 0 rfl) rfl dX2_notice_58 61 rfl ?_
        refine xCall.r (r := some (.int (nI (cntQ rr)))) (r_cV hC kJ1 (u 1) [] mVJ1_size q1574 (fun _ h => ⟨_, h.get 7 rfl⟩) (fun V9 h9 => (metJ1_size _ _ hG (u 1) e m z (cntQ rr) f hS.m hS.z hS.n) V9 (h9.in.sub [7, 8] rfl rfl)) ⟨rfl, rfl⟩ (by first | omega | (dsimp only; omega)) (by first | omega | (dsimp only; omega)) rfl (Nat.le_of_ble_eq_true rfl) dX2_notice_61) ((k + 0) + 0) ((n + 0) + 0) 64 rfl rfl rfl ?_
        refine r_bipush hC 30 dX2_notice_64 bp_30 66 rfl ?_
        refine r_icne hC 77 dX2_notice_66 (by decide) 69 rfl (fun c4 => ?_) (fun c4 => ?_)
        · skip
          have hq9 : cntQ rr < 30 := by have h1 := hS.n30; have h2 : ¬ cntQ rr = 30 := fun e9 => c4 (by rw [e9]; rfl); omega
          refine adX2_notice hG hC o u t r mm rr cr lo hi ol la ws0 PL nw hF hP hpl ht e m z (cntQ rr) f p hp hS hq9 hD hlo.1.1 hla (by omega) (by omega) ?_
          intro m' z' n' e' f' nw' g1 g2 g3 g4
          have hk9 : lookP t mm rr p = keepA rr (cntQ rr) (rr 0 - 1) (nI p).toInt64 (mm (3 + p)) := by unfold lookP; rw [if_neg hno]; unfold keepQ; rw [if_pos hq9]
          exact kJ m' z' n' e' f' nw' g1 (by rw [hk9]; exact g2) (by rw [hk9]; exact g3) (by rw [hk9]; exact g4)
        · skip
          obtain ⟨x0, hx0⟩ : ∃ x0, f z = some x0 := by have h9 : cntQ rr = 30 := (eq_nI (b := 30) (by have := hS.n30; omega) (by omega)).mp c4; obtain ⟨x0, h8⟩ := hD.full 0 (by omega); rw [dqT_0 hS.z] at h8; exact ⟨x0, h8⟩
          refine r_aload_n hC 2 dX2_notice_69 rfl 70 rfl ?_
          refine r_get (v := .ref (u 1)) hC kX2 1 rfl q291 (fun _ h => h.get 0 rfl) rfl dX2_notice_70 73 rfl ?_
          refine xCall.t (wr := [(u 0, .inr (1, [.ref (o 0), .ref (u 1), .ref (u 2), .ref (u 3), .int (nI 2), .int cr, .long lo, .long hi])), (o 0, .inr (2, [.ref (o 1), .ref (o 2), .ref (o 3), .ref (o 4), .ref (o 5), .ref (o 6), .ref (o 7), .ref (o 8), .ref (o 9), .ref (o 10), .int ((r 0).toInt32)])), (o 1, .inl (0, 6, .inl (seF t r))), (o 3, .inl (0, 3, .inl (plX r))), (o 4, .inl (0, 3, .inl (plY r))), (u 2, .inl (0, 3, .inl ol)), (u 3, .inl (0, 3, .inl la))]) (r_cV hC kJ1 (u 1) [] mVJ1_removeFirst q1575 (fun _ h => ⟨_, h.get 7 rfl⟩) (fun V9 h9 => (metJ1_removeFirst _ _ hG (u 1) e m z (cntQ rr) f hS.m hS.z hS.n (by have h9 : cntQ rr = 30 := (eq_nI (b := 30) (by have := hS.n30; omega) (by omega)).mp (by assumption); omega) x0 hx0) V9 (h9.in.sub [7, 8] rfl rfl)) ⟨rfl, rfl⟩ (by first | omega | (dsimp only; omega)) (by first | omega | (dsimp only; omega)) rfl (Nat.le_of_ble_eq_true rfl) dX2_notice_73) [7, 8] [0, 1, 2, 3, 4, 5, 6] 9 rfl rfl rfl rfl (((k + 0) + 0) + 0) (((n + 0) + 0) + 0) 76 rfl rfl rfl (fun v5 w6 h7 => ?_) (fun _ _ h => h.elim)
          obtain ⟨rfl, rfl⟩ := h7
          show rn C (xSt F V0 ([(u 0, .inr (1, [.ref (o 0), .ref (u 1), .ref (u 2), .ref (u 3), .int (nI 2), .int cr, .long lo, .long hi])), (o 0, .inr (2, [.ref (o 1), .ref (o 2), .ref (o 3), .ref (o 4), .ref (o 5), .ref (o 6), .ref (o 7), .ref (o 8), .ref (o 9), .ref (o 10), .int ((r 0).toInt32)])), (o 1, .inl (0, 6, .inl (seF t r))), (o 3, .inl (0, 3, .inl (plX r))), (o 4, .inl (0, 3, .inl (plY r))), (u 2, .inl (0, 3, .inl ol)), (u 3, .inl (0, 3, .inl la)), (u 1, .inr (19, [.ref e, .int (nI (incQ z m)), .int (nI (dqT m (incQ z m) (cntQ rr - 1)))])), (e, .inl (3, m, .inr (.inr (.inr (.inr (va_up f z none))))))] ++ (nw.map plC))) (((k + 0) + 0) + 0) (((n + 0) + 0) + 0) 76 [(2, .int (la p)), (1, .int (nI p)), (0, .ref (u 0))] [.ref x0]
          refine r_pop hC dX2_notice_76 rfl 77 rfl ?_
          have hq9 : cntQ rr = 30 := (eq_nI (b := 30) (by have := hS.n30; omega) (by omega)).mp c4
          have h36 : m = 36 := by unfold dqS at hS; omega
          subst h36
          have hz36 := hS.z
          have hD' := dqA.first (show dqA (PL ++ nw) rr 36 z 30 f by rw [← hq9]; exact hD) hz36
          have hS' : dqS 36 (incQ z 36) 29 := Or.inr ⟨rfl, incQ_lt hz36, by omega⟩
          refine rn.mono (J := xSt F V0 ([(u 0, .inr (1, [.ref (o 0), .ref (u 1), .ref (u 2), .ref (u 3), .int (nI 2), .int cr, .long lo, .long hi])), (o 0, .inr (2, [.ref (o 1), .ref (o 2), .ref (o 3), .ref (o 4), .ref (o 5), .ref (o 6), .ref (o 7), .ref (o 8), .ref (o 9), .ref (o 10), .int ((r 0).toInt32)])), (o 1, .inl (0, 6, .inl (seF t r))), (o 3, .inl (0, 3, .inl (plX r))), (o 4, .inl (0, 3, .inl (plY r))), (u 2, .inl (0, 3, .inl ol)), (u 3, .inl (0, 3, .inl la)), (u 1, .inr (19, [.ref e, .int (nI (incQ z 36)), .int (nI (dqT 36 (incQ z 36) 29))])), (e, .inl (3, 36, .inr (.inr (.inr (.inr (va_up f z none))))))] ++ (nw.map plC))) (fun _ h => by rw [hq9] at h; exact (h.subT (wc := []) [] [0, 1, 2, 3, 4, 5, 6, 7, 8] 9 rfl rfl rfl rfl)) ?_
          refine adX2_notice hG hC o u t r mm (va_up (downA rr) 5 29) cr lo hi ol la ws0 PL nw hF hP hpl ht e 36 (incQ z 36) 29 (va_up f z none) p hp hS' (by omega) hD' ?_ hla (by omega) (by omega) ?_
          · exact (show va_up (downA rr) 5 29 0 = rr 0 from by rw [up_ne (by omega)]; unfold downA; exact cpy_out (by omega)).trans hlo.1.1
          · intro m' z' n' e' f' nw' g1 g2 g3 g4
            have h09 : va_up (downA rr) 5 29 0 = rr 0 := by rw [up_ne (by omega)]; unfold downA; exact cpy_out (by omega)
            rw [h09] at g2 g3 g4
            have hk9 : lookP t mm rr p = keepA (va_up (downA rr) 5 29) 29 (rr 0 - 1) (nI p).toInt64 (mm (3 + p)) := by unfold lookP; rw [if_neg hno]; unfold keepQ; rw [if_neg (by omega)]
            exact kJ m' z' n' e' f' nw' g1 (by rw [hk9]; exact g2) (by rw [hk9]; exact g3) (by rw [hk9]; exact g4)
set_option maxHeartbeats 4000000 in
set_option maxRecDepth 100000 in
theorem metX2_notice2 (l : Launch) (G : xG) (hG : xGood G) (o u : Nat → Nat) (t r mm rr : Nat → Int64) (cr : Int32) (lo hi : Int64) (ol la : Nat → Int32) (PL : List (Nat × (Int32 × Int32 × Int32))) (e m z : Nat) (f : Nat → Option Nat) (hpl : plR r) (ht : tOK t) (hlo : loE rr r) (hS : dqS m z (cntQ rr)) (hA : rowA rr) (hD : dqA PL rr m z (cntQ rr) f) (hme : meR mm 2 ol la) : xWmP (plIn [(u 0, .inr (1, [.ref (o 0), .ref (u 1), .ref (u 2), .ref (u 3), .int (nI 2), .int cr, .long lo, .long hi])), (o 0, .inr (2, [.ref (o 1), .ref (o 2), .ref (o 3), .ref (o 4), .ref (o 5), .ref (o 6), .ref (o 7), .ref (o 8), .ref (o 9), .ref (o 10), .int ((r 0).toInt32)])), (o 1, .inl (0, 6, .inl (seF t r))), (o 3, .inl (0, 3, .inl (plX r))), (o 4, .inl (0, 3, .inl (plY r))), (u 2, .inl (0, 3, .inl ol)), (u 3, .inl (0, 3, .inl la)), (u 1, .inr (19, [.ref e, .int (nI z), .int (nI (dqT m z (cntQ rr)))])), (e, .inl (3, m, .inr (.inr (.inr (.inr f)))))] PL) l G yX2_notice (Cond.code yX2_notice cX2_notice 3 none) { frames := 5, locals := 154, cells := 6, slots := 117 } [.ref (u 0)] [(u 0, .inr (1, [.ref (o 0), .ref (u 1), .ref (u 2), .ref (u 3), .int (nI 2), .int cr, .long lo, .long hi])), (o 0, .inr (2, [.ref (o 1), .ref (o 2), .ref (o 3), .ref (o 4), .ref (o 5), .ref (o 6), .ref (o 7), .ref (o 8), .ref (o 9), .ref (o 10), .int ((r 0).toInt32)])), (o 1, .inl (0, 6, .inl (seF t r))), (o 3, .inl (0, 3, .inl (plX r))), (o 4, .inl (0, 3, .inl (plY r))), (u 2, .inl (0, 3, .inl ol)), (u 3, .inl (0, 3, .inl la)), (u 1, .inr (19, [.ref e, .int (nI z), .int (nI (dqT m z (cntQ rr)))])), (e, .inl (3, m, .inr (.inr (.inr (.inr f)))))] (fun v w' => v = none ∧ ∃ (m' z' e' : Nat) (f' : Nat → Option Nat) (nw' : List (Nat × (Int32 × Int32 × Int32))), dqS m' z' (cntQ (lookQ t mm rr 2)) ∧ dqA (PL ++ nw') (lookQ t mm rr 2) m' z' (cntQ (lookQ t mm rr 2)) f' ∧ rowA (lookQ t mm rr 2) ∧ w' = ([(u 0, .inr (1, [.ref (o 0), .ref (u 1), .ref (u 2), .ref (u 3), .int (nI 2), .int cr, .long lo, .long hi])), (o 0, .inr (2, [.ref (o 1), .ref (o 2), .ref (o 3), .ref (o 4), .ref (o 5), .ref (o 6), .ref (o 7), .ref (o 8), .ref (o 9), .ref (o 10), .int ((r 0).toInt32)])), (o 1, .inl (0, 6, .inl (seF t r))), (o 3, .inl (0, 3, .inl (plX r))), (o 4, .inl (0, 3, .inl (plY r))), (u 2, .inl (0, 3, .inl ol)), (u 3, .inl (0, 3, .inl la)), (u 1, .inr (19, [.ref e', .int (nI z'), .int (nI (dqT m' z' (cntQ (lookQ t mm rr 2))))])), (e', .inl (3, m', .inr (.inr (.inr (.inr f')))))] ++ (nw'.map plC))) (fun _ _ => False) := by
  intro V hP hV
  refine xMet_ofT RX2 hG rfl (by decide) (Nat.le_of_ble_eq_true rfl) fun C hC hQ hX hl hg _ hTab => ?_
  subst hl hg
  obtain ⟨V0, hV0⟩ : ∃ V0, V0 = V := ⟨_, rfl⟩
  obtain ⟨F, hF⟩ : ∃ F, F = xF [(u 0, .inr (1, [.ref (o 0), .ref (u 1), .ref (u 2), .ref (u 3), .int (nI 2), .int cr, .long lo, .long hi])), (o 0, .inr (2, [.ref (o 1), .ref (o 2), .ref (o 3), .ref (o 4), .ref (o 5), .ref (o 6), .ref (o 7), .ref (o 8), .ref (o 9), .ref (o 10), .int ((r 0).toInt32)])), (o 1, .inl (0, 6, .inl (seF t r))), (o 3, .inl (0, 3, .inl (plX r))), (o 4, .inl (0, 3, .inl (plY r))), (u 2, .inl (0, 3, .inl ol)), (u 3, .inl (0, 3, .inl la)), (u 1, .inr (19, [.ref e, .int (nI z), .int (nI (dqT m z (cntQ rr)))])), (e, .inl (3, m, .inr (.inr (.inr (.inr f)))))] := ⟨_, rfl⟩
  rw [← hV0] at hP
  refine rn.mono (J := xSt F V0 [(u 0, .inr (1, [.ref (o 0), .ref (u 1), .ref (u 2), .ref (u 3), .int (nI 2), .int cr, .long lo, .long hi])), (o 0, .inr (2, [.ref (o 1), .ref (o 2), .ref (o 3), .ref (o 4), .ref (o 5), .ref (o 6), .ref (o 7), .ref (o 8), .ref (o 9), .ref (o 10), .int ((r 0).toInt32)])), (o 1, .inl (0, 6, .inl (seF t r))), (o 3, .inl (0, 3, .inl (plX r))), (o 4, .inl (0, 3, .inl (plY r))), (u 2, .inl (0, 3, .inl ol)), (u 3, .inl (0, 3, .inl la)), (u 1, .inr (19, [.ref e, .int (nI z), .int (nI (dqT m z (cntQ rr)))])), (e, .inl (3, m, .inr (.inr (.inr (.inr f)))))]) (fun V9 h => by rw [h, hV0, hF]; exact hV.st) ?_
  show rn C (xSt F V0 [(u 0, .inr (1, [.ref (o 0), .ref (u 1), .ref (u 2), .ref (u 3), .int (nI 2), .int cr, .long lo, .long hi])), (o 0, .inr (2, [.ref (o 1), .ref (o 2), .ref (o 3), .ref (o 4), .ref (o 5), .ref (o 6), .ref (o 7), .ref (o 8), .ref (o 9), .ref (o 10), .int ((r 0).toInt32)])), (o 1, .inl (0, 6, .inl (seF t r))), (o 3, .inl (0, 3, .inl (plX r))), (o 4, .inl (0, 3, .inl (plY r))), (u 2, .inl (0, 3, .inl ol)), (u 3, .inl (0, 3, .inl la)), (u 1, .inr (19, [.ref e, .int (nI z), .int (nI (dqT m z (cntQ rr)))])), (e, .inl (3, m, .inr (.inr (.inr (.inr f)))))]) 0 0 0 [(0, .ref (u 0))] []
  refine r_iconst hC 0 dX2_notice_0 ic_0 1 rfl ?_
  refine r_istore_n hC 1 [(1, .int 0), (0, .ref (u 0))] dX2_notice_1 rfl (Nat.le_of_ble_eq_true rfl) rfl 2 rfl ?_
  refine r_iload_n hC 0 dX2_notice_2 rfl 3 rfl ?_
  refine r_iconst hC 3 dX2_notice_3 ic_3 4 rfl ?_
  refine r_icge hC 108 dX2_notice_4 (by decide) 7 rfl (fun h => absurd h (by decide)) (fun _ => ?_)
  refine r_aload_n hC 1 dX2_notice_7 rfl 8 rfl ?_
  refine r_get (v := .int (nI 2)) hC kX2 4 rfl q295 (fun _ h => h.get 0 rfl) rfl dX2_notice_8 11 rfl ?_
  refine r_iconst hC 2 dX2_notice_11 ic_2 12 rfl ?_
  refine r_icne hC 108 dX2_notice_12 (by decide) 15 rfl (fun h => absurd (rfl) h) (fun _ => ?_)
  refine rn.sub (lv' := [(1, .int 0), (0, .ref (u 0))]) [0, 1] rfl ?_
  refine rn.mono (J := xSt F V0 ([(u 0, .inr (1, [.ref (o 0), .ref (u 1), .ref (u 2), .ref (u 3), .int (nI 2), .int cr, .long lo, .long hi])), (o 0, .inr (2, [.ref (o 1), .ref (o 2), .ref (o 3), .ref (o 4), .ref (o 5), .ref (o 6), .ref (o 7), .ref (o 8), .ref (o 9), .ref (o 10), .int ((r 0).toInt32)])), (o 1, .inl (0, 6, .inl (seF t r))), (o 3, .inl (0, 3, .inl (plX r))), (o 4, .inl (0, 3, .inl (plY r))), (u 2, .inl (0, 3, .inl ol)), (u 3, .inl (0, 3, .inl la)), (u 1, .inr (19, [.ref e, .int (nI z), .int (nI (dqT m z (cntQ rr)))])), (e, .inl (3, m, .inr (.inr (.inr (.inr f)))))] ++ (([] : List (Nat × (Int32 × Int32 × Int32))).map plC))) (fun _ h => h) ?_
  show rn C (xSt F V0 ([(u 0, .inr (1, [.ref (o 0), .ref (u 1), .ref (u 2), .ref (u 3), .int (nI 2), .int cr, .long lo, .long hi])), (o 0, .inr (2, [.ref (o 1), .ref (o 2), .ref (o 3), .ref (o 4), .ref (o 5), .ref (o 6), .ref (o 7), .ref (o 8), .ref (o 9), .ref (o 10), .int ((r 0).toInt32)])), (o 1, .inl (0, 6, .inl (seF t r))), (o 3, .inl (0, 3, .inl (plX r))), (o 4, .inl (0, 3, .inl (plY r))), (u 2, .inl (0, 3, .inl ol)), (u 3, .inl (0, 3, .inl la)), (u 1, .inr (19, [.ref e, .int (nI z), .int (nI (dqT m z (cntQ rr)))])), (e, .inl (3, m, .inr (.inr (.inr (.inr f)))))] ++ (([] : List (Nat × (Int32 × Int32 × Int32))).map plC))) 0 0 15 [(1, .int (nI 0)), (0, .ref (u 0))] []
  refine itX2_notice hG hC o u t r mm rr cr lo hi ol la _ PL [] hF hP hpl ht e m z f 0 (by decide) hlo hS hA (by rw [List.append_nil]; exact hD) (hme.2 rfl 0 (by decide)).1 (hme.2 rfl 0 (by decide)).2 (by decide) (by decide) ?_
  intro m09 z09 n09 e09 f09 nw09 hS09 hn09 hD09 hA09
  subst hn09
  have hlo09 := loE_look (t := t) (mm := mm) (p := 0) hlo
  show rn C (xSt F V0 ([(u 0, .inr (1, [.ref (o 0), .ref (u 1), .ref (u 2), .ref (u 3), .int (nI 2), .int cr, .long lo, .long hi])), (o 0, .inr (2, [.ref (o 1), .ref (o 2), .ref (o 3), .ref (o 4), .ref (o 5), .ref (o 6), .ref (o 7), .ref (o 8), .ref (o 9), .ref (o 10), .int ((r 0).toInt32)])), (o 1, .inl (0, 6, .inl (seF t r))), (o 3, .inl (0, 3, .inl (plX r))), (o 4, .inl (0, 3, .inl (plY r))), (u 2, .inl (0, 3, .inl ol)), (u 3, .inl (0, 3, .inl la)), (u 1, .inr (19, [.ref e09, .int (nI z09), .int (nI (dqT m09 z09 (cntQ (lookP t mm rr 0))))])), (e09, .inl (3, m09, .inr (.inr (.inr (.inr f09)))))] ++ (nw09.map plC))) 2 39 102 [(1, .int 0), (0, .ref (u 0))] []
  refine r_iinc hC 1 1 0 [(1, .int 1), (0, .ref (u 0))] dX2_notice_102 rfl (by decide) (Nat.le_of_ble_eq_true rfl) rfl 105 rfl ?_
  refine r_goto hC 2 dX2_notice_105 (by decide) ?_
  refine r_iload_n hC 0 dX2_notice_2 rfl 3 rfl ?_
  refine r_iconst hC 3 dX2_notice_3 ic_3 4 rfl ?_
  refine r_icge hC 108 dX2_notice_4 (by decide) 7 rfl (fun h => absurd h (by decide)) (fun _ => ?_)
  refine r_aload_n hC 1 dX2_notice_7 rfl 8 rfl ?_
  refine r_get (v := .int (nI 2)) hC kX2 4 rfl q295 (fun _ h => h.get 0 rfl) rfl dX2_notice_8 11 rfl ?_
  refine r_iconst hC 2 dX2_notice_11 ic_2 12 rfl ?_
  refine r_icne hC 108 dX2_notice_12 (by decide) 15 rfl (fun h => absurd (rfl) h) (fun _ => ?_)
  refine rn.sub (lv' := [(1, .int 1), (0, .ref (u 0))]) [0, 1] rfl ?_
  show rn C (xSt F V0 ([(u 0, .inr (1, [.ref (o 0), .ref (u 1), .ref (u 2), .ref (u 3), .int (nI 2), .int cr, .long lo, .long hi])), (o 0, .inr (2, [.ref (o 1), .ref (o 2), .ref (o 3), .ref (o 4), .ref (o 5), .ref (o 6), .ref (o 7), .ref (o 8), .ref (o 9), .ref (o 10), .int ((r 0).toInt32)])), (o 1, .inl (0, 6, .inl (seF t r))), (o 3, .inl (0, 3, .inl (plX r))), (o 4, .inl (0, 3, .inl (plY r))), (u 2, .inl (0, 3, .inl ol)), (u 3, .inl (0, 3, .inl la)), (u 1, .inr (19, [.ref e09, .int (nI z09), .int (nI (dqT m09 z09 (cntQ (lookP t mm rr 0))))])), (e09, .inl (3, m09, .inr (.inr (.inr (.inr f09)))))] ++ (nw09.map plC))) 2 39 15 [(1, .int (nI 1)), (0, .ref (u 0))] []
  refine itX2_notice hG hC o u t r mm (lookP t mm rr 0) cr lo hi ol la _ PL nw09 hF hP hpl ht e09 m09 z09 f09 1 (by decide) hlo09 hS09 hA09 hD09 (hme.2 rfl 1 (by decide)).1 (hme.2 rfl 1 (by decide)).2 (by decide) (by decide) ?_
  intro m19 z19 n19 e19 f19 nw19 hS19 hn19 hD19 hA19
  subst hn19
  have hlo19 := loE_look (t := t) (mm := mm) (p := 1) hlo09
  show rn C (xSt F V0 ([(u 0, .inr (1, [.ref (o 0), .ref (u 1), .ref (u 2), .ref (u 3), .int (nI 2), .int cr, .long lo, .long hi])), (o 0, .inr (2, [.ref (o 1), .ref (o 2), .ref (o 3), .ref (o 4), .ref (o 5), .ref (o 6), .ref (o 7), .ref (o 8), .ref (o 9), .ref (o 10), .int ((r 0).toInt32)])), (o 1, .inl (0, 6, .inl (seF t r))), (o 3, .inl (0, 3, .inl (plX r))), (o 4, .inl (0, 3, .inl (plY r))), (u 2, .inl (0, 3, .inl ol)), (u 3, .inl (0, 3, .inl la)), (u 1, .inr (19, [.ref e19, .int (nI z19), .int (nI (dqT m19 z19 (cntQ (lookP t mm (lookP t mm rr 0) 1))))])), (e19, .inl (3, m19, .inr (.inr (.inr (.inr f19)))))] ++ (nw19.map plC))) 4 78 102 [(1, .int 1), (0, .ref (u 0))] []
  refine r_iinc hC 2 1 0 [(1, .int 2), (0, .ref (u 0))] dX2_notice_102 rfl (by decide) (Nat.le_of_ble_eq_true rfl) rfl 105 rfl ?_
  refine r_goto hC 2 dX2_notice_105 (by decide) ?_
  refine r_iload_n hC 0 dX2_notice_2 rfl 3 rfl ?_
  refine r_iconst hC 3 dX2_notice_3 ic_3 4 rfl ?_
  refine r_icge hC 108 dX2_notice_4 (by decide) 7 rfl (fun h => absurd h (by decide)) (fun _ => ?_)
  refine r_aload_n hC 1 dX2_notice_7 rfl 8 rfl ?_
  refine r_get (v := .int (nI 2)) hC kX2 4 rfl q295 (fun _ h => h.get 0 rfl) rfl dX2_notice_8 11 rfl ?_
  refine r_iconst hC 2 dX2_notice_11 ic_2 12 rfl ?_
  refine r_icne hC 108 dX2_notice_12 (by decide) 15 rfl (fun h => absurd (rfl) h) (fun _ => ?_)
  refine rn.sub (lv' := [(1, .int 2), (0, .ref (u 0))]) [0, 1] rfl ?_
  show rn C (xSt F V0 ([(u 0, .inr (1, [.ref (o 0), .ref (u 1), .ref (u 2), .ref (u 3), .int (nI 2), .int cr, .long lo, .long hi])), (o 0, .inr (2, [.ref (o 1), .ref (o 2), .ref (o 3), .ref (o 4), .ref (o 5), .ref (o 6), .ref (o 7), .ref (o 8), .ref (o 9), .ref (o 10), .int ((r 0).toInt32)])), (o 1, .inl (0, 6, .inl (seF t r))), (o 3, .inl (0, 3, .inl (plX r))), (o 4, .inl (0, 3, .inl (plY r))), (u 2, .inl (0, 3, .inl ol)), (u 3, .inl (0, 3, .inl la)), (u 1, .inr (19, [.ref e19, .int (nI z19), .int (nI (dqT m19 z19 (cntQ (lookP t mm (lookP t mm rr 0) 1))))])), (e19, .inl (3, m19, .inr (.inr (.inr (.inr f19)))))] ++ (nw19.map plC))) 4 78 15 [(1, .int (nI 2)), (0, .ref (u 0))] []
  refine itX2_notice hG hC o u t r mm (lookP t mm (lookP t mm rr 0) 1) cr lo hi ol la _ PL nw19 hF hP hpl ht e19 m19 z19 f19 2 (by decide) hlo19 hS19 hA19 hD19 (hme.2 rfl 2 (by decide)).1 (hme.2 rfl 2 (by decide)).2 (by decide) (by decide) ?_
  intro m29 z29 n29 e29 f29 nw29 hS29 hn29 hD29 hA29
  subst hn29
  have hlo29 := loE_look (t := t) (mm := mm) (p := 2) hlo19
  show rn C (xSt F V0 ([(u 0, .inr (1, [.ref (o 0), .ref (u 1), .ref (u 2), .ref (u 3), .int (nI 2), .int cr, .long lo, .long hi])), (o 0, .inr (2, [.ref (o 1), .ref (o 2), .ref (o 3), .ref (o 4), .ref (o 5), .ref (o 6), .ref (o 7), .ref (o 8), .ref (o 9), .ref (o 10), .int ((r 0).toInt32)])), (o 1, .inl (0, 6, .inl (seF t r))), (o 3, .inl (0, 3, .inl (plX r))), (o 4, .inl (0, 3, .inl (plY r))), (u 2, .inl (0, 3, .inl ol)), (u 3, .inl (0, 3, .inl la)), (u 1, .inr (19, [.ref e29, .int (nI z29), .int (nI (dqT m29 z29 (cntQ (lookP t mm (lookP t mm (lookP t mm rr 0) 1) 2))))])), (e29, .inl (3, m29, .inr (.inr (.inr (.inr f29)))))] ++ (nw29.map plC))) 6 117 102 [(1, .int 2), (0, .ref (u 0))] []
  refine r_iinc hC 3 1 0 [(1, .int 3), (0, .ref (u 0))] dX2_notice_102 rfl (by decide) (Nat.le_of_ble_eq_true rfl) rfl 105 rfl ?_
  refine r_goto hC 2 dX2_notice_105 (by decide) ?_
  refine r_iload_n hC 0 dX2_notice_2 rfl 3 rfl ?_
  refine r_iconst hC 3 dX2_notice_3 ic_3 4 rfl ?_
  refine r_icge hC 108 dX2_notice_4 (by decide) 7 rfl (fun _ => ?_) (fun h => absurd h (by decide))
  have hR9 : lookQ t mm rr 2 = lookP t mm (lookP t mm (lookP t mm rr 0) 1) 2 := if_pos rfl
  exact r_vret hC (Nat.le_of_ble_eq_true rfl) (Nat.le_of_ble_eq_true rfl) (fun V9 h => hQ _ _ ⟨([(u 0, .inr (1, [.ref (o 0), .ref (u 1), .ref (u 2), .ref (u 3), .int (nI 2), .int cr, .long lo, .long hi])), (o 0, .inr (2, [.ref (o 1), .ref (o 2), .ref (o 3), .ref (o 4), .ref (o 5), .ref (o 6), .ref (o 7), .ref (o 8), .ref (o 9), .ref (o 10), .int ((r 0).toInt32)])), (o 1, .inl (0, 6, .inl (seF t r))), (o 3, .inl (0, 3, .inl (plX r))), (o 4, .inl (0, 3, .inl (plY r))), (u 2, .inl (0, 3, .inl ol)), (u 3, .inl (0, 3, .inl la)), (u 1, .inr (19, [.ref e29, .int (nI z29), .int (nI (dqT m29 z29 (cntQ (lookP t mm (lookP t mm (lookP t mm rr 0) 1) 2))))])), (e29, .inl (3, m29, .inr (.inr (.inr (.inr f29)))))] ++ (nw29.map plC)), ⟨rfl, m29, z29, e29, f29, nw29, by rw [hR9]; exact hS29, by rw [hR9]; exact hD29, by rw [hR9]; exact hA29, by rw [hR9]⟩, by rw [← hV0, ← hF]; exact h⟩) dX2_notice_108
set_option maxHeartbeats 4000000 in
set_option maxRecDepth 100000 in
theorem metX2_noticeN (l : Launch) (G : xG) (hG : xGood G) (o u : Nat → Nat) (t r mm rr : Nat → Int64) (cr : Int32) (lo hi : Int64) (ol la : Nat → Int32) (PL : List (Nat × (Int32 × Int32 × Int32))) (e m z : Nat) (f : Nat → Option Nat) (hpl : plR r) (ht : tOK t) (hlo : loE rr r) (hS : dqS m z (cntQ rr)) (hA : rowA rr) (hD : dqA PL rr m z (cntQ rr) f) (rem : Nat) (hrem : rem < 2) : xWmP (plIn [(u 0, .inr (1, [.ref (o 0), .ref (u 1), .ref (u 2), .ref (u 3), .int (nI rem), .int cr, .long lo, .long hi])), (o 0, .inr (2, [.ref (o 1), .ref (o 2), .ref (o 3), .ref (o 4), .ref (o 5), .ref (o 6), .ref (o 7), .ref (o 8), .ref (o 9), .ref (o 10), .int ((r 0).toInt32)])), (o 1, .inl (0, 6, .inl (seF t r))), (o 3, .inl (0, 3, .inl (plX r))), (o 4, .inl (0, 3, .inl (plY r))), (u 2, .inl (0, 3, .inl ol)), (u 3, .inl (0, 3, .inl la)), (u 1, .inr (19, [.ref e, .int (nI z), .int (nI (dqT m z (cntQ rr)))])), (e, .inl (3, m, .inr (.inr (.inr (.inr f)))))] PL) l G yX2_notice (Cond.code yX2_notice cX2_notice 3 none) { frames := 5, locals := 154, cells := 6, slots := 117 } [.ref (u 0)] [(u 0, .inr (1, [.ref (o 0), .ref (u 1), .ref (u 2), .ref (u 3), .int (nI rem), .int cr, .long lo, .long hi])), (o 0, .inr (2, [.ref (o 1), .ref (o 2), .ref (o 3), .ref (o 4), .ref (o 5), .ref (o 6), .ref (o 7), .ref (o 8), .ref (o 9), .ref (o 10), .int ((r 0).toInt32)])), (o 1, .inl (0, 6, .inl (seF t r))), (o 3, .inl (0, 3, .inl (plX r))), (o 4, .inl (0, 3, .inl (plY r))), (u 2, .inl (0, 3, .inl ol)), (u 3, .inl (0, 3, .inl la)), (u 1, .inr (19, [.ref e, .int (nI z), .int (nI (dqT m z (cntQ rr)))])), (e, .inl (3, m, .inr (.inr (.inr (.inr f)))))] (fun v w' => v = none ∧ ∃ (m' z' e' : Nat) (f' : Nat → Option Nat) (nw' : List (Nat × (Int32 × Int32 × Int32))), dqS m' z' (cntQ (lookQ t mm rr rem)) ∧ dqA (PL ++ nw') (lookQ t mm rr rem) m' z' (cntQ (lookQ t mm rr rem)) f' ∧ rowA (lookQ t mm rr rem) ∧ w' = ([(u 0, .inr (1, [.ref (o 0), .ref (u 1), .ref (u 2), .ref (u 3), .int (nI rem), .int cr, .long lo, .long hi])), (o 0, .inr (2, [.ref (o 1), .ref (o 2), .ref (o 3), .ref (o 4), .ref (o 5), .ref (o 6), .ref (o 7), .ref (o 8), .ref (o 9), .ref (o 10), .int ((r 0).toInt32)])), (o 1, .inl (0, 6, .inl (seF t r))), (o 3, .inl (0, 3, .inl (plX r))), (o 4, .inl (0, 3, .inl (plY r))), (u 2, .inl (0, 3, .inl ol)), (u 3, .inl (0, 3, .inl la)), (u 1, .inr (19, [.ref e', .int (nI z'), .int (nI (dqT m' z' (cntQ (lookQ t mm rr rem))))])), (e', .inl (3, m', .inr (.inr (.inr (.inr f')))))] ++ (nw'.map plC))) (fun _ _ => False) := by
  intro V hP hV
  refine xMet_ofT RX2 hG rfl (by decide) (Nat.le_of_ble_eq_true rfl) fun C hC hQ hX hl hg _ hTab => ?_
  subst hl hg
  obtain ⟨V0, hV0⟩ : ∃ V0, V0 = V := ⟨_, rfl⟩
  obtain ⟨F, hF⟩ : ∃ F, F = xF [(u 0, .inr (1, [.ref (o 0), .ref (u 1), .ref (u 2), .ref (u 3), .int (nI rem), .int cr, .long lo, .long hi])), (o 0, .inr (2, [.ref (o 1), .ref (o 2), .ref (o 3), .ref (o 4), .ref (o 5), .ref (o 6), .ref (o 7), .ref (o 8), .ref (o 9), .ref (o 10), .int ((r 0).toInt32)])), (o 1, .inl (0, 6, .inl (seF t r))), (o 3, .inl (0, 3, .inl (plX r))), (o 4, .inl (0, 3, .inl (plY r))), (u 2, .inl (0, 3, .inl ol)), (u 3, .inl (0, 3, .inl la)), (u 1, .inr (19, [.ref e, .int (nI z), .int (nI (dqT m z (cntQ rr)))])), (e, .inl (3, m, .inr (.inr (.inr (.inr f)))))] := ⟨_, rfl⟩
  rw [← hV0] at hP
  refine rn.mono (J := xSt F V0 [(u 0, .inr (1, [.ref (o 0), .ref (u 1), .ref (u 2), .ref (u 3), .int (nI rem), .int cr, .long lo, .long hi])), (o 0, .inr (2, [.ref (o 1), .ref (o 2), .ref (o 3), .ref (o 4), .ref (o 5), .ref (o 6), .ref (o 7), .ref (o 8), .ref (o 9), .ref (o 10), .int ((r 0).toInt32)])), (o 1, .inl (0, 6, .inl (seF t r))), (o 3, .inl (0, 3, .inl (plX r))), (o 4, .inl (0, 3, .inl (plY r))), (u 2, .inl (0, 3, .inl ol)), (u 3, .inl (0, 3, .inl la)), (u 1, .inr (19, [.ref e, .int (nI z), .int (nI (dqT m z (cntQ rr)))])), (e, .inl (3, m, .inr (.inr (.inr (.inr f)))))]) (fun V9 h => by rw [h, hV0, hF]; exact hV.st) ?_
  show rn C (xSt F V0 [(u 0, .inr (1, [.ref (o 0), .ref (u 1), .ref (u 2), .ref (u 3), .int (nI rem), .int cr, .long lo, .long hi])), (o 0, .inr (2, [.ref (o 1), .ref (o 2), .ref (o 3), .ref (o 4), .ref (o 5), .ref (o 6), .ref (o 7), .ref (o 8), .ref (o 9), .ref (o 10), .int ((r 0).toInt32)])), (o 1, .inl (0, 6, .inl (seF t r))), (o 3, .inl (0, 3, .inl (plX r))), (o 4, .inl (0, 3, .inl (plY r))), (u 2, .inl (0, 3, .inl ol)), (u 3, .inl (0, 3, .inl la)), (u 1, .inr (19, [.ref e, .int (nI z), .int (nI (dqT m z (cntQ rr)))])), (e, .inl (3, m, .inr (.inr (.inr (.inr f)))))]) 0 0 0 [(0, .ref (u 0))] []
  refine r_iconst hC 0 dX2_notice_0 ic_0 1 rfl ?_
  refine r_istore_n hC 1 [(1, .int 0), (0, .ref (u 0))] dX2_notice_1 rfl (Nat.le_of_ble_eq_true rfl) rfl 2 rfl ?_
  refine r_iload_n hC 0 dX2_notice_2 rfl 3 rfl ?_
  refine r_iconst hC 3 dX2_notice_3 ic_3 4 rfl ?_
  refine r_icge hC 108 dX2_notice_4 (by decide) 7 rfl (fun h => absurd h (by decide)) (fun _ => ?_)
  refine r_aload_n hC 1 dX2_notice_7 rfl 8 rfl ?_
  refine r_get (v := .int (nI rem)) hC kX2 4 rfl q295 (fun _ h => h.get 0 rfl) rfl dX2_notice_8 11 rfl ?_
  refine r_iconst hC 2 dX2_notice_11 ic_2 12 rfl ?_
  refine r_icne hC 108 dX2_notice_12 (by decide) 15 rfl (fun _ => ?_) (fun h => absurd h (fun q => by have := (eq_nI (b := 2) (by omega) (by omega)).mp q; omega))
  have hR9 : lookQ t mm rr rem = rr := if_neg (by omega)
  exact r_vret hC (Nat.le_of_ble_eq_true rfl) (Nat.le_of_ble_eq_true rfl) (fun V9 h => hQ _ _ ⟨[(u 0, .inr (1, [.ref (o 0), .ref (u 1), .ref (u 2), .ref (u 3), .int (nI rem), .int cr, .long lo, .long hi])), (o 0, .inr (2, [.ref (o 1), .ref (o 2), .ref (o 3), .ref (o 4), .ref (o 5), .ref (o 6), .ref (o 7), .ref (o 8), .ref (o 9), .ref (o 10), .int ((r 0).toInt32)])), (o 1, .inl (0, 6, .inl (seF t r))), (o 3, .inl (0, 3, .inl (plX r))), (o 4, .inl (0, 3, .inl (plY r))), (u 2, .inl (0, 3, .inl ol)), (u 3, .inl (0, 3, .inl la)), (u 1, .inr (19, [.ref e, .int (nI z), .int (nI (dqT m z (cntQ rr)))])), (e, .inl (3, m, .inr (.inr (.inr (.inr f)))))], ⟨rfl, m, z, e, f, [], by rw [hR9]; exact hS, by rw [hR9, List.append_nil]; exact hD, by rw [hR9]; exact hA, by rw [hR9]; rfl⟩, by rw [← hV0, ← hF]; exact h⟩) dX2_notice_108
theorem metX2_notice (l : Launch) (G : xG) (hG : xGood G) (o u : Nat → Nat) (t r mm rr : Nat → Int64) (cr : Int32) (lo hi : Int64) (ol la : Nat → Int32) (PL : List (Nat × (Int32 × Int32 × Int32))) (e m z : Nat) (f : Nat → Option Nat) (hpl : plR r) (ht : tOK t) (hlo : loE rr r) (hS : dqS m z (cntQ rr)) (hA : rowA rr) (hD : dqA PL rr m z (cntQ rr) f) (rem : Nat) (hrem : rem ≤ 2) (hme : meR mm rem ol la) : xWmP (plIn [(u 0, .inr (1, [.ref (o 0), .ref (u 1), .ref (u 2), .ref (u 3), .int (nI rem), .int cr, .long lo, .long hi])), (o 0, .inr (2, [.ref (o 1), .ref (o 2), .ref (o 3), .ref (o 4), .ref (o 5), .ref (o 6), .ref (o 7), .ref (o 8), .ref (o 9), .ref (o 10), .int ((r 0).toInt32)])), (o 1, .inl (0, 6, .inl (seF t r))), (o 3, .inl (0, 3, .inl (plX r))), (o 4, .inl (0, 3, .inl (plY r))), (u 2, .inl (0, 3, .inl ol)), (u 3, .inl (0, 3, .inl la)), (u 1, .inr (19, [.ref e, .int (nI z), .int (nI (dqT m z (cntQ rr)))])), (e, .inl (3, m, .inr (.inr (.inr (.inr f)))))] PL) l G yX2_notice (Cond.code yX2_notice cX2_notice 3 none) { frames := 5, locals := 154, cells := 6, slots := 117 } [.ref (u 0)] [(u 0, .inr (1, [.ref (o 0), .ref (u 1), .ref (u 2), .ref (u 3), .int (nI rem), .int cr, .long lo, .long hi])), (o 0, .inr (2, [.ref (o 1), .ref (o 2), .ref (o 3), .ref (o 4), .ref (o 5), .ref (o 6), .ref (o 7), .ref (o 8), .ref (o 9), .ref (o 10), .int ((r 0).toInt32)])), (o 1, .inl (0, 6, .inl (seF t r))), (o 3, .inl (0, 3, .inl (plX r))), (o 4, .inl (0, 3, .inl (plY r))), (u 2, .inl (0, 3, .inl ol)), (u 3, .inl (0, 3, .inl la)), (u 1, .inr (19, [.ref e, .int (nI z), .int (nI (dqT m z (cntQ rr)))])), (e, .inl (3, m, .inr (.inr (.inr (.inr f)))))] (fun v w' => v = none ∧ ∃ (m' z' e' : Nat) (f' : Nat → Option Nat) (nw' : List (Nat × (Int32 × Int32 × Int32))), dqS m' z' (cntQ (lookQ t mm rr rem)) ∧ dqA (PL ++ nw') (lookQ t mm rr rem) m' z' (cntQ (lookQ t mm rr rem)) f' ∧ rowA (lookQ t mm rr rem) ∧ w' = ([(u 0, .inr (1, [.ref (o 0), .ref (u 1), .ref (u 2), .ref (u 3), .int (nI rem), .int cr, .long lo, .long hi])), (o 0, .inr (2, [.ref (o 1), .ref (o 2), .ref (o 3), .ref (o 4), .ref (o 5), .ref (o 6), .ref (o 7), .ref (o 8), .ref (o 9), .ref (o 10), .int ((r 0).toInt32)])), (o 1, .inl (0, 6, .inl (seF t r))), (o 3, .inl (0, 3, .inl (plX r))), (o 4, .inl (0, 3, .inl (plY r))), (u 2, .inl (0, 3, .inl ol)), (u 3, .inl (0, 3, .inl la)), (u 1, .inr (19, [.ref e', .int (nI z'), .int (nI (dqT m' z' (cntQ (lookQ t mm rr rem))))])), (e', .inl (3, m', .inr (.inr (.inr (.inr f')))))] ++ (nw'.map plC))) (fun _ _ => False) := by
  by_cases h : rem < 2
  · exact metX2_noticeN l G hG o u t r mm rr cr lo hi ol la PL e m z f hpl ht hlo hS hA hD rem h
  · obtain rfl : rem = 2 := by omega
    exact metX2_notice2 l G hG o u t r mm rr cr lo hi ol la PL e m z f hpl ht hlo hS hA hD hme
