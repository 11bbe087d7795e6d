/-! ===== the JDK: maps: resize, the whole ===== -/
set_option maxRecDepth 100000
theorem hd_some {l : List Nat} {x : Nat} (h : l.head? = some x) : x ∈ l := by
  cases l with
  | nil => cases h
  | cons c t => rw [← Option.some.inj h]; exact List.mem_cons_self
theorem hd_none {l : List Nat} (h : l.head? = none) : l = [] := by
  cases l with
  | nil => rfl
  | cons c t => cases h
theorem hd_lst {l : List Nat} {x : Nat} (h : l.head? = some x) : ∃ z, lstO none l = some z ∧ z ∈ l := by
  cases hl : l with
  | nil => rw [hl] at h; cases h
  | cons c t =>
    obtain ⟨l0, z, hz⟩ := ex_last hl
    rw [← hl, hz]
    exact ⟨z, lstO_snoc, List.mem_append_right _ List.mem_cons_self⟩
theorem nd_of_map {α : Type} {f : Nat → α} {l : List Nat} (h : (l.map f).Nodup) : l.Nodup := List.Pairwise.of_map f (fun a b hab e => hab (by rw [e])) h
set_option maxHeartbeats 4000000 in
set_option maxRecDepth 100000 in
theorem lpJ20_rz {C : xC} {F : Nat → Prop} {V0 : xV} (c9 s9 : Nat) (hG : xGood (xGG C)) (hC : xCtx C RJ20 cJ20_resize 14 (some (.array (.object "java/util/HashMap$Node"))) { frames := 6, locals := 150, cells := c9, slots := s9 }) (M : Nat) (es : Option Nat) (sz th : Nat) (mc : Int32) (ot nt cap : Nat) (hcap : capI cap) (hcap2 : capI (2 * cap)) (D : List (Int32 × Nat × Nat)) (hD : (D.map (fun q => q.1)).Nodup) (bins : Nat → List Nat) (hbl : ∀ b, b < cap → (bins b).length < 2147483648) (kx : ∀ (of nf : Nat → Option Nat) (nb : Nat → List Nat) (L : List Nat) (kd : Nat → Bool) (hs : Nat → Int32) (ky vl : Nat → Nat) (nx bf af pa lf rt pv : Nat → Option Nat) (rd : Nat → Int32) (hd tl : Option Nat) (ord : List Nat) (k n : Nat), rzI cap cap D of nf bins nb L ord kd hs ky vl nx bf af pa lf rt pv hd tl → k ≤ c9 → n ≤ s9 → rn C (xSt F V0 ([(M, .inr (25, [.ref nt, va_rf es, .int (nI sz), .int mc, .int (nI th), .float 1061158912, .null, .null, va_rf hd, va_rf tl, .int 0, .int 0])), (ot, .inl (8, cap, .inr (.inr (.inr (.inr of))))), (nt, .inl (8, 2 * cap, .inr (.inr (.inr (.inr nf)))))] ++ stW L (ndX kd hs ky vl nx bf af pa lf rt pv rd))) k n 353 [(6, .ref nt)] []) : ∀ (m j : Nat) (of nf : Nat → Option Nat) (nb : Nat → List Nat) (L : List Nat) (kd : Nat → Bool) (hs : Nat → Int32) (ky vl : Nat → Nat) (nx bf af pa lf rt pv : Nat → Option Nat) (rd : Nat → Int32) (hd tl : Option Nat) (ord : List Nat) (k n : Nat), j + m = cap → rzI cap j D of nf bins nb L ord kd hs ky vl nx bf af pa lf rt pv hd tl → k + sB bins j m ≤ c9 → n + 6 * sB bins j m ≤ s9 → rn C (xSt F V0 ([(M, .inr (25, [.ref nt, va_rf es, .int (nI sz), .int mc, .int (nI th), .float 1061158912, .null, .null, va_rf hd, va_rf tl, .int 0, .int 0])), (ot, .inl (8, cap, .inr (.inr (.inr (.inr of))))), (nt, .inl (8, 2 * cap, .inr (.inr (.inr (.inr nf)))))] ++ stW L (ndX kd hs ky vl nx bf af pa lf rt pv rd))) k n 151 [(7, .int (nI j)), (6, .ref nt), (4, .int (nI (2 * cap))), (2, .int (nI cap)), (1, .ref ot), (0, .ref M)] [] := by
  have hle := hcap.le
  intro m
  induction m with
  | zero =>
    intro j of nf nb L kd hs ky vl nx bf af pa lf rt pv rd hd tl ord k n hjm hI hk hn
    obtain rfl : j = cap := by omega
    have hk : k ≤ c9 := hk
    have hn : n ≤ s9 := hn
    refine r_iload hC 0 dJ20_resize_151 rfl 153 rfl ?_
    refine r_iload_n hC 3 dJ20_resize_153 rfl 154 rfl ?_
    refine r_icge hC 353 dJ20_resize_154 (by decide) 157 rfl (fun _ => ?_) (fun h => absurd (Int32.le_refl _) h)
    refine rn.sub (lv' := [(6, .ref nt)]) [1] rfl ?_
    exact kx of nf nb L kd hs ky vl nx bf af pa lf rt pv rd hd tl ord k n hI (by simpa using hk) (by simpa using hn)
  | succ m ih =>
    intro j of nf nb L kd hs ky vl nx bf af pa lf rt pv rd hd tl ord k n hjm hI hk hn
    have hj : j < cap := by omega
    obtain ⟨hB, hn1, hn2, hmem⟩ := hI.1 j (Nat.le_refl _) hj
    have hl := hI.2.2.1
    have hoL := hI.2.2.2.1
    have hLo : ∀ a, a ∈ bins j → a ∈ ord := fun a ha => ((hmem a).mp ha).1
    have hix : ∀ a, a ∈ bins j → ixN (hs a) cap = j := fun a ha => ((hmem a).mp ha).2
    rw [show sB bins j (m + 1) = (bins j).length + sB bins (j + 1) m from rfl] at hk hn
    obtain ⟨hseg, hnd, hkind⟩ := hB
    cases hBj : bins j with
    | nil =>
      rw [hBj] at hseg
      have hof : of j = none := hseg
      have hS := rz_step hI hj (N1 := []) (N2 := []) (by rw [hBj]; exact brI.same hl hoL (fun a ha => absurd ha List.not_mem_nil)) ⟨rfl, List.nodup_nil, Or.inl fun a ha => absurd ha List.not_mem_nil⟩ ⟨rfl, List.nodup_nil, Or.inl fun a ha => absurd ha List.not_mem_nil⟩ (fun a ha => absurd ha List.not_mem_nil) (fun a ha => absurd ha List.not_mem_nil) of (fun b _ => rfl)
      rw [show va_up (va_up nf j ([] : List Nat).head?) (j + cap) ([] : List Nat).head? = nf from (rz_nf1 (by omega) hn2).trans (rz_nf2 hn1)] at hS
      exact lpJ20_rzE c9 s9 hG hC k n L kd hs ky vl nx bf af pa lf rt pv rd M es sz th mc hd tl ot nt cap of nf hcap hcap2 j hj hof (lpJ20_rzi c9 s9 hG hC k n L kd hs ky vl nx bf af pa lf rt pv rd M es sz th mc hd tl ot nt cap of nf hcap hcap2 j hj (ih (j + 1) of nf _ L kd hs ky vl nx bf af pa lf rt pv rd hd tl ord k n (by omega) hS (by omega) (by omega)))
    | cons f t =>
      have hlen := congrArg List.length hBj
      have hfm : f ∈ bins j := by rw [hBj]; exact List.mem_cons_self
      rw [hBj] at hseg hnd hkind
      have hof : of j = some f := hseg.1
      have hfo : f ∈ ord := hLo f hfm
      rcases hkind with hpl | ⟨htr, hlen6, hbck, root, t9, hrt, hT⟩
      · have hfk := hpl f List.mem_cons_self
        cases ht : t with
        | nil =>
          have hnf : nx f = none := by rw [ht] at hseg; exact hseg.2
          have hBf : binI kd hs nx pa lf rt pv ([f] : List Nat).head? [f] := ⟨⟨rfl, hnf⟩, by rw [ht] at hnd; exact hnd, Or.inl fun a ha => by rw [List.mem_singleton.mp ha]; exact hfk⟩
          refine lpJ20_rz1 c9 s9 hG hC k n L kd hs ky vl nx bf af pa lf rt pv rd M es sz th mc hd tl ot nt cap of nf hcap hcap2 j hj f hof (hoL f hfo) hfk hnf ?_
          cases hlb : lob hs cap f with
          | true =>
            have hxi := (lob_ix hcap (hix f hfm)).trans (if_pos hlb)
            have hS := rz_step hI hj (N1 := [f]) (N2 := []) (by rw [hBj, ht]; exact brI.same hl hoL (fun a ha => by rw [List.mem_singleton.mp ha]; exact hfo)) hBf ⟨rfl, List.nodup_nil, Or.inl fun a ha => absurd ha List.not_mem_nil⟩ (fun a ha => by rw [List.mem_singleton.mp ha]; exact hxi) (fun a ha => absurd ha List.not_mem_nil) (va_up of j none) (fun b hb => up_ne (by omega))
            rw [show va_up (va_up nf j ([f] : List Nat).head?) (j + cap) ([] : List Nat).head? = va_up nf j (some f) from rz_nf1 (by omega) hn2] at hS
            rw [hxi]
            exact lpJ20_rzi c9 s9 hG hC k n L kd hs ky vl nx bf af pa lf rt pv rd M es sz th mc hd tl ot nt cap (va_up of j none) (va_up nf j (some f)) hcap hcap2 j hj (ih (j + 1) (va_up of j none) (va_up nf j (some f)) _ L kd hs ky vl nx bf af pa lf rt pv rd hd tl ord k n (by omega) hS (by omega) (by omega))
          | false =>
            have hxi := (lob_ix hcap (hix f hfm)).trans (if_neg (by rw [hlb]; decide))
            have hS := rz_step hI hj (N1 := []) (N2 := [f]) (by rw [hBj, ht]; exact brI.same hl hoL (fun a ha => by rw [List.mem_singleton.mp ha]; exact hfo)) ⟨rfl, List.nodup_nil, Or.inl fun a ha => absurd ha List.not_mem_nil⟩ hBf (fun a ha => absurd ha List.not_mem_nil) (fun a ha => by rw [List.mem_singleton.mp ha]; exact hxi) (va_up of j none) (fun b hb => up_ne (by omega))
            rw [show va_up (va_up nf j ([] : List Nat).head?) (j + cap) ([f] : List Nat).head? = va_up nf (j + cap) (some f) from (congrArg (fun q => va_up q (j + cap) (some f)) (rz_nf2 hn1))] at hS
            rw [hxi]
            exact lpJ20_rzi c9 s9 hG hC k n L kd hs ky vl nx bf af pa lf rt pv rd M es sz th mc hd tl ot nt cap (va_up of j none) (va_up nf (j + cap) (some f)) hcap hcap2 j hj (ih (j + 1) (va_up of j none) (va_up nf (j + cap) (some f)) _ L kd hs ky vl nx bf af pa lf rt pv rd hd tl ord k n (by omega) hS (by omega) (by omega))
        | cons g u =>
          rw [ht] at hseg hnd hpl
          have hnf : nx f = some g := hseg.2.1
          have hLb : ∀ a, a ∈ f :: g :: u → a ∈ bins j := fun a ha => by rw [hBj, ht]; exact ha
          refine lpJ20_rzL c9 s9 hG hC k n L kd hs ky vl nx bf af pa lf rt pv rd M es sz th mc hd tl ot nt cap of nf hcap hcap2 j hj f g hof (hoL f hfo) hfk hnf ?_
          refine lpJ20_deal c9 s9 hG hC k n L kd hs ky vl bf af pa lf rt pv rd M es sz th mc hd tl ot nt cap (va_up of j none) nf hcap hcap2 j nx (f :: g :: u) (fun a ha => ⟨hoL a (hLo a (hLb a ha)), hpl a ha⟩) ?_ _ (g :: u) [] [] [] nx f rfl ⟨rfl, hseg.2⟩ (dlI.start hnd)
          intro Lo Hi nx1 hD9
          have hLoM : ∀ a, a ∈ Lo → a ∈ L ∧ kd a = false := fun a ha => by
            have q : a ∈ f :: g :: u := fl_mem (p := lob hs cap) (by rw [← hD9.2.1]; exact ha)
            exact ⟨hoL a (hLo a (hLb a q)), hpl a q⟩
          have hHiM : ∀ a, a ∈ Hi → a ∈ L ∧ kd a = false := fun a ha => by
            have q : a ∈ f :: g :: u := fl_mem (p := fun a => !lob hs cap a) (by rw [← hD9.2.2.1]; exact ha)
            exact ⟨hoL a (hLo a (hLb a q)), hpl a q⟩
          obtain ⟨hR, hB1, hB2⟩ := br_deal (L := L) (ky := ky) (vl := vl) (pa := pa) (lf := lf) (rt := rt) (pv := pv) hl hoL (fun a ha => hLo a (hLb a ha)) hpl hD9
          obtain ⟨hx1, hx2⟩ := dl_ix hcap hD9 (fun a ha => hix a (hLb a ha))
          have hS := rz_step hI hj (by rw [hBj, ht]; exact hR) hB1 hB2 hx1 hx2 (va_up of j none) (fun b hb => up_ne (by omega))
          rcases opt_c Lo.head? with h1 | ⟨lh, h1⟩
          · have hLe := hd_none h1
            rcases opt_c Hi.head? with h3 | ⟨hh, h3⟩
            · have hHe := hd_none h3
              have q := hR.2.2.2.2.2.2.2.2
              rw [hLe, hHe] at q
              cases q
            · obtain ⟨ht9, h4, h4m⟩ := hd_lst h3
              have h2 : lstO none Lo = none := by rw [hLe]; rfl
              rw [h1, h2, h3, h4]
              rw [h1, h2, h3, h4] at hS
              rw [show va_up nf j none = nf from rz_nf2 hn1] at hS
              exact lpJ20_cutEN c9 s9 hG hC k n L kd hs ky vl nx1 bf af pa lf rt pv rd M es sz th mc hd tl ot nt cap (va_up of j none) nf hcap hcap2 j hj hh ht9 (hHiM hh (hd_some h3)).1 (hHiM hh (hd_some h3)).2 (hHiM ht9 h4m).1 (hHiM ht9 h4m).2 (lpJ20_rzi c9 s9 hG hC k n L kd hs ky vl (va_up nx1 ht9 none) bf af pa lf rt pv rd M es sz th mc hd tl ot nt cap (va_up of j none) (va_up nf (j + cap) (some hh)) hcap hcap2 j hj (ih (j + 1) (va_up of j none) (va_up nf (j + cap) (some hh)) _ L kd hs ky vl (va_up nx1 ht9 none) bf af pa lf rt pv rd hd tl ord k n (by omega) hS (by omega) (by omega)))
          · obtain ⟨lt, h2, h2m⟩ := hd_lst h1
            rcases opt_c Hi.head? with h3 | ⟨hh, h3⟩
            · have hHe := hd_none h3
              have h4 : lstO none Hi = none := by rw [hHe]; rfl
              rw [h1, h2, h3, h4]
              rw [h1, h2, h3, h4] at hS
              rw [show va_up (va_up nf j (some lh)) (j + cap) none = va_up nf j (some lh) from rz_nf1 (by omega) hn2] at hS
              exact lpJ20_cutNE c9 s9 hG hC k n L kd hs ky vl nx1 bf af pa lf rt pv rd M es sz th mc hd tl ot nt cap (va_up of j none) nf hcap hcap2 j hj lh lt (hLoM lh (hd_some h1)).1 (hLoM lh (hd_some h1)).2 (hLoM lt h2m).1 (hLoM lt h2m).2 (lpJ20_rzi c9 s9 hG hC k n L kd hs ky vl (va_up nx1 lt none) bf af pa lf rt pv rd M es sz th mc hd tl ot nt cap (va_up of j none) (va_up nf j (some lh)) hcap hcap2 j hj (ih (j + 1) (va_up of j none) (va_up nf j (some lh)) _ L kd hs ky vl (va_up nx1 lt none) bf af pa lf rt pv rd hd tl ord k n (by omega) hS (by omega) (by omega)))
            · obtain ⟨ht9, h4, h4m⟩ := hd_lst h3
              rw [h1, h2, h3, h4]
              rw [h1, h2, h3, h4] at hS
              exact lpJ20_cutNN c9 s9 hG hC k n L kd hs ky vl nx1 bf af pa lf rt pv rd M es sz th mc hd tl ot nt cap (va_up of j none) nf hcap hcap2 j hj lh lt (hLoM lh (hd_some h1)).1 (hLoM lh (hd_some h1)).2 (hLoM lt h2m).1 (hLoM lt h2m).2 hh ht9 (hHiM hh (hd_some h3)).1 (hHiM hh (hd_some h3)).2 (hHiM ht9 h4m).1 (hHiM ht9 h4m).2 (lpJ20_rzi c9 s9 hG hC k n L kd hs ky vl (va_up (va_up nx1 lt none) ht9 none) bf af pa lf rt pv rd M es sz th mc hd tl ot nt cap (va_up of j none) (va_up (va_up nf j (some lh)) (j + cap) (some hh)) hcap hcap2 j hj (ih (j + 1) (va_up of j none) (va_up (va_up nf j (some lh)) (j + cap) (some hh)) _ L kd hs ky vl (va_up (va_up nx1 lt none) ht9 none) bf af pa lf rt pv rd hd tl ord k n (by omega) hS (by omega) (by omega)))
      · obtain rfl : f = root := (List.cons.inj hrt).1
        have hnf : ∃ g, nx f = some g := by
          cases ht : t with
          | nil => rw [ht] at hlen6; exact absurd hlen6 (show ¬ 6 < 1 by decide)
          | cons g u => rw [ht] at hseg; exact ⟨g, hseg.2.1⟩
        obtain ⟨g, hnf⟩ := hnf
        have hLb : ∀ a, a ∈ f :: t → a ∈ bins j := fun a ha => by rw [hBj]; exact ha
        refine lpJ20_rzT c9 s9 hG hC k n L kd hs ky vl nx bf af pa lf rt pv rd M es sz th mc hd tl ot nt cap of nf hcap hcap2 j hj ord f g t hof hnf ⟨rfl, hseg.2⟩ hnd htr hlen6 (by rw [← hBj]; exact hbl j hj) hbck hT hl hoL (fun a ha => hLo a (hLb a ha)) (rz_inj hI hD) hn1 hn2 (fun a ha => hix a (hLb a ha)) (by omega) (by omega) ?_
        intro L2 ord2 N2 kd2 hs2 ky2 vl2 nx2 bf2 af2 pa2 lf2 rt2 pv2 rd2 hd2 tl2 N1 hR2 hB1 hB2 hx1 hx2
        have hS := rz_step hI hj (by rw [hBj]; exact hR2) hB1 hB2 hx1 hx2 (va_up of j none) (fun b hb => up_ne (by omega))
        exact lpJ20_rzi c9 s9 hG hC (k + (f :: t).length) (n + 6 * (f :: t).length) L2 kd2 hs2 ky2 vl2 nx2 bf2 af2 pa2 lf2 rt2 pv2 rd2 M es sz th mc hd2 tl2 ot nt cap (va_up of j none) (va_up (va_up nf j N1.head?) (j + cap) N2.head?) hcap hcap2 j hj (ih (j + 1) (va_up of j none) (va_up (va_up nf j N1.head?) (j + cap) N2.head?) _ L2 kd2 hs2 ky2 vl2 nx2 bf2 af2 pa2 lf2 rt2 pv2 rd2 hd2 tl2 ord2 (k + (f :: t).length) (n + 6 * (f :: t).length) (by omega) hS (by omega) (by omega))
theorem nd_of_map2 {α β : Type} {f : α → β} {l : List α} (h : (l.map f).Nodup) : l.Nodup := List.Pairwise.of_map f (fun a b hab e => hab (by rw [e])) h
theorem ge16 {n : Nat} (h : 16 ≤ n) (h2 : n < 2147483648) : ¬ nI n < 16 := by
  rw [Int32.lt_iff_toInt_lt, nI_toInt (by omega)]
  have h0 : (16 : Int32).toInt = 16 := rfl
  omega
theorem nz_nI {n : Nat} (h : 1 ≤ n) (h2 : n < 2147483648) : nI n ≠ 0 := fun e => by
  have := congrArg Int32.toInt e
  rw [nI_toInt (by omega)] at this
  have h0 : (0 : Int32).toInt = 0 := rfl
  omega
set_option maxHeartbeats 4000000 in
set_option maxRecDepth 100000 in
theorem metJ20_resizeB (l : Launch) (G : xG) (hG : xGood G) (L : List Nat) (kd : Nat → Bool) (hs : Nat → Int32) (ky vl : Nat → Nat) (nx bf af pa lf rt pv : Nat → Option Nat) (rd : Nat → Int32) (M : Nat) (es : Option Nat) (sz th : Nat) (mc : Int32) (hd tl : Option Nat) (ot cap : Nat) (of : Nat → Option Nat) (hcap : capI cap) (hcap2 : capI (2 * cap)) (hth1 : 1 ≤ th) (hth2 : th ≤ 512) (bins : Nat → List Nat) (ord : List Nat) (hbi : binsI kd hs nx pa lf rt pv of cap bins ord) (hl : lnk bf af hd tl ord) (hoL : ∀ a, a ∈ ord → a ∈ L) (hD : ((ord.map (dt hs ky vl)).map (fun q => q.1)).Nodup) (hon : ord.length ≤ 1000) : xWm l G yJ20_resize (Cond.code yJ20_resize cJ20_resize 14 (some (.array (.object "java/util/HashMap$Node")))) { frames := 6, locals := 150, cells := 1 + ord.length, slots := 2 * cap + 6 * ord.length } [.ref M] ([(M, .inr (25, [.ref ot, va_rf es, .int (nI sz), .int mc, .int (nI th), .float 1061158912, .null, .null, va_rf hd, va_rf tl, .int 0, .int 0])), (ot, .inl (8, cap, .inr (.inr (.inr (.inr of)))))] ++ stW L (ndX kd hs ky vl nx bf af pa lf rt pv rd)) (fun v w' => ∃ (nt : Nat) (nf : Nat → Option Nat) (nb : Nat → List Nat) (L2 ord2 : List Nat) (kd2 : Nat → Bool) (hs2 : Nat → Int32) (ky2 vl2 : Nat → Nat) (nx2 bf2 af2 pa2 lf2 rt2 pv2 : Nat → Option Nat) (rd2 : Nat → Int32) (hd2 tl2 : Option Nat), v = some (.ref nt) ∧ binsI kd2 hs2 nx2 pa2 lf2 rt2 pv2 nf (2 * cap) nb ord2 ∧ lnk bf2 af2 hd2 tl2 ord2 ∧ (∀ a, a ∈ ord2 → a ∈ L2) ∧ ord2.map (dt hs2 ky2 vl2) = ord.map (dt hs ky vl) ∧ w' = ([(M, .inr (25, [.ref nt, va_rf es, .int (nI sz), .int mc, .int (nI (2 * th)), .float 1061158912, .null, .null, va_rf hd2, va_rf tl2, .int 0, .int 0])), (nt, .inl (8, 2 * cap, .inr (.inr (.inr (.inr nf)))))] ++ stW L2 (ndX kd2 hs2 ky2 vl2 nx2 bf2 af2 pa2 lf2 rt2 pv2 rd2))) (fun _ _ => False) := by
  intro V hV
  refine xMet_ofT RJ20 hG rfl (by decide) (Nat.le_of_ble_eq_true rfl) fun C hC hQ hX hl hg _ hTab => ?_
  subst hl hg
  have hle := hcap.le
  have hle2 := hcap2.le
  obtain ⟨V0, hV0⟩ : ∃ V0, V0 = V := ⟨_, rfl⟩
  obtain ⟨F, hF⟩ : ∃ F, F = xF ([(M, .inr (25, [.ref ot, va_rf es, .int (nI sz), .int mc, .int (nI th), .float 1061158912, .null, .null, va_rf hd, va_rf tl, .int 0, .int 0])), (ot, .inl (8, cap, .inr (.inr (.inr (.inr of)))))] ++ stW L (ndX kd hs ky vl nx bf af pa lf rt pv rd)) := ⟨_, rfl⟩
  refine rn.mono (J := xSt F V0 ([(M, .inr (25, [.ref ot, va_rf es, .int (nI sz), .int mc, .int (nI th), .float 1061158912, .null, .null, va_rf hd, va_rf tl, .int 0, .int 0])), (ot, .inl (8, cap, .inr (.inr (.inr (.inr of)))))] ++ stW L (ndX kd hs ky vl nx bf af pa lf rt pv rd))) (fun V9 h => by rw [h, hV0, hF]; exact hV.st) ?_
  show rn C (xSt F V0 ([(M, .inr (25, [.ref ot, va_rf es, .int (nI sz), .int mc, .int (nI th), .float 1061158912, .null, .null, va_rf hd, va_rf tl, .int 0, .int 0])), (ot, .inl (8, cap, .inr (.inr (.inr (.inr of)))))] ++ stW L (ndX kd hs ky vl nx bf af pa lf rt pv rd))) 0 0 0 [(0, .ref M)] []
  refine r_aload_n hC 0 dJ20_resize_0 rfl 1 rfl ?_
  refine r_get (v := .ref ot) hC kJ21 0 rfl q1770 (fun _ h => h.get 0 rfl) rfl dJ20_resize_1 4 rfl ?_
  refine r_astore_n hC 1 [(1, .ref ot), (0, .ref M)] dJ20_resize_4 rfl (Nat.le_of_ble_eq_true rfl) rfl 5 rfl ?_
  refine r_aload_n hC 0 dJ20_resize_5 rfl 6 rfl ?_
  refine r_ifnonnull hC 13 dJ20_resize_6 (by decide) ?_
  refine r_aload_n hC 0 dJ20_resize_13 rfl 14 rfl ?_
  refine r_alen hC (nI cap) (t := 8) rfl (fun _ h => h.get 1 rfl) rfl dJ20_resize_14 15 rfl ?_
  refine r_istore_n hC 2 [(2, .int (nI cap)), (1, .ref ot), (0, .ref M)] dJ20_resize_15 rfl (Nat.le_of_ble_eq_true rfl) rfl 16 rfl ?_
  refine r_aload_n hC 2 dJ20_resize_16 rfl 17 rfl ?_
  refine r_get (v := .int (nI th)) hC kJ21 4 rfl q1778 (fun _ h => h.get 0 rfl) rfl dJ20_resize_17 20 rfl ?_
  refine r_istore_n hC 3 [(3, .int (nI th)), (2, .int (nI cap)), (1, .ref ot), (0, .ref M)] dJ20_resize_20 rfl (Nat.le_of_ble_eq_true rfl) rfl 21 rfl ?_
  refine r_iconst hC 0 dJ20_resize_21 ic_0 22 rfl ?_
  refine r_istore hC 5 [(5, .int 0), (3, .int (nI th)), (2, .int (nI cap)), (1, .ref ot), (0, .ref M)] dJ20_resize_22 (Nat.le_of_ble_eq_true rfl) rfl 24 rfl ?_
  refine r_iload_n hC 2 dJ20_resize_24 rfl 25 rfl ?_
  refine r_ifle hC 67 dJ20_resize_25 (by decide) 28 rfl (fun h => absurd h (ic_pos (by omega) (by omega))) (fun _ => ?_)
  refine r_iload_n hC 2 dJ20_resize_28 rfl 29 rfl ?_
  refine r_ldc hC q2197 dJ20_resize_29 31 rfl ?_
  refine r_iclt hC 42 dJ20_resize_31 (by decide) 34 rfl (fun _ => ?_) (fun h => absurd (lt30 (by omega)) h)
  refine r_iload_n hC 2 dJ20_resize_42 rfl 43 rfl ?_
  refine r_iconst hC 1 dJ20_resize_43 ic_1 44 rfl ?_
  refine r_ishl hC (nI (2 * cap)) dJ20_resize_44  (ishl1 (by omega)) 45 rfl ?_
  refine r_dup hC dJ20_resize_45 rfl 46 rfl ?_
  refine r_istore hC 4 [(4, .int (nI (2 * cap))), (5, .int 0), (3, .int (nI th)), (2, .int (nI cap)), (1, .ref ot), (0, .ref M)] dJ20_resize_46 (Nat.le_of_ble_eq_true rfl) rfl 48 rfl ?_
  refine r_ldc hC q2197 dJ20_resize_48 50 rfl ?_
  refine r_icge hC 85 dJ20_resize_50 (by decide) 53 rfl (fun h => absurd h (fun q => by have := lt30 (n := 2 * cap) (by omega); rw [Int32.le_iff_toInt_le] at q; rw [Int32.lt_iff_toInt_lt] at this; omega)) (fun _ => ?_)
  refine r_iload_n hC 3 dJ20_resize_53 rfl 54 rfl ?_
  refine r_bipush hC 16 dJ20_resize_54 bp_16 56 rfl ?_
  refine r_iclt hC 85 dJ20_resize_56 (by decide) 59 rfl (fun h => absurd h (ge16 (by omega) (by omega))) (fun _ => ?_)
  refine r_iload_n hC 2 dJ20_resize_59 rfl 60 rfl ?_
  refine r_iconst hC 1 dJ20_resize_60 ic_1 61 rfl ?_
  refine r_ishl hC (nI (2 * th)) dJ20_resize_61  (ishl1 (by omega)) 62 rfl ?_
  refine r_istore hC 5 [(5, .int (nI (2 * th))), (4, .int (nI (2 * cap))), (3, .int (nI th)), (2, .int (nI cap)), (1, .ref ot), (0, .ref M)] dJ20_resize_62 (Nat.le_of_ble_eq_true rfl) rfl 64 rfl ?_
  refine r_goto hC 85 dJ20_resize_64 (by decide) ?_
  refine r_iload hC 0 dJ20_resize_85 rfl 87 rfl ?_
  refine r_ifne hC 125 dJ20_resize_87 (by decide) 90 rfl (fun _ => ?_) (fun h => absurd h (nz_nI (by omega) (by omega)))
  refine r_aload_n hC 5 dJ20_resize_125 rfl 126 rfl ?_
  refine r_iload hC 0 dJ20_resize_126 rfl 128 rfl ?_
  refine r_put (J := xSt F V0 ([(M, .inr (25, [.ref ot, va_rf es, .int (nI sz), .int mc, .int (nI (2 * th)), .float 1061158912, .null, .null, va_rf hd, va_rf tl, .int 0, .int 0])), (ot, .inl (8, cap, .inr (.inr (.inr (.inr of)))))] ++ stW L (ndX kd hs ky vl nx bf af pa lf rt pv rd))) hC kJ21 4 rfl q1778 rfl (fun _ h => h.get 0 rfl) (Nat.le_of_ble_eq_true rfl) (rfl) (rfl) dJ20_resize_128 (fun _ h => h.set 0 _ rfl) 131 rfl ?_
  refine r_iload hC 1 dJ20_resize_131 rfl 133 rfl ?_
  refine r_anew (J := fun q1 => xSt F V0 ([(M, .inr (25, [.ref ot, va_rf es, .int (nI sz), .int mc, .int (nI (2 * th)), .float 1061158912, .null, .null, va_rf hd, va_rf tl, .int 0, .int 0])), (ot, .inl (8, cap, .inr (.inr (.inr (.inr of))))), (q1, .inl (8, 2 * cap, .inr (.inr (.inr (.inr nQ)))))] ++ stW L (ndX kd hs ky vl nx bf af pa lf rt pv rd))) hC hG (.object "java/util/HashMap$Node") 8 (2 * cap) q2200 q2201 rfl rfl rfl (by omega) (by dsimp only; omega) (by first | omega | (dsimp only; omega)) dJ20_resize_133 (fun _ h => h.pushT _) 136 rfl (fun q1 => ?_)
  show rn C (xSt F V0 ([(M, .inr (25, [.ref ot, va_rf es, .int (nI sz), .int mc, .int (nI (2 * th)), .float 1061158912, .null, .null, va_rf hd, va_rf tl, .int 0, .int 0])), (ot, .inl (8, cap, .inr (.inr (.inr (.inr of))))), (q1, .inl (8, 2 * cap, .inr (.inr (.inr (.inr nQ)))))] ++ stW L (ndX kd hs ky vl nx bf af pa lf rt pv rd))) 1 (0 + 2 * cap) 136 [(5, .int (nI (2 * th))), (4, .int (nI (2 * cap))), (3, .int (nI th)), (2, .int (nI cap)), (1, .ref ot), (0, .ref M)] [.ref q1]
  refine r_astore hC 6 [(6, .ref q1), (5, .int (nI (2 * th))), (4, .int (nI (2 * cap))), (3, .int (nI th)), (2, .int (nI cap)), (1, .ref ot), (0, .ref M)] dJ20_resize_136 (Nat.le_of_ble_eq_true rfl) rfl 138 rfl ?_
  refine r_aload_n hC 6 dJ20_resize_138 rfl 139 rfl ?_
  refine r_aload hC 0 dJ20_resize_139 rfl 141 rfl ?_
  refine r_put (J := xSt F V0 ([(M, .inr (25, [.ref q1, va_rf es, .int (nI sz), .int mc, .int (nI (2 * th)), .float 1061158912, .null, .null, va_rf hd, va_rf tl, .int 0, .int 0])), (ot, .inl (8, cap, .inr (.inr (.inr (.inr of))))), (q1, .inl (8, 2 * cap, .inr (.inr (.inr (.inr nQ)))))] ++ stW L (ndX kd hs ky vl nx bf af pa lf rt pv rd))) hC kJ21 0 rfl q1770 rfl (fun _ h => h.get 0 rfl) (Nat.le_of_ble_eq_true rfl) (rfl) (rfl) dJ20_resize_141 (fun _ h => h.set 0 _ rfl) 144 rfl ?_
  refine r_aload_n hC 5 dJ20_resize_144 rfl 145 rfl ?_
  refine r_ifnull hC dJ20_resize_145 148 rfl ?_
  refine r_iconst hC 0 dJ20_resize_148 ic_0 149 rfl ?_
  refine r_istore hC 7 [(7, .int 0), (6, .ref q1), (5, .int (nI (2 * th))), (4, .int (nI (2 * cap))), (3, .int (nI th)), (2, .int (nI cap)), (1, .ref ot), (0, .ref M)] dJ20_resize_149 (Nat.le_of_ble_eq_true rfl) rfl 151 rfl ?_
  refine rn.sub (lv' := [(7, .int 0), (6, .ref q1), (4, .int (nI (2 * cap))), (2, .int (nI cap)), (1, .ref ot), (0, .ref M)]) [0, 1, 3, 5, 6, 7] rfl ?_
  have hnd : ord.Nodup := nd_of_map (nd_of_map2 hD)
  have hsb := sB_le hnd (bins := bins) (hs := hs) (fun b hb => ⟨(hbi.1 b hb).2.1, hbi.2 b hb⟩)
  have hbl : ∀ b, b < cap → (bins b).length < 2147483648 := fun b hb => by
    have := (hbi.1 b hb).2.1.length_le_of_subset (fun a ha => ((hbi.2 b hb a).mp ha).1)
    omega
  refine lpJ20_rz (1 + ord.length) (2 * cap + 6 * ord.length) hG hC M es sz (2 * th) mc ot q1 cap hcap hcap2 _ hD bins hbl (fun of9 nf9 nb9 L9 kd9 hs9 ky9 vl9 nx9 bf9 af9 pa9 lf9 rt9 pv9 rd9 hd9 tl9 ord9 k9 n9 hI hk9 hn9 => ?_) cap 0 of (fun _ => none) (fun _ => []) L kd hs ky vl nx bf af pa lf rt pv rd hd tl ord 1 (0 + 2 * cap) (Nat.zero_add _) (rz_start hbi hl hoL) (by omega) (by omega)
  refine r_aload hC 0 dJ20_resize_353 rfl 355 rfl ?_
  exact r_aret hC (v := some q1) (Or.inr ⟨_, rfl⟩) hk9 hn9 (fun V9 h => hQ _ _ ⟨_, ⟨q1, nf9, nb9, L9, ord9, kd9, hs9, ky9, vl9, nx9, bf9, af9, pa9, lf9, rt9, pv9, rd9, hd9, tl9, rfl, rz_end hI, hI.2.2.1, hI.2.2.2.1, hI.2.2.2.2, rfl⟩, by rw [← hV0, ← hF]; exact xSt.subT (wc := [(ot, .inl (8, cap, .inr (.inr (.inr (.inr of9)))))]) (wr := [(M, .inr (25, [.ref q1, va_rf es, .int (nI sz), .int mc, .int (nI (2 * th)), .float 1061158912, .null, .null, va_rf hd9, va_rf tl9, .int 0, .int 0])), (q1, .inl (8, 2 * cap, .inr (.inr (.inr (.inr nf9)))))]) h [1] [0, 2] 3 rfl rfl rfl rfl⟩) dJ20_resize_355
set_option maxHeartbeats 4000000 in
set_option maxRecDepth 100000 in
theorem metJ20_resizeA (l : Launch) (G : xG) (hG : xGood G) (L : List Nat) (kd : Nat → Bool) (hs : Nat → Int32) (ky vl : Nat → Nat) (nx bf af pa lf rt pv : Nat → Option Nat) (rd : Nat → Int32) (M : Nat) (es : Option Nat) (sz : Nat) (mc : Int32) (hd tl : Option Nat) : xWm l G yJ20_resize (Cond.code yJ20_resize cJ20_resize 14 (some (.array (.object "java/util/HashMap$Node")))) { frames := 0, locals := 0, cells := 1, slots := 16 } [.ref M] ([(M, .inr (25, [.null, va_rf es, .int (nI sz), .int mc, .int 0, .float 1061158912, .null, .null, va_rf hd, va_rf tl, .int 0, .int 0]))] ++ stW L (ndX kd hs ky vl nx bf af pa lf rt pv rd)) (fun v w' => ∃ nt : Nat, v = some (.ref nt) ∧ w' = ([(M, .inr (25, [.ref nt, va_rf es, .int (nI sz), .int mc, .int 12, .float 1061158912, .null, .null, va_rf hd, va_rf tl, .int 0, .int 0])), (nt, .inl (8, 16, .inr (.inr (.inr (.inr (fun _ => none))))))] ++ stW L (ndX kd hs ky vl nx bf af pa lf rt pv rd))) (fun _ _ => False) := by
  intro V hV
  refine xMet_ofT RJ20 hG rfl (by decide) (Nat.le_of_ble_eq_true rfl) fun C hC hQ hX hl hg _ hTab => ?_
  subst hl hg
  obtain ⟨V0, hV0⟩ : ∃ V0, V0 = V := ⟨_, rfl⟩
  obtain ⟨F, hF⟩ : ∃ F, F = xF ([(M, .inr (25, [.null, va_rf es, .int (nI sz), .int mc, .int 0, .float 1061158912, .null, .null, va_rf hd, va_rf tl, .int 0, .int 0]))] ++ stW L (ndX kd hs ky vl nx bf af pa lf rt pv rd)) := ⟨_, rfl⟩
  refine rn.mono (J := xSt F V0 ([(M, .inr (25, [.null, va_rf es, .int (nI sz), .int mc, .int 0, .float 1061158912, .null, .null, va_rf hd, va_rf tl, .int 0, .int 0]))] ++ stW L (ndX kd hs ky vl nx bf af pa lf rt pv rd))) (fun V9 h => by rw [h, hV0, hF]; exact hV.st) ?_
  show rn C (xSt F V0 ([(M, .inr (25, [.null, va_rf es, .int (nI sz), .int mc, .int 0, .float 1061158912, .null, .null, va_rf hd, va_rf tl, .int 0, .int 0]))] ++ stW L (ndX kd hs ky vl nx bf af pa lf rt pv rd))) 0 0 0 [(0, .ref M)] []
  refine r_aload_n hC 0 dJ20_resize_0 rfl 1 rfl ?_
  refine r_get (v := .null) hC kJ21 0 rfl q1770 (fun _ h => h.get 0 rfl) rfl dJ20_resize_1 4 rfl ?_
  refine r_astore_nN hC 1 [(1, .null), (0, .ref M)] dJ20_resize_4 rfl (Nat.le_of_ble_eq_true rfl) rfl 5 rfl ?_
  refine r_aload_nN hC 0 dJ20_resize_5 rfl 6 rfl ?_
  refine r_ifnonnullN hC dJ20_resize_6 9 rfl ?_
  refine r_iconst hC 0 dJ20_resize_9 ic_0 10 rfl ?_
  refine r_goto hC 15 dJ20_resize_10 (by decide) ?_
  refine r_istore_n hC 2 [(2, .int 0), (1, .null), (0, .ref M)] dJ20_resize_15 rfl (Nat.le_of_ble_eq_true rfl) rfl 16 rfl ?_
  refine r_aload_n hC 2 dJ20_resize_16 rfl 17 rfl ?_
  refine r_get (v := .int 0) hC kJ21 4 rfl q1778 (fun _ h => h.get 0 rfl) rfl dJ20_resize_17 20 rfl ?_
  refine r_istore_n hC 3 [(3, .int 0), (2, .int 0), (1, .null), (0, .ref M)] dJ20_resize_20 rfl (Nat.le_of_ble_eq_true rfl) rfl 21 rfl ?_
  refine r_iconst hC 0 dJ20_resize_21 ic_0 22 rfl ?_
  refine r_istore hC 5 [(5, .int 0), (3, .int 0), (2, .int 0), (1, .null), (0, .ref M)] dJ20_resize_22 (Nat.le_of_ble_eq_true rfl) rfl 24 rfl ?_
  refine r_iload_n hC 2 dJ20_resize_24 rfl 25 rfl ?_
  refine r_ifle hC 67 dJ20_resize_25 (by decide) 28 rfl (fun _ => ?_) (fun h => absurd h (by decide))
  refine r_iload_n hC 1 dJ20_resize_67 rfl 68 rfl ?_
  refine r_ifle hC 77 dJ20_resize_68 (by decide) 71 rfl (fun _ => ?_) (fun h => absurd h (by decide))
  refine r_bipush hC 16 dJ20_resize_77 bp_16 79 rfl ?_
  refine r_istore hC 4 [(4, .int 16), (5, .int 0), (3, .int 0), (2, .int 0), (1, .null), (0, .ref M)] dJ20_resize_79 (Nat.le_of_ble_eq_true rfl) rfl 81 rfl ?_
  refine r_bipush hC 12 dJ20_resize_81 bp_12 83 rfl ?_
  refine r_istore hC 5 [(5, .int 12), (4, .int 16), (3, .int 0), (2, .int 0), (1, .null), (0, .ref M)] dJ20_resize_83 (Nat.le_of_ble_eq_true rfl) rfl 85 rfl ?_
  refine r_iload hC 0 dJ20_resize_85 rfl 87 rfl ?_
  refine r_ifne hC 125 dJ20_resize_87 (by decide) 90 rfl (fun _ => ?_) (fun h => absurd h (by decide))
  refine r_aload_n hC 5 dJ20_resize_125 rfl 126 rfl ?_
  refine r_iload hC 0 dJ20_resize_126 rfl 128 rfl ?_
  refine r_put (J := xSt F V0 ([(M, .inr (25, [.null, va_rf es, .int (nI sz), .int mc, .int 12, .float 1061158912, .null, .null, va_rf hd, va_rf tl, .int 0, .int 0]))] ++ stW L (ndX kd hs ky vl nx bf af pa lf rt pv rd))) hC kJ21 4 rfl q1778 rfl (fun _ h => h.get 0 rfl) (Nat.le_of_ble_eq_true rfl) (rfl) (rfl) dJ20_resize_128 (fun _ h => h.set 0 _ rfl) 131 rfl ?_
  refine r_iload hC 1 dJ20_resize_131 rfl 133 rfl ?_
  refine r_anew (J := fun q1 => xSt F V0 ([(M, .inr (25, [.null, va_rf es, .int (nI sz), .int mc, .int 12, .float 1061158912, .null, .null, va_rf hd, va_rf tl, .int 0, .int 0])), (q1, .inl (8, 16, .inr (.inr (.inr (.inr nQ)))))] ++ stW L (ndX kd hs ky vl nx bf af pa lf rt pv rd))) hC hG (.object "java/util/HashMap$Node") 8 16 q2200 q2201 rfl rfl rfl (Nat.le_of_ble_eq_true rfl) (Nat.le_of_ble_eq_true rfl) (Nat.le_of_ble_eq_true rfl) dJ20_resize_133 (fun _ h => h.pushT _) 136 rfl (fun q1 => ?_)
  show rn C (xSt F V0 ([(M, .inr (25, [.null, va_rf es, .int (nI sz), .int mc, .int 12, .float 1061158912, .null, .null, va_rf hd, va_rf tl, .int 0, .int 0])), (q1, .inl (8, 16, .inr (.inr (.inr (.inr nQ)))))] ++ stW L (ndX kd hs ky vl nx bf af pa lf rt pv rd))) 1 16 136 [(5, .int 12), (4, .int 16), (3, .int 0), (2, .int 0), (1, .null), (0, .ref M)] [.ref q1]
  refine r_astore hC 6 [(6, .ref q1), (5, .int 12), (4, .int 16), (3, .int 0), (2, .int 0), (1, .null), (0, .ref M)] dJ20_resize_136 (Nat.le_of_ble_eq_true rfl) rfl 138 rfl ?_
  refine r_aload_n hC 6 dJ20_resize_138 rfl 139 rfl ?_
  refine r_aload hC 0 dJ20_resize_139 rfl 141 rfl ?_
  refine r_put (J := xSt F V0 ([(M, .inr (25, [.ref q1, va_rf es, .int (nI sz), .int mc, .int 12, .float 1061158912, .null, .null, va_rf hd, va_rf tl, .int 0, .int 0])), (q1, .inl (8, 16, .inr (.inr (.inr (.inr nQ)))))] ++ stW L (ndX kd hs ky vl nx bf af pa lf rt pv rd))) hC kJ21 0 rfl q1770 rfl (fun _ h => h.get 0 rfl) (Nat.le_of_ble_eq_true rfl) (rfl) (rfl) dJ20_resize_141 (fun _ h => h.set 0 _ rfl) 144 rfl ?_
  refine r_aload_nN hC 5 dJ20_resize_144 rfl 145 rfl ?_
  refine r_ifnullN hC 353 dJ20_resize_145 (by decide) ?_
  refine r_aload hC 0 dJ20_resize_353 rfl 355 rfl ?_
  exact r_aret hC (v := (some q1)) (Or.inr ⟨_, rfl⟩) (Nat.le_of_ble_eq_true rfl) (Nat.le_of_ble_eq_true rfl) (fun V9 h => hQ _ _ ⟨_, ⟨q1, rfl, rfl⟩, by rw [← hV0, ← hF]; exact h⟩) dJ20_resize_355
