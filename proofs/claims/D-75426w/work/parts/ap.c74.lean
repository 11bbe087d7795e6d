/-! ===== the JDK: maps: putVal, the whole ===== -/
set_option maxRecDepth 100000
/-- how often a table may still be doubled -/
def lvN (cap : Nat) : Nat := if cap ≤ 16 then 5 else if cap ≤ 32 then 4 else if cap ≤ 64 then 3 else if cap ≤ 128 then 2 else if cap ≤ 256 then 1 else 0
theorem lv_dbl {cap : Nat} (h : capI cap) (h2 : capI (2 * cap)) : lvN cap = lvN (2 * cap) + 1 := by
  unfold capI at h h2
  unfold lvN
  rcases h with h | h | h | h | h | h <;> subst h <;> simp at h2 ⊢
/-- a map at M: its cells ws, its entries D, the cells and slots that may still be used -/
def mpS (M : Nat) (ws : xW) (D : List (Int32 × Nat × Nat)) (pc ps : Nat) : Prop :=
  (D = [] ∧ 3640 ≤ pc ∧ 12 * 3640 + 1024 ≤ ps ∧ ∃ (kd : Nat → Bool) (hs : Nat → Int32) (ky vl : Nat → Nat) (nx bf af pa lf rt pv : Nat → Option Nat) (rd : Nat → Int32) (es : Option Nat) (mc : Int32), es = none ∧ ws = ([(M, .inr (25, [.null, va_rf es, .int (nI 0), .int mc, .int 0, .float 1061158912, .null, .null, .null, .null, .int 0, .int 0]))] ++ stW [] (ndX kd hs ky vl nx bf af pa lf rt pv rd))) ∨
  (∃ (tb cap th sz : Nat) (tf : Nat → Option Nat) (bins : Nat → List Nat) (L ord : List Nat) (kd : Nat → Bool) (hs : Nat → Int32) (ky vl : Nat → Nat) (nx bf af pa lf rt pv : Nat → Option Nat) (rd : Nat → Int32) (hd tl es : Option Nat) (mc : Int32), mpI D cap th tf bins L ord kd hs ky vl nx bf af pa lf rt pv hd tl ∧ sz = D.length ∧ sz ≤ th ∧ sz ≤ 301 ∧ 2 * (302 - sz) + plN kd ord + 605 * lvN cap ≤ pc ∧ 12 * (2 * (302 - sz) + plN kd ord + 605 * lvN cap) + (1024 - 2 * cap) ≤ ps ∧ es = none ∧ ws = ([(M, .inr (25, [.ref tb, va_rf es, .int (nI sz), .int mc, .int (nI th), .float 1061158912, .null, .null, va_rf hd, va_rf tl, .int 0, .int 0])), (tb, .inl (8, cap, .inr (.inr (.inr (.inr tf)))))] ++ stW L (ndX kd hs ky vl nx bf af pa lf rt pv rd)))
def pvH (n th cap p a b c9 s9 pc ps : Nat) : Prop :=
  (n + 1 ≤ th ∧ a ≤ c9 ∧ b ≤ s9 ∧ 2 * (302 - (n + 1)) + p + 605 * lvN cap ≤ pc ∧ 12 * (2 * (302 - (n + 1)) + p + 605 * lvN cap) + (1024 - 2 * cap) ≤ ps) ∨
  (th < n + 1 ∧ a + (1 + (n + 1)) ≤ c9 ∧ b + (2 * cap + 6 * (n + 1)) ≤ s9 ∧ 2 * (302 - (n + 1)) + (n + 1) + 605 * lvN (2 * cap) ≤ pc ∧ 12 * (2 * (302 - (n + 1)) + (n + 1) + 605 * lvN (2 * cap)) + (1024 - 4 * cap) ≤ ps)
theorem cap_dbl {n th cap : Nat} (hc : capI cap) (h4 : 4 * th = 3 * cap) (hn : n ≤ 300) (ht : th < n + 1) : capI (2 * cap) := by
  unfold capI at hc ⊢
  omega
theorem pvH_ex {n th cap p p0 a b pc ps : Nat} (hc : capI cap) (h4 : 4 * th = 3 * cap) (hn : n ≤ 300) (hpc : 2 * (302 - n) + p0 + 605 * lvN cap ≤ pc) (hps : 12 * (2 * (302 - n) + p0 + 605 * lvN cap) + (1024 - 2 * cap) ≤ ps) (hap : a + p ≤ p0 + 2) (hba : b ≤ 12 * a) : ∃ c s, c ≤ pc ∧ s ≤ ps ∧ pvH n th cap p a b c s (pc - c) (ps - s) := by
  have hle := hc.le
  by_cases ht : n + 1 ≤ th
  · refine ⟨a, b, by omega, by omega, Or.inl ⟨ht, Nat.le_refl _, Nat.le_refl _, by omega, by omega⟩⟩
  · have h2 := cap_dbl hc h4 hn (by omega)
    have hl := lv_dbl hc h2
    have hle2 := h2.le
    refine ⟨a + (1 + (n + 1)), b + (2 * cap + 6 * (n + 1)), by omega, by omega, Or.inr ⟨by omega, Nat.le_refl _, Nat.le_refl _, by omega, by omega⟩⟩
set_option maxHeartbeats 4000000 in
set_option maxRecDepth 100000 in
theorem lpJ20_pv9 {C : xC} {F : Nat → Prop} {V0 : xV} (c9 s9 : Nat) (hG : xGood (xGG C)) (hC : xCtx C RJ20 cJ20_putVal 13 (some (.object "java/lang/Object")) { frames := 8, locals := 211, cells := c9, slots := s9 }) (k n : Nat) (L : List Nat) (kd : Nat → Bool) (hs : Nat → Int32) (ky vl : Nat → Nat) (nx bf af pa lf rt pv : Nat → Option Nat) (rd : Nat → Int32) (M : Nat) (es : Option Nat) (sz th : Nat) (mc : Int32) (hd tl : Option Nat) (tb cap : Nat) (tf : Nat → Option Nat) (hcap : capI cap) {D : List (Int32 × Nat × Nat)} {bins : Nat → List Nat} {ord : List Nat} (hM : mpI D cap th tf bins L ord kd hs ky vl nx bf af pa lf rt pv hd tl) (hsz : D.length = sz + 1) (hszt : sz ≤ th) (hn3 : sz ≤ 300) (hes : es = none) {p pc ps : Nat} (hp : plN kd ord ≤ p) (hH : pvH sz th cap p k n c9 s9 pc ps) (kfin : ∀ (w' : xW) (k n : Nat), mpS M w' D pc ps → k ≤ c9 → n ≤ s9 → rn C (xSt F V0 w') k n 299 [] [.null]) : rn C (xSt F V0 ([(M, .inr (25, [.ref tb, va_rf es, .int (nI sz), .int mc, .int (nI th), .float 1061158912, .null, .null, va_rf hd, va_rf tl, .int 0, .int 0])), (tb, .inl (8, cap, .inr (.inr (.inr (.inr tf)))))] ++ stW L (ndX kd hs ky vl nx bf af pa lf rt pv rd))) k n 259 [(5, .int 1), (0, .ref M)] [] := by
  have hle := hcap.le
  have hlo := mp_len hM
  have h4 := hM.2.1
  have hone : ord ≠ [] := fun e => by rw [e] at hlo; rw [← hlo] at hsz; cases hsz
  obtain ⟨x9, rfl⟩ := lnk_hd hM.2.2.2.1 hone
  rcases hH with ⟨g1, g2, g3, g4, g5⟩ | ⟨g1, g2, g3, g4, g5⟩
  · refine lpJ20_pvtN c9 s9 hG hC k n L kd hs ky vl nx bf af pa lf rt pv rd M es sz th mc x9 tl tb cap tf hcap g1 (by omega) g2 g3 ?_
    refine kfin _ k n (Or.inr ⟨tb, cap, th, sz + 1, tf, bins, L, ord, kd, hs, ky, vl, nx, bf, af, pa, lf, rt, pv, rd, some x9, tl, es, mc + 1, hM, hsz.symm, g1, by omega, by omega, by omega, hes, rfl⟩) g2 g3
  · have hcap2 := cap_dbl hcap h4 hn3 g1
    have hle2 := hcap2.le
    refine lpJ20_pvtR c9 s9 hG hC k n L kd hs ky vl nx bf af pa lf rt pv rd M es sz th mc x9 tl tb cap tf hcap g1 (by omega) hcap2 (by omega) (by omega) bins ord hM.2.2.1 hM.2.2.2.1 hM.2.2.2.2.1 (by rw [hM.2.2.2.2.2.1]; exact hM.2.2.2.2.2.2) (by omega) hone (by omega) (by omega) ?_
    intro nt nf nb L2 ord2 kd2 hs2 ky2 vl2 nx2 bf2 af2 pa2 lf2 rt2 pv2 rd2 x2 tl2 hZ1 hZ2 hZ3 hZ4
    have hM2 := mp_rz hM hcap2 hZ1 hZ2 hZ3 hZ4
    have hlo2 := mp_len hM2
    have hpl2 := @pl_le ord2 kd2
    refine kfin _ (k + (1 + ord.length)) (n + (2 * cap + 6 * ord.length)) (Or.inr ⟨nt, 2 * cap, 2 * th, sz + 1, nf, nb, L2, ord2, kd2, hs2, ky2, vl2, nx2, bf2, af2, pa2, lf2, rt2, pv2, rd2, some x2, tl2, es, mc + 1, hM2, hsz.symm, by omega, by omega, by omega, by omega, hes, rfl⟩) (by omega) (by omega)
set_option maxHeartbeats 4000000 in
set_option maxRecDepth 100000 in
theorem metJ20_putValE (l : Launch) (G : xG) (hG : xGood G) (L : List Nat) (kd : Nat → Bool) (hs : Nat → Int32) (ky vl : Nat → Nat) (nx bf af pa lf rt pv : Nat → Option Nat) (rd : Nat → Int32) (M : Nat) (es : Option Nat) (sz th : Nat) (mc : Int32) (hd tl : Option Nat) (tb cap : Nat) (tf : Nat → Option Nat) (hz : Int32) (k9 v9 : Nat) {D : List (Int32 × Nat × Nat)} {bins : Nat → List Nat} {ord : List Nat} (hM : mpI D cap th tf bins L ord kd hs ky vl nx bf af pa lf rt pv hd tl) (hsz : sz = D.length) (hszt : sz ≤ th) (hn3 : sz ≤ 300) (hes : es = none) (hq : hz ∉ D.map (fun q => q.1)) (b : Nat) (hb : ixN hz cap = b) {c9 s9 pc ps : Nat} (hE : bins b = []) (hH : pvH sz th cap (plN kd ord + 1) 1 6 c9 s9 pc ps) : xWm l G yJ20_putVal (Cond.code yJ20_putVal cJ20_putVal 13 (some (.object "java/lang/Object"))) { frames := 8, locals := 211, cells := c9, slots := s9 } [.ref M, .int hz, .ref k9, .ref v9, .int 0, .int 1] ([(M, .inr (25, [.ref tb, va_rf es, .int (nI sz), .int mc, .int (nI th), .float 1061158912, .null, .null, va_rf hd, va_rf tl, .int 0, .int 0])), (tb, .inl (8, cap, .inr (.inr (.inr (.inr tf)))))] ++ stW L (ndX kd hs ky vl nx bf af pa lf rt pv rd)) (fun v w' => v = some .null ∧ mpS M w' (D ++ [(hz, k9, v9)]) pc ps) (fun _ _ => False) := by
  intro V hV
  refine xMet_ofT RJ20 hG rfl (by decide) (Nat.le_of_ble_eq_true rfl) fun C hC hQ hX hl hg _ hTab => ?_
  subst hl hg
  have hcap := hM.1
  have hle := hcap.le
  have hbl : b < cap := by rw [← hb]; exact ixN_lt hcap
  have hl := hM.2.2.2.1
  have hoL := hM.2.2.2.2.1
  obtain ⟨hB0, hmem⟩ := hM.2.2.1
  have hB := hB0 b hbl
  have hne := mp_ne hM hq
  have hlen9 : (D ++ [(hz, k9, v9)]).length = sz + 1 := by rw [List.length_append, hsz]; rfl
  have htlL : ∀ t, tl = some t → t ∈ L := fun t e => hoL t (lnk_tl (by rw [← e]; exact hl))
  have hBo : ∀ a, a ∈ bins b → a ∈ ord := fun a ha => ((hmem b hbl a).mp ha).1
  obtain ⟨V0, hV0⟩ : ∃ V0, V0 = V := ⟨_, rfl⟩
  obtain ⟨F, hF⟩ : ∃ F, F = xF ([(M, .inr (25, [.ref tb, va_rf es, .int (nI sz), .int mc, .int (nI th), .float 1061158912, .null, .null, va_rf hd, va_rf tl, .int 0, .int 0])), (tb, .inl (8, cap, .inr (.inr (.inr (.inr tf)))))] ++ stW L (ndX kd hs ky vl nx bf af pa lf rt pv rd)) := ⟨_, rfl⟩
  refine rn.mono (J := xSt F V0 ([(M, .inr (25, [.ref tb, va_rf es, .int (nI sz), .int mc, .int (nI th), .float 1061158912, .null, .null, va_rf hd, va_rf tl, .int 0, .int 0])), (tb, .inl (8, cap, .inr (.inr (.inr (.inr tf)))))] ++ stW L (ndX kd hs ky vl nx bf af pa lf rt pv rd))) (fun V9 h => by rw [h, hV0, hF]; exact hV.st) ?_
  show rn C (xSt F V0 ([(M, .inr (25, [.ref tb, va_rf es, .int (nI sz), .int mc, .int (nI th), .float 1061158912, .null, .null, va_rf hd, va_rf tl, .int 0, .int 0])), (tb, .inl (8, cap, .inr (.inr (.inr (.inr tf)))))] ++ stW L (ndX kd hs ky vl nx bf af pa lf rt pv rd))) 0 0 0 [(0, .ref M), (1, .int hz), (2, .ref k9), (3, .ref v9), (4, .int 0), (5, .int 1)] []
  refine rn.sub (lv' := [(5, .int 1), (4, .int 0), (3, .ref v9), (2, .ref k9), (1, .int hz), (0, .ref M)]) [5, 4, 3, 2, 1, 0] rfl ?_
  have hf : tf b = none := by have h9 := hB.1; rw [hE] at h9; exact h9
  have hr : 1 ≤ c9 ∧ 6 ≤ s9 := by rcases hH with h | h <;> omega
  refine lpJ20_pvE c9 s9 hG hC 0 0 L kd hs ky vl nx bf af pa lf rt pv rd M es sz th mc hd tl tb cap tf hcap hz k9 v9 b hb htlL (by omega) (by omega) hf (fun q hqL => ?_)
  obtain ⟨hM9, hp9⟩ := mp_ins (o' := some q) (Ns := [q]) (kd' := va_up kd q false) (hs' := va_up hs q hz) (nx' := va_up nx q none) (pa' := pa) (lf' := lf) (rt' := rt) (pv' := pv) hM hq hb (by rw [hE]; exact ins_E (k9 := k9) (v9 := v9) hqL hl hoL) ⟨⟨rfl, up_same _ _ _⟩, List.nodup_cons.mpr ⟨List.not_mem_nil, List.nodup_nil⟩, Or.inl fun a ha => by rw [List.mem_singleton.mp ha]; exact up_same _ _ _⟩
  exact lpJ20_pv9 c9 s9 hG hC 1 6 (L ++ [q]) (va_up kd q false) (va_up hs q hz) (va_up ky q k9) (va_up vl q v9) (va_up nx q none) (va_up bf q tl) (afn af q tl) pa lf rt pv rd M es sz th mc (hdn hd q tl) (some q) tb cap (va_up tf b (some q)) hcap hM9 hlen9 hszt hn3 hes hp9 hH (fun w' k n hw hk hn => r_aret hC (v := none) (Or.inl ⟨_, rfl⟩) hk hn (fun V9 h9 => hQ _ _ ⟨w', ⟨rfl, hw⟩, by rw [← hV0, ← hF]; exact h9⟩) dJ20_putVal_299)
set_option maxHeartbeats 4000000 in
set_option maxRecDepth 100000 in
theorem metJ20_putValT (l : Launch) (G : xG) (hG : xGood G) (L : List Nat) (kd : Nat → Bool) (hs : Nat → Int32) (ky vl : Nat → Nat) (nx bf af pa lf rt pv : Nat → Option Nat) (rd : Nat → Int32) (M : Nat) (es : Option Nat) (sz th : Nat) (mc : Int32) (hd tl : Option Nat) (tb cap : Nat) (tf : Nat → Option Nat) (hz : Int32) (k9 v9 : Nat) {D : List (Int32 × Nat × Nat)} {bins : Nat → List Nat} {ord : List Nat} (hM : mpI D cap th tf bins L ord kd hs ky vl nx bf af pa lf rt pv hd tl) (hsz : sz = D.length) (hszt : sz ≤ th) (hn3 : sz ≤ 300) (hes : es = none) (hq : hz ∉ D.map (fun q => q.1)) (b : Nat) (hb : ixN hz cap = b) {c9 s9 pc ps : Nat} (hT9 : (∀ a, a ∈ bins b → kd a = true) ∧ 6 < (bins b).length ∧ bck pv none (bins b) ∧ ∃ root t, bins b = root :: t ∧ tI (fun a => (hs a).toInt) (fun a => a ∈ bins b) pa lf rt root) (hH : pvH sz th cap (plN kd ord + 1) 1 11 c9 s9 pc ps) : xWm l G yJ20_putVal (Cond.code yJ20_putVal cJ20_putVal 13 (some (.object "java/lang/Object"))) { frames := 8, locals := 211, cells := c9, slots := s9 } [.ref M, .int hz, .ref k9, .ref v9, .int 0, .int 1] ([(M, .inr (25, [.ref tb, va_rf es, .int (nI sz), .int mc, .int (nI th), .float 1061158912, .null, .null, va_rf hd, va_rf tl, .int 0, .int 0])), (tb, .inl (8, cap, .inr (.inr (.inr (.inr tf)))))] ++ stW L (ndX kd hs ky vl nx bf af pa lf rt pv rd)) (fun v w' => v = some .null ∧ mpS M w' (D ++ [(hz, k9, v9)]) pc ps) (fun _ _ => False) := by
  intro V hV
  refine xMet_ofT RJ20 hG rfl (by decide) (Nat.le_of_ble_eq_true rfl) fun C hC hQ hX hl hg _ hTab => ?_
  subst hl hg
  have hcap := hM.1
  have hle := hcap.le
  have hbl : b < cap := by rw [← hb]; exact ixN_lt hcap
  have hl := hM.2.2.2.1
  have hoL := hM.2.2.2.2.1
  obtain ⟨hB0, hmem⟩ := hM.2.2.1
  have hB := hB0 b hbl
  have hne := mp_ne hM hq
  have hlen9 : (D ++ [(hz, k9, v9)]).length = sz + 1 := by rw [List.length_append, hsz]; rfl
  have htlL : ∀ t, tl = some t → t ∈ L := fun t e => hoL t (lnk_tl (by rw [← e]; exact hl))
  have hBo : ∀ a, a ∈ bins b → a ∈ ord := fun a ha => ((hmem b hbl a).mp ha).1
  obtain ⟨V0, hV0⟩ : ∃ V0, V0 = V := ⟨_, rfl⟩
  obtain ⟨F, hF⟩ : ∃ F, F = xF ([(M, .inr (25, [.ref tb, va_rf es, .int (nI sz), .int mc, .int (nI th), .float 1061158912, .null, .null, va_rf hd, va_rf tl, .int 0, .int 0])), (tb, .inl (8, cap, .inr (.inr (.inr (.inr tf)))))] ++ stW L (ndX kd hs ky vl nx bf af pa lf rt pv rd)) := ⟨_, rfl⟩
  refine rn.mono (J := xSt F V0 ([(M, .inr (25, [.ref tb, va_rf es, .int (nI sz), .int mc, .int (nI th), .float 1061158912, .null, .null, va_rf hd, va_rf tl, .int 0, .int 0])), (tb, .inl (8, cap, .inr (.inr (.inr (.inr tf)))))] ++ stW L (ndX kd hs ky vl nx bf af pa lf rt pv rd))) (fun V9 h => by rw [h, hV0, hF]; exact hV.st) ?_
  show rn C (xSt F V0 ([(M, .inr (25, [.ref tb, va_rf es, .int (nI sz), .int mc, .int (nI th), .float 1061158912, .null, .null, va_rf hd, va_rf tl, .int 0, .int 0])), (tb, .inl (8, cap, .inr (.inr (.inr (.inr tf)))))] ++ stW L (ndX kd hs ky vl nx bf af pa lf rt pv rd))) 0 0 0 [(0, .ref M), (1, .int hz), (2, .ref k9), (3, .ref v9), (4, .int 0), (5, .int 1)] []
  refine rn.sub (lv' := [(5, .int 1), (4, .int 0), (3, .ref v9), (2, .ref k9), (1, .int hz), (0, .ref M)]) [5, 4, 3, 2, 1, 0] rfl ?_
  obtain ⟨hk9, hlen, hbk, f, t9, hrt, hT⟩ := hT9
  have hf : tf b = some f := by have h9 := hB.1; rw [hrt] at h9; exact h9.1
  have hr : 1 ≤ c9 ∧ 11 ≤ s9 := by rcases hH with h | h <;> omega
  refine lpJ20_pvT c9 s9 hG hC 0 0 L kd hs ky vl nx bf af pa lf rt pv rd M es sz th mc hd tl tb cap tf hcap hz k9 v9 b hb ord (bins b) f hf hB.1 hbk hB.2.1 hlen (fun a ha => ⟨hoL a (hBo a ha), hk9 a ha⟩) hT (fun a ha => hne a (hBo a ha)) hl hoL (fun a ha => (ix_and hcap).trans (by rw [((hmem b hbl a).mp ha).2])) (by omega) (by omega) ?_
  intro q kd' hs' ky' vl' nx' bf' af' pa' lf' rt' pv' rd' hd' Ns root' hI' hB'
  obtain ⟨hM9, hp9⟩ := mp_ins hM hq hb hI' hB'
  exact lpJ20_pv9 c9 s9 hG hC 1 11 (L ++ [q]) kd' hs' ky' vl' nx' bf' af' pa' lf' rt' pv' rd' M es sz th mc hd' (some q) tb cap (va_up tf b (some root')) hcap hM9 hlen9 hszt hn3 hes hp9 hH (fun w' k n hw hk hn => r_aret hC (v := none) (Or.inl ⟨_, rfl⟩) hk hn (fun V9 h9 => hQ _ _ ⟨w', ⟨rfl, hw⟩, by rw [← hV0, ← hF]; exact h9⟩) dJ20_putVal_299)
set_option maxHeartbeats 4000000 in
set_option maxRecDepth 100000 in
theorem metJ20_putValL (l : Launch) (G : xG) (hG : xGood G) (L : List Nat) (kd : Nat → Bool) (hs : Nat → Int32) (ky vl : Nat → Nat) (nx bf af pa lf rt pv : Nat → Option Nat) (rd : Nat → Int32) (M : Nat) (es : Option Nat) (sz th : Nat) (mc : Int32) (hd tl : Option Nat) (tb cap : Nat) (tf : Nat → Option Nat) (hz : Int32) (k9 v9 : Nat) {D : List (Int32 × Nat × Nat)} {bins : Nat → List Nat} {ord : List Nat} (hM : mpI D cap th tf bins L ord kd hs ky vl nx bf af pa lf rt pv hd tl) (hsz : sz = D.length) (hszt : sz ≤ th) (hn3 : sz ≤ 300) (hes : es = none) (hq : hz ∉ D.map (fun q => q.1)) (b : Nat) (hb : ixN hz cap = b) {c9 s9 pc ps : Nat} (hpl : ∀ a, a ∈ bins b → kd a = false) (f : Nat) (t : List Nat) (hLt : bins b = f :: t) (hfew : (bins b).length ≤ 7) (hH : pvH sz th cap (plN kd ord + 1) 1 6 c9 s9 pc ps) : xWm l G yJ20_putVal (Cond.code yJ20_putVal cJ20_putVal 13 (some (.object "java/lang/Object"))) { frames := 8, locals := 211, cells := c9, slots := s9 } [.ref M, .int hz, .ref k9, .ref v9, .int 0, .int 1] ([(M, .inr (25, [.ref tb, va_rf es, .int (nI sz), .int mc, .int (nI th), .float 1061158912, .null, .null, va_rf hd, va_rf tl, .int 0, .int 0])), (tb, .inl (8, cap, .inr (.inr (.inr (.inr tf)))))] ++ stW L (ndX kd hs ky vl nx bf af pa lf rt pv rd)) (fun v w' => v = some .null ∧ mpS M w' (D ++ [(hz, k9, v9)]) pc ps) (fun _ _ => False) := by
  intro V hV
  refine xMet_ofT RJ20 hG rfl (by decide) (Nat.le_of_ble_eq_true rfl) fun C hC hQ hX hl hg _ hTab => ?_
  subst hl hg
  have hcap := hM.1
  have hle := hcap.le
  have hbl : b < cap := by rw [← hb]; exact ixN_lt hcap
  have hl := hM.2.2.2.1
  have hoL := hM.2.2.2.2.1
  obtain ⟨hB0, hmem⟩ := hM.2.2.1
  have hB := hB0 b hbl
  have hne := mp_ne hM hq
  have hlen9 : (D ++ [(hz, k9, v9)]).length = sz + 1 := by rw [List.length_append, hsz]; rfl
  have htlL : ∀ t, tl = some t → t ∈ L := fun t e => hoL t (lnk_tl (by rw [← e]; exact hl))
  have hBo : ∀ a, a ∈ bins b → a ∈ ord := fun a ha => ((hmem b hbl a).mp ha).1
  obtain ⟨V0, hV0⟩ : ∃ V0, V0 = V := ⟨_, rfl⟩
  obtain ⟨F, hF⟩ : ∃ F, F = xF ([(M, .inr (25, [.ref tb, va_rf es, .int (nI sz), .int mc, .int (nI th), .float 1061158912, .null, .null, va_rf hd, va_rf tl, .int 0, .int 0])), (tb, .inl (8, cap, .inr (.inr (.inr (.inr tf)))))] ++ stW L (ndX kd hs ky vl nx bf af pa lf rt pv rd)) := ⟨_, rfl⟩
  refine rn.mono (J := xSt F V0 ([(M, .inr (25, [.ref tb, va_rf es, .int (nI sz), .int mc, .int (nI th), .float 1061158912, .null, .null, va_rf hd, va_rf tl, .int 0, .int 0])), (tb, .inl (8, cap, .inr (.inr (.inr (.inr tf)))))] ++ stW L (ndX kd hs ky vl nx bf af pa lf rt pv rd))) (fun V9 h => by rw [h, hV0, hF]; exact hV.st) ?_
  show rn C (xSt F V0 ([(M, .inr (25, [.ref tb, va_rf es, .int (nI sz), .int mc, .int (nI th), .float 1061158912, .null, .null, va_rf hd, va_rf tl, .int 0, .int 0])), (tb, .inl (8, cap, .inr (.inr (.inr (.inr tf)))))] ++ stW L (ndX kd hs ky vl nx bf af pa lf rt pv rd))) 0 0 0 [(0, .ref M), (1, .int hz), (2, .ref k9), (3, .ref v9), (4, .int 0), (5, .int 1)] []
  refine rn.sub (lv' := [(5, .int 1), (4, .int 0), (3, .ref v9), (2, .ref k9), (1, .int hz), (0, .ref M)]) [5, 4, 3, 2, 1, 0] rfl ?_
  have hr : 1 ≤ c9 ∧ 6 ≤ s9 := by rcases hH with h | h <;> omega
  have hf : tf b = some f := by have h9 := hB.1; rw [hLt] at h9; exact h9.1
  have hfm : f ∈ bins b := by rw [hLt]; exact List.mem_cons_self
  have hmL : ∀ a, a ∈ bins b → a ∈ L ∧ kd a = false := fun a ha => ⟨hoL a (hBo a ha), hpl a ha⟩
  have hbn : (bins b).length ≤ ord.length := hB.2.1.length_le_of_subset hBo
  have hlo := mp_len hM
  refine lpJ20_pvL c9 s9 hG hC 0 0 L kd hs ky vl nx bf af pa lf rt pv rd M es sz th mc hd tl tb cap tf hcap hz k9 v9 b hb f hf (hmL f hfm).1 (hmL f hfm).2 (hne f (hBo f hfm)) ?_
  refine lpJ20_pvl c9 s9 hG hC 0 0 L kd hs ky vl nx bf af pa lf rt pv rd M es sz th mc hd tl tb cap tf hcap hz k9 v9 htlL (by omega) (by omega) (bins b) hmL (fun a ha => hne a (hBo a ha)) ?_ t [] f hLt (by have h9 := hB.1; rw [hLt] at h9; exact h9.2) 0 rfl
  intro l0 z hLz i hi q hqL
  have hzm : z ∈ bins b := by rw [hLz]; exact List.mem_append_right _ List.mem_cons_self
  have hlz : (bins b).length = i + 1 := by rw [hLz, List.length_append, hi]; rfl
  have hBz := hB.1
  have hBn := hB.2.1
  have hmz : ∀ a, a ∈ l0 ++ [z] → a ∈ L ∧ kd a = false := fun a ha => hmL a (by rw [hLz]; exact ha)
  rw [hLz] at hBz hBn
  have hbl9 := bin_L (hs := va_up hs q hz) (pa := pa) (lf := lf) (rt := rt) (pv := pv) hqL hBz hBn hmz
  obtain ⟨hM9, hp9⟩ := mp_ins (o' := tf b) hM hq hb (by rw [hLz]; exact ins_L (z := z) (k9 := k9) (v9 := v9) hqL hl hoL (hmL z hzm).1) hbl9
  rw [up_idv rfl] at hM9
  refine lpJ20_pv8N c9 s9 hG hC 1 6 (L ++ [q]) (va_up kd q false) (va_up hs q hz) (va_up ky q k9) (va_up vl q v9) (va_up (va_up nx q none) z (some q)) (va_up bf q tl) (afn af q tl) pa lf rt pv rd M es sz th mc (hdn hd q tl) (some q) tb cap tf hcap hz k9 v9 i (by omega) ?_
  exact lpJ20_pv9 c9 s9 hG hC 1 6 (L ++ [q]) (va_up kd q false) (va_up hs q hz) (va_up ky q k9) (va_up vl q v9) (va_up (va_up nx q none) z (some q)) (va_up bf q tl) (afn af q tl) pa lf rt pv rd M es sz th mc (hdn hd q tl) (some q) tb cap tf hcap hM9 hlen9 hszt hn3 hes hp9 hH (fun w' k n hw hk hn => r_aret hC (v := none) (Or.inl ⟨_, rfl⟩) hk hn (fun V9 h9 => hQ _ _ ⟨w', ⟨rfl, hw⟩, by rw [← hV0, ← hF]; exact h9⟩) dJ20_putVal_299)
set_option maxHeartbeats 4000000 in
set_option maxRecDepth 100000 in
theorem metJ20_putValB (l : Launch) (G : xG) (hG : xGood G) (L : List Nat) (kd : Nat → Bool) (hs : Nat → Int32) (ky vl : Nat → Nat) (nx bf af pa lf rt pv : Nat → Option Nat) (rd : Nat → Int32) (M : Nat) (es : Option Nat) (sz th : Nat) (mc : Int32) (hd tl : Option Nat) (tb cap : Nat) (tf : Nat → Option Nat) (hz : Int32) (k9 v9 : Nat) {D : List (Int32 × Nat × Nat)} {bins : Nat → List Nat} {ord : List Nat} (hM : mpI D cap th tf bins L ord kd hs ky vl nx bf af pa lf rt pv hd tl) (hsz : sz = D.length) (hszt : sz ≤ th) (hn3 : sz ≤ 300) (hes : es = none) (hq : hz ∉ D.map (fun q => q.1)) (b : Nat) (hb : ixN hz cap = b) {c9 s9 pc ps : Nat} (hpl : ∀ a, a ∈ bins b → kd a = false) (f : Nat) (t : List Nat) (hLt : bins b = f :: t) (hmany : 8 ≤ (bins b).length) (hc64 : 64 ≤ cap) {p : Nat} (hp : p + (bins b).length = plN kd ord) (hH : pvH sz th cap p (1 + ((bins b).length + 1)) (6 + 11 * ((bins b).length + 1)) c9 s9 pc ps) : xWm l G yJ20_putVal (Cond.code yJ20_putVal cJ20_putVal 13 (some (.object "java/lang/Object"))) { frames := 8, locals := 211, cells := c9, slots := s9 } [.ref M, .int hz, .ref k9, .ref v9, .int 0, .int 1] ([(M, .inr (25, [.ref tb, va_rf es, .int (nI sz), .int mc, .int (nI th), .float 1061158912, .null, .null, va_rf hd, va_rf tl, .int 0, .int 0])), (tb, .inl (8, cap, .inr (.inr (.inr (.inr tf)))))] ++ stW L (ndX kd hs ky vl nx bf af pa lf rt pv rd)) (fun v w' => v = some .null ∧ mpS M w' (D ++ [(hz, k9, v9)]) pc ps) (fun _ _ => False) := by
  intro V hV
  refine xMet_ofT RJ20 hG rfl (by decide) (Nat.le_of_ble_eq_true rfl) fun C hC hQ hX hl hg _ hTab => ?_
  subst hl hg
  have hcap := hM.1
  have hle := hcap.le
  have hbl : b < cap := by rw [← hb]; exact ixN_lt hcap
  have hl := hM.2.2.2.1
  have hoL := hM.2.2.2.2.1
  obtain ⟨hB0, hmem⟩ := hM.2.2.1
  have hB := hB0 b hbl
  have hne := mp_ne hM hq
  have hlen9 : (D ++ [(hz, k9, v9)]).length = sz + 1 := by rw [List.length_append, hsz]; rfl
  have htlL : ∀ t, tl = some t → t ∈ L := fun t e => hoL t (lnk_tl (by rw [← e]; exact hl))
  have hBo : ∀ a, a ∈ bins b → a ∈ ord := fun a ha => ((hmem b hbl a).mp ha).1
  obtain ⟨V0, hV0⟩ : ∃ V0, V0 = V := ⟨_, rfl⟩
  obtain ⟨F, hF⟩ : ∃ F, F = xF ([(M, .inr (25, [.ref tb, va_rf es, .int (nI sz), .int mc, .int (nI th), .float 1061158912, .null, .null, va_rf hd, va_rf tl, .int 0, .int 0])), (tb, .inl (8, cap, .inr (.inr (.inr (.inr tf)))))] ++ stW L (ndX kd hs ky vl nx bf af pa lf rt pv rd)) := ⟨_, rfl⟩
  refine rn.mono (J := xSt F V0 ([(M, .inr (25, [.ref tb, va_rf es, .int (nI sz), .int mc, .int (nI th), .float 1061158912, .null, .null, va_rf hd, va_rf tl, .int 0, .int 0])), (tb, .inl (8, cap, .inr (.inr (.inr (.inr tf)))))] ++ stW L (ndX kd hs ky vl nx bf af pa lf rt pv rd))) (fun V9 h => by rw [h, hV0, hF]; exact hV.st) ?_
  show rn C (xSt F V0 ([(M, .inr (25, [.ref tb, va_rf es, .int (nI sz), .int mc, .int (nI th), .float 1061158912, .null, .null, va_rf hd, va_rf tl, .int 0, .int 0])), (tb, .inl (8, cap, .inr (.inr (.inr (.inr tf)))))] ++ stW L (ndX kd hs ky vl nx bf af pa lf rt pv rd))) 0 0 0 [(0, .ref M), (1, .int hz), (2, .ref k9), (3, .ref v9), (4, .int 0), (5, .int 1)] []
  refine rn.sub (lv' := [(5, .int 1), (4, .int 0), (3, .ref v9), (2, .ref k9), (1, .int hz), (0, .ref M)]) [5, 4, 3, 2, 1, 0] rfl ?_
  have hr : 1 + ((bins b).length + 1) ≤ c9 ∧ 6 + 11 * ((bins b).length + 1) ≤ s9 := by rcases hH with h | h <;> omega
  have hf : tf b = some f := by have h9 := hB.1; rw [hLt] at h9; exact h9.1
  have hfm : f ∈ bins b := by rw [hLt]; exact List.mem_cons_self
  have hmL : ∀ a, a ∈ bins b → a ∈ L ∧ kd a = false := fun a ha => ⟨hoL a (hBo a ha), hpl a ha⟩
  have hbn : (bins b).length ≤ ord.length := hB.2.1.length_le_of_subset hBo
  have hlo := mp_len hM
  refine lpJ20_pvL c9 s9 hG hC 0 0 L kd hs ky vl nx bf af pa lf rt pv rd M es sz th mc hd tl tb cap tf hcap hz k9 v9 b hb f hf (hmL f hfm).1 (hmL f hfm).2 (hne f (hBo f hfm)) ?_
  refine lpJ20_pvl c9 s9 hG hC 0 0 L kd hs ky vl nx bf af pa lf rt pv rd M es sz th mc hd tl tb cap tf hcap hz k9 v9 htlL (by omega) (by omega) (bins b) hmL (fun a ha => hne a (hBo a ha)) ?_ t [] f hLt (by have h9 := hB.1; rw [hLt] at h9; exact h9.2) 0 rfl
  intro l0 z hLz i hi q hqL
  have hzm : z ∈ bins b := by rw [hLz]; exact List.mem_append_right _ List.mem_cons_self
  have hlz : (bins b).length = i + 1 := by rw [hLz, List.length_append, hi]; rfl
  have hBz := hB.1
  have hBn := hB.2.1
  have hmz : ∀ a, a ∈ l0 ++ [z] → a ∈ L ∧ kd a = false := fun a ha => hmL a (by rw [hLz]; exact ha)
  rw [hLz] at hBz hBn
  have hbl9 := bin_L (hs := va_up hs q hz) (pa := pa) (lf := lf) (rt := rt) (pv := pv) hqL hBz hBn hmz
  obtain ⟨hM9, hp9⟩ := mp_ins (o' := tf b) hM hq hb (by rw [hLz]; exact ins_L (z := z) (k9 := k9) (v9 := v9) hqL hl hoL (hmL z hzm).1) hbl9
  rw [up_idv rfl] at hM9
  have hLb9 : ((l0 ++ [z]) ++ [q]).length = (bins b).length + 1 := by rw [← hLz, List.length_append]; rfl
  obtain ⟨hB9, hmem9⟩ := hM9.2.2.1
  have e9 : va_up bins b ((l0 ++ [z]) ++ [q]) b = (l0 ++ [z]) ++ [q] := up_same _ _ _
  have hm9 : ∀ a, a ∈ (l0 ++ [z]) ++ [q] → a ∈ ord ++ [q] ∧ ixN (va_up hs q hz a) cap = b := fun a ha => (hmem9 b hbl a).mp (by rw [e9]; exact ha)
  have hk9 : ∀ a, a ∈ (l0 ++ [z]) ++ [q] → va_up kd q false a = false := fun a ha => by
    by_cases e : a = q
    · rw [e, up_same]
    · rw [up_ne e]
      rcases List.mem_append.mp ha with ha | ha
      · exact (hmz a ha).2
      · exact absurd (List.mem_singleton.mp ha) e
  have hsg9 : seg (va_up (va_up nx q none) z (some q)) (some f) ((l0 ++ [z]) ++ [q]) none := by rw [← hf]; exact hbl9.1
  refine lpJ20_pv8B c9 s9 hG hC 1 6 (L ++ [q]) (va_up kd q false) (va_up hs q hz) (va_up ky q k9) (va_up vl q v9) (va_up (va_up nx q none) z (some q)) (va_up bf q tl) (afn af q tl) pa lf rt pv rd M es sz th mc (hdn hd q tl) (some q) tb cap tf hcap hz k9 v9 i (by omega) (by omega) b hb hc64 (ord ++ [q]) ((l0 ++ [z]) ++ [q]) f hf hsg9 hk9 hM9.2.2.2.1 hM9.2.2.2.2.1 (fun a ha => (hm9 a ha).1) hbl9.2.1 (by omega) (fun a ha => (ix_and hcap).trans (by rw [(hm9 a ha).2])) (mp_inj hM9) (by omega) (by omega) ?_
  intro L' ord' Ns kd' hs' ky' vl' nx' bf' af' pa' lf' rt' pv' rd' hd' tl' root hR' hB' hK'
  obtain ⟨hM8, hp8⟩ := mp_tfy hM9 hbl (by rw [e9]; exact hR') hB' (fun a ha => hk9 a (by rw [e9] at ha; exact ha)) hK'
  rw [e9] at hp8
  rw [hLb9]
  exact lpJ20_pv9 c9 s9 hG hC (1 + ((bins b).length + 1)) (6 + 11 * ((bins b).length + 1)) L' kd' hs' ky' vl' nx' bf' af' pa' lf' rt' pv' rd' M es sz th mc hd' tl' tb cap (va_up tf b (some root)) hcap hM8 hlen9 hszt hn3 hes (by omega) hH (fun w' k n hw hk hn => r_aret hC (v := none) (Or.inl ⟨_, rfl⟩) hk hn (fun V9 h9 => hQ _ _ ⟨w', ⟨rfl, hw⟩, by rw [← hV0, ← hF]; exact h9⟩) dJ20_putVal_299)
set_option maxHeartbeats 4000000 in
set_option maxRecDepth 100000 in
theorem metJ20_putValC (l : Launch) (G : xG) (hG : xGood G) (L : List Nat) (kd : Nat → Bool) (hs : Nat → Int32) (ky vl : Nat → Nat) (nx bf af pa lf rt pv : Nat → Option Nat) (rd : Nat → Int32) (M : Nat) (es : Option Nat) (sz th : Nat) (mc : Int32) (hd tl : Option Nat) (tb cap : Nat) (tf : Nat → Option Nat) (hz : Int32) (k9 v9 : Nat) {D : List (Int32 × Nat × Nat)} {bins : Nat → List Nat} {ord : List Nat} (hM : mpI D cap th tf bins L ord kd hs ky vl nx bf af pa lf rt pv hd tl) (hsz : sz = D.length) (hszt : sz ≤ th) (hn3 : sz ≤ 300) (hes : es = none) (hq : hz ∉ D.map (fun q => q.1)) (b : Nat) (hb : ixN hz cap = b) {c9 s9 pc ps : Nat} (hpl : ∀ a, a ∈ bins b → kd a = false) (f : Nat) (t : List Nat) (hLt : bins b = f :: t) (hmany : 8 ≤ (bins b).length) (hc64 : cap < 64) (hH : pvH sz (2 * th) (2 * cap) (sz + 1) (1 + (1 + (sz + 1))) (6 + (2 * cap + 6 * (sz + 1))) c9 s9 pc ps) : xWm l G yJ20_putVal (Cond.code yJ20_putVal cJ20_putVal 13 (some (.object "java/lang/Object"))) { frames := 8, locals := 211, cells := c9, slots := s9 } [.ref M, .int hz, .ref k9, .ref v9, .int 0, .int 1] ([(M, .inr (25, [.ref tb, va_rf es, .int (nI sz), .int mc, .int (nI th), .float 1061158912, .null, .null, va_rf hd, va_rf tl, .int 0, .int 0])), (tb, .inl (8, cap, .inr (.inr (.inr (.inr tf)))))] ++ stW L (ndX kd hs ky vl nx bf af pa lf rt pv rd)) (fun v w' => v = some .null ∧ mpS M w' (D ++ [(hz, k9, v9)]) pc ps) (fun _ _ => False) := by
  intro V hV
  refine xMet_ofT RJ20 hG rfl (by decide) (Nat.le_of_ble_eq_true rfl) fun C hC hQ hX hl hg _ hTab => ?_
  subst hl hg
  have hcap := hM.1
  have hle := hcap.le
  have hbl : b < cap := by rw [← hb]; exact ixN_lt hcap
  have hl := hM.2.2.2.1
  have hoL := hM.2.2.2.2.1
  obtain ⟨hB0, hmem⟩ := hM.2.2.1
  have hB := hB0 b hbl
  have hne := mp_ne hM hq
  have hlen9 : (D ++ [(hz, k9, v9)]).length = sz + 1 := by rw [List.length_append, hsz]; rfl
  have htlL : ∀ t, tl = some t → t ∈ L := fun t e => hoL t (lnk_tl (by rw [← e]; exact hl))
  have hBo : ∀ a, a ∈ bins b → a ∈ ord := fun a ha => ((hmem b hbl a).mp ha).1
  obtain ⟨V0, hV0⟩ : ∃ V0, V0 = V := ⟨_, rfl⟩
  obtain ⟨F, hF⟩ : ∃ F, F = xF ([(M, .inr (25, [.ref tb, va_rf es, .int (nI sz), .int mc, .int (nI th), .float 1061158912, .null, .null, va_rf hd, va_rf tl, .int 0, .int 0])), (tb, .inl (8, cap, .inr (.inr (.inr (.inr tf)))))] ++ stW L (ndX kd hs ky vl nx bf af pa lf rt pv rd)) := ⟨_, rfl⟩
  refine rn.mono (J := xSt F V0 ([(M, .inr (25, [.ref tb, va_rf es, .int (nI sz), .int mc, .int (nI th), .float 1061158912, .null, .null, va_rf hd, va_rf tl, .int 0, .int 0])), (tb, .inl (8, cap, .inr (.inr (.inr (.inr tf)))))] ++ stW L (ndX kd hs ky vl nx bf af pa lf rt pv rd))) (fun V9 h => by rw [h, hV0, hF]; exact hV.st) ?_
  show rn C (xSt F V0 ([(M, .inr (25, [.ref tb, va_rf es, .int (nI sz), .int mc, .int (nI th), .float 1061158912, .null, .null, va_rf hd, va_rf tl, .int 0, .int 0])), (tb, .inl (8, cap, .inr (.inr (.inr (.inr tf)))))] ++ stW L (ndX kd hs ky vl nx bf af pa lf rt pv rd))) 0 0 0 [(0, .ref M), (1, .int hz), (2, .ref k9), (3, .ref v9), (4, .int 0), (5, .int 1)] []
  refine rn.sub (lv' := [(5, .int 1), (4, .int 0), (3, .ref v9), (2, .ref k9), (1, .int hz), (0, .ref M)]) [5, 4, 3, 2, 1, 0] rfl ?_
  have hr : 1 + (1 + (sz + 1)) ≤ c9 ∧ 6 + (2 * cap + 6 * (sz + 1)) ≤ s9 := by rcases hH with h | h <;> omega
  have hf : tf b = some f := by have h9 := hB.1; rw [hLt] at h9; exact h9.1
  have hfm : f ∈ bins b := by rw [hLt]; exact List.mem_cons_self
  have hmL : ∀ a, a ∈ bins b → a ∈ L ∧ kd a = false := fun a ha => ⟨hoL a (hBo a ha), hpl a ha⟩
  have hbn : (bins b).length ≤ ord.length := hB.2.1.length_le_of_subset hBo
  have hlo := mp_len hM
  refine lpJ20_pvL c9 s9 hG hC 0 0 L kd hs ky vl nx bf af pa lf rt pv rd M es sz th mc hd tl tb cap tf hcap hz k9 v9 b hb f hf (hmL f hfm).1 (hmL f hfm).2 (hne f (hBo f hfm)) ?_
  refine lpJ20_pvl c9 s9 hG hC 0 0 L kd hs ky vl nx bf af pa lf rt pv rd M es sz th mc hd tl tb cap tf hcap hz k9 v9 htlL (by omega) (by omega) (bins b) hmL (fun a ha => hne a (hBo a ha)) ?_ t [] f hLt (by have h9 := hB.1; rw [hLt] at h9; exact h9.2) 0 rfl
  intro l0 z hLz i hi q hqL
  have hzm : z ∈ bins b := by rw [hLz]; exact List.mem_append_right _ List.mem_cons_self
  have hlz : (bins b).length = i + 1 := by rw [hLz, List.length_append, hi]; rfl
  have hBz := hB.1
  have hBn := hB.2.1
  have hmz : ∀ a, a ∈ l0 ++ [z] → a ∈ L ∧ kd a = false := fun a ha => hmL a (by rw [hLz]; exact ha)
  rw [hLz] at hBz hBn
  have hbl9 := bin_L (hs := va_up hs q hz) (pa := pa) (lf := lf) (rt := rt) (pv := pv) hqL hBz hBn hmz
  obtain ⟨hM9, hp9⟩ := mp_ins (o' := tf b) hM hq hb (by rw [hLz]; exact ins_L (z := z) (k9 := k9) (v9 := v9) hqL hl hoL (hmL z hzm).1) hbl9
  rw [up_idv rfl] at hM9
  have hlo9 : (ord ++ [q]).length = sz + 1 := by rw [List.length_append, hlo, hsz]; rfl
  have hcap2 : capI (2 * cap) := by have h9 := hcap; unfold capI at h9 ⊢; omega
  have h4 := hM.2.1
  refine lpJ20_pv8C c9 s9 hG hC 1 6 (L ++ [q]) (va_up kd q false) (va_up hs q hz) (va_up ky q k9) (va_up vl q v9) (va_up (va_up nx q none) z (some q)) (va_up bf q tl) (afn af q tl) pa lf rt pv rd M es sz th mc (hdn hd q tl) (some q) tb cap tf hcap hz k9 v9 i (by omega) (by omega) hc64 hcap2 (by omega) (by omega) _ (ord ++ [q]) hM9.2.2.1 hM9.2.2.2.1 hM9.2.2.2.2.1 (by rw [hM9.2.2.2.2.2.1]; exact hM9.2.2.2.2.2.2) (by omega) (by omega) (by omega) ?_
  intro nt nf nb L2 ord2 kd2 hs2 ky2 vl2 nx2 bf2 af2 pa2 lf2 rt2 pv2 rd2 hd2 tl2 hZ1 hZ2 hZ3 hZ4
  have hM8 := mp_rz hM9 hcap2 hZ1 hZ2 hZ3 hZ4
  have hlo2 := mp_len hM8
  have hpl2 := @pl_le ord2 kd2
  rw [hlo9]
  exact lpJ20_pv9 c9 s9 hG hC (1 + (1 + (sz + 1))) (6 + (2 * cap + 6 * (sz + 1))) L2 kd2 hs2 ky2 vl2 nx2 bf2 af2 pa2 lf2 rt2 pv2 rd2 M es sz (2 * th) mc hd2 tl2 nt (2 * cap) nf hcap2 hM8 hlen9 (by omega) hn3 hes (by omega) hH (fun w' k n hw hk hn => r_aret hC (v := none) (Or.inl ⟨_, rfl⟩) hk hn (fun V9 h9 => hQ _ _ ⟨w', ⟨rfl, hw⟩, by rw [← hV0, ← hF]; exact h9⟩) dJ20_putVal_299)
theorem mp_Z {kd : Nat → Bool} {hs : Nat → Int32} {ky vl : Nat → Nat} {nx bf af pa lf rt pv : Nat → Option Nat} {q k9 v9 : Nat} {hz : Int32} : mpI [(hz, k9, v9)] 16 12 (va_up (fun _ => none) (ixN hz 16) (some q)) (va_up (fun _ => []) (ixN hz 16) [q]) [q] [q] (va_up kd q false) (va_up hs q hz) (va_up ky q k9) (va_up vl q v9) (va_up nx q none) (va_up bf q none) (afn af q none) pa lf rt pv (hdn none q none) (some q) := by
  have h0 : mpI [] 16 12 (fun _ => none) (fun _ => []) [] [] kd hs ky vl nx bf af pa lf rt pv none none := ⟨cap16, rfl, ⟨fun b _ => ⟨rfl, List.nodup_nil, Or.inl fun a ha => absurd ha List.not_mem_nil⟩, fun b _ a => ⟨fun h => absurd h List.not_mem_nil, fun h => h.1⟩⟩, ⟨rfl, trivial, rfl, List.nodup_nil⟩, fun a ha => absurd ha List.not_mem_nil, rfl, List.nodup_nil⟩
  exact (mp_ins (q := q) h0 List.not_mem_nil rfl (ins_E (k9 := k9) (v9 := v9) List.not_mem_nil h0.2.2.2.1 h0.2.2.2.2.1) ⟨⟨rfl, up_same _ _ _⟩, List.nodup_cons.mpr ⟨List.not_mem_nil, List.nodup_nil⟩, Or.inl fun a ha => by rw [List.mem_singleton.mp ha]; exact up_same _ _ _⟩).1
set_option maxHeartbeats 4000000 in
set_option maxRecDepth 100000 in
theorem metJ20_putValZ (l : Launch) (G : xG) (hG : xGood G) (kd : Nat → Bool) (hs : Nat → Int32) (ky vl : Nat → Nat) (nx bf af pa lf rt pv : Nat → Option Nat) (rd : Nat → Int32) (M : Nat) (es : Option Nat) (mc : Int32) (hes : es = none) (hz : Int32) (k9 v9 : Nat) {D : List (Int32 × Nat × Nat)} (hD : D = []) {c9 s9 pc ps : Nat} (hH : pvH 0 12 16 1 2 22 c9 s9 pc ps) : xWm l G yJ20_putVal (Cond.code yJ20_putVal cJ20_putVal 13 (some (.object "java/lang/Object"))) { frames := 8, locals := 211, cells := c9, slots := s9 } [.ref M, .int hz, .ref k9, .ref v9, .int 0, .int 1] ([(M, .inr (25, [.null, va_rf es, .int (nI 0), .int mc, .int 0, .float 1061158912, .null, .null, .null, .null, .int 0, .int 0]))] ++ stW ([]) (ndX kd hs ky vl nx bf af pa lf rt pv rd)) (fun v w' => v = some .null ∧ mpS M w' (D ++ [(hz, k9, v9)]) pc ps) (fun _ _ => False) := by
  intro V hV
  refine xMet_ofT RJ20 hG rfl (by decide) (Nat.le_of_ble_eq_true rfl) fun C hC hQ hX hl hg _ hTab => ?_
  subst hl hg
  subst hD
  have hr : 2 ≤ c9 ∧ 22 ≤ s9 := by rcases hH with h | h <;> omega
  obtain ⟨V0, hV0⟩ : ∃ V0, V0 = V := ⟨_, rfl⟩
  obtain ⟨F, hF⟩ : ∃ F, F = xF ([(M, .inr (25, [.null, va_rf es, .int (nI 0), .int mc, .int 0, .float 1061158912, .null, .null, .null, .null, .int 0, .int 0]))] ++ stW ([]) (ndX kd hs ky vl nx bf af pa lf rt pv rd)) := ⟨_, rfl⟩
  refine rn.mono (J := xSt F V0 ([(M, .inr (25, [.null, va_rf es, .int (nI 0), .int mc, .int 0, .float 1061158912, .null, .null, .null, .null, .int 0, .int 0]))] ++ stW ([]) (ndX kd hs ky vl nx bf af pa lf rt pv rd))) (fun V9 h => by rw [h, hV0, hF]; exact hV.st) ?_
  show rn C (xSt F V0 ([(M, .inr (25, [.null, va_rf es, .int (nI 0), .int mc, .int 0, .float 1061158912, .null, .null, .null, .null, .int 0, .int 0]))] ++ stW ([]) (ndX kd hs ky vl nx bf af pa lf rt pv rd))) 0 0 0 [(0, .ref M), (1, .int hz), (2, .ref k9), (3, .ref v9), (4, .int 0), (5, .int 1)] []
  refine rn.sub (lv' := [(5, .int 1), (4, .int 0), (3, .ref v9), (2, .ref k9), (1, .int hz), (0, .ref M)]) [5, 4, 3, 2, 1, 0] rfl ?_
  refine lpJ20_pvZ c9 s9 hG hC 0 0 [] kd hs ky vl nx bf af pa lf rt pv rd M es 0 mc none none hz k9 v9 (fun t e => by cases e) (by omega) (by omega) (fun tb q hqL => ?_)
  exact lpJ20_pv9 c9 s9 hG hC 2 22 ([] ++ [q]) (va_up kd q false) (va_up hs q hz) (va_up ky q k9) (va_up vl q v9) (va_up nx q none) (va_up bf q none) (afn af q none) pa lf rt pv rd M es 0 12 mc (hdn none q none) (some q) tb 16 (va_up (fun _ => none) (ixN hz 16) (some q)) cap16 mp_Z rfl (by omega) (by omega) hes (@pl_le [q] (va_up kd q false)) hH (fun w' k n hw hk hn => r_aret hC (v := none) (Or.inl ⟨_, rfl⟩) hk hn (fun V9 h9 => hQ _ _ ⟨w', ⟨rfl, hw⟩, by rw [← hV0, ← hF]; exact h9⟩) dJ20_putVal_299)
theorem metJ20_putVal (l : Launch) (G : xG) (hG : xGood G) {M : Nat} {ws : xW} {D : List (Int32 × Nat × Nat)} {pc ps : Nat} (h : mpS M ws D pc ps) (hz : Int32) (k9 v9 : Nat) (hq : hz ∉ D.map (fun q => q.1)) (hn : D.length ≤ 300) : ∃ c s, c ≤ pc ∧ s ≤ ps ∧ xWm l G yJ20_putVal (Cond.code yJ20_putVal cJ20_putVal 13 (some (.object "java/lang/Object"))) { frames := 8, locals := 211, cells := c, slots := s } [.ref M, .int hz, .ref k9, .ref v9, .int 0, .int 1] ws (fun v w' => v = some .null ∧ mpS M w' (D ++ [(hz, k9, v9)]) (pc - c) (ps - s)) (fun _ _ => False) := by
  rcases h with ⟨hD, h1, h2, kd, hs, ky, vl, nx, bf, af, pa, lf, rt, pv, rd, es, mc, hes, rfl⟩ | ⟨tb, cap, th, sz, tf, bins, L, ord, kd, hs, ky, vl, nx, bf, af, pa, lf, rt, pv, rd, hd, tl, es, mc, hM, hsz, hszt, hs3, hpc, hps, hes, rfl⟩
  · refine ⟨2, 22, by omega, by omega, metJ20_putValZ l G hG kd hs ky vl nx bf af pa lf rt pv rd M es mc hes hz k9 v9 hD (Or.inl ⟨by decide, Nat.le_refl _, Nat.le_refl _, ?_, ?_⟩)⟩
    · show 2 * (302 - (0 + 1)) + 1 + 605 * 5 ≤ _
      omega
    · show 12 * (2 * (302 - (0 + 1)) + 1 + 605 * 5) + (1024 - 2 * 16) ≤ _
      omega
  · obtain ⟨b, hb⟩ : ∃ b, ixN hz cap = b := ⟨_, rfl⟩
    have hcap := hM.1
    have hle := hcap.le
    have h4 := hM.2.1
    have hbl : b < cap := by rw [← hb]; exact ixN_lt hcap
    have hn3 : sz ≤ 300 := by omega
    obtain ⟨hseg, hnd, hkind⟩ := hM.2.2.1.1 b hbl
    have hBo : ∀ a, a ∈ bins b → a ∈ ord := fun a ha => ((hM.2.2.1.2 b hbl a).mp ha).1
    rcases hkind with hpl | hT
    · cases hB : bins b with
      | nil =>
        obtain ⟨c, s, g1, g2, g3⟩ := pvH_ex (p := plN kd ord + 1) (a := 1) (b := 6) hcap h4 hn3 hpc hps (by omega) (by omega)
        exact ⟨c, s, g1, g2, metJ20_putValE l G hG L kd hs ky vl nx bf af pa lf rt pv rd M es sz th mc hd tl tb cap tf hz k9 v9 hM hsz hszt hn3 hes hq b hb hB g3⟩
      | cons f t =>
        by_cases h7 : (bins b).length ≤ 7
        · obtain ⟨c, s, g1, g2, g3⟩ := pvH_ex (p := plN kd ord + 1) (a := 1) (b := 6) hcap h4 hn3 hpc hps (by omega) (by omega)
          exact ⟨c, s, g1, g2, metJ20_putValL l G hG L kd hs ky vl nx bf af pa lf rt pv rd M es sz th mc hd tl tb cap tf hz k9 v9 hM hsz hszt hn3 hes hq b hb hpl f t hB h7 g3⟩
        · by_cases h64 : 64 ≤ cap
          · have hp0 : (bins b).length ≤ plN kd ord := hnd.length_le_of_subset (fun a ha => List.mem_filter.mpr ⟨hBo a ha, by rw [hpl a ha]; rfl⟩)
            obtain ⟨c, s, g1, g2, g3⟩ := pvH_ex (p := plN kd ord - (bins b).length) (a := 1 + ((bins b).length + 1)) (b := 6 + 11 * ((bins b).length + 1)) hcap h4 hn3 hpc hps (by omega) (by omega)
            exact ⟨c, s, g1, g2, metJ20_putValB l G hG L kd hs ky vl nx bf af pa lf rt pv rd M es sz th mc hd tl tb cap tf hz k9 v9 hM hsz hszt hn3 hes hq b hb hpl f t hB (by omega) h64 (by omega) g3⟩
          · have hcap2 : capI (2 * cap) := by have h9 := hcap; unfold capI at h9 ⊢; omega
            have hl := lv_dbl hcap hcap2
            refine ⟨1 + (1 + (sz + 1)), 6 + (2 * cap + 6 * (sz + 1)), by omega, by omega, metJ20_putValC l G hG L kd hs ky vl nx bf af pa lf rt pv rd M es sz th mc hd tl tb cap tf hz k9 v9 hM hsz hszt hn3 hes hq b hb hpl f t hB (by omega) (by omega) (Or.inl ⟨by omega, Nat.le_refl _, Nat.le_refl _, by omega, by omega⟩)⟩
    · obtain ⟨c, s, g1, g2, g3⟩ := pvH_ex (p := plN kd ord + 1) (a := 1) (b := 11) hcap h4 hn3 hpc hps (by omega) (by omega)
      exact ⟨c, s, g1, g2, metJ20_putValT l G hG L kd hs ky vl nx bf af pa lf rt pv rd M es sz th mc hd tl tb cap tf hz k9 v9 hM hsz hszt hn3 hes hq b hb hT g3⟩
