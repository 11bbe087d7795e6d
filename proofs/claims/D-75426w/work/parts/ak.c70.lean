/-! ===== the JDK: maps: resize ===== -/
set_option maxRecDepth 100000
set_option maxHeartbeats 4000000 in
set_option maxRecDepth 100000 in
theorem lpJ20_rzi {C : xC} {F : Nat → Prop} {V0 : xV} (c9 s9 : Nat) (hG : xGood (xGG C)) (hC : xCtx C RJ20 cJ20_resize 14 (some (.array (.object "java/util/HashMap$Node"))) { frames := 6, locals := 150, cells := c9, slots := s9 }) (k n : Nat) (L : List Nat) (kd : Nat → Bool) (hs : Nat → Int32) (ky vl : Nat → Nat) (nx bf af pa lf rt pv : Nat → Option Nat) (rd : Nat → Int32) (M : Nat) (es : Option Nat) (sz th : Nat) (mc : Int32) (hd tl : Option Nat) (ot nt cap : Nat) (of nf : Nat → Option Nat) (hcap : capI cap) (hcap2 : capI (2 * cap)) (j : Nat) (hj : j < cap) (kx : rn C (xSt F V0 ([(M, .inr (25, [.ref nt, va_rf es, .int (nI sz), .int mc, .int (nI th), .float 1061158912, .null, .null, va_rf hd, va_rf tl, .int 0, .int 0])), (ot, .inl (8, cap, .inr (.inr (.inr (.inr of))))), (nt, .inl (8, 2 * cap, .inr (.inr (.inr (.inr nf)))))] ++ stW L (ndX kd hs ky vl nx bf af pa lf rt pv rd))) k n 151 [(7, .int (nI (j + 1))), (6, .ref nt), (4, .int (nI (2 * cap))), (2, .int (nI cap)), (1, .ref ot), (0, .ref M)] []) : rn C (xSt F V0 ([(M, .inr (25, [.ref nt, va_rf es, .int (nI sz), .int mc, .int (nI th), .float 1061158912, .null, .null, va_rf hd, va_rf tl, .int 0, .int 0])), (ot, .inl (8, cap, .inr (.inr (.inr (.inr of))))), (nt, .inl (8, 2 * cap, .inr (.inr (.inr (.inr nf)))))] ++ stW L (ndX kd hs ky vl nx bf af pa lf rt pv rd))) k n 347 [(7, .int (nI j)), (6, .ref nt), (4, .int (nI (2 * cap))), (2, .int (nI cap)), (1, .ref ot), (0, .ref M)] [] := by
  have hle := hcap.le
  refine r_iinc hC (nI (j + 1)) 7 0 [(7, .int (nI (j + 1))), (6, .ref nt), (4, .int (nI (2 * cap))), (2, .int (nI cap)), (1, .ref ot), (0, .ref M)] dJ20_resize_347 rfl (nI_add j 1) (Nat.le_of_ble_eq_true rfl) rfl 350 rfl ?_
  refine r_goto hC 151 dJ20_resize_350 (by decide) ?_
  refine rn.sub (lv' := [(7, .int (nI (j + 1))), (6, .ref nt), (4, .int (nI (2 * cap))), (2, .int (nI cap)), (1, .ref ot), (0, .ref M)]) [0, 1, 2, 3, 4, 5] rfl ?_
  exact kx
set_option maxHeartbeats 4000000 in
set_option maxRecDepth 100000 in
theorem lpJ20_rzE {C : xC} {F : Nat → Prop} {V0 : xV} (c9 s9 : Nat) (hG : xGood (xGG C)) (hC : xCtx C RJ20 cJ20_resize 14 (some (.array (.object "java/util/HashMap$Node"))) { frames := 6, locals := 150, cells := c9, slots := s9 }) (k n : Nat) (L : List Nat) (kd : Nat → Bool) (hs : Nat → Int32) (ky vl : Nat → Nat) (nx bf af pa lf rt pv : Nat → Option Nat) (rd : Nat → Int32) (M : Nat) (es : Option Nat) (sz th : Nat) (mc : Int32) (hd tl : Option Nat) (ot nt cap : Nat) (of nf : Nat → Option Nat) (hcap : capI cap) (hcap2 : capI (2 * cap)) (j : Nat) (hj : j < cap) (hof : of j = none) (kx : rn C (xSt F V0 ([(M, .inr (25, [.ref nt, va_rf es, .int (nI sz), .int mc, .int (nI th), .float 1061158912, .null, .null, va_rf hd, va_rf tl, .int 0, .int 0])), (ot, .inl (8, cap, .inr (.inr (.inr (.inr of))))), (nt, .inl (8, 2 * cap, .inr (.inr (.inr (.inr nf)))))] ++ stW L (ndX kd hs ky vl nx bf af pa lf rt pv rd))) k n 347 [(7, .int (nI j)), (6, .ref nt), (4, .int (nI (2 * cap))), (2, .int (nI cap)), (1, .ref ot), (0, .ref M)] []) : rn C (xSt F V0 ([(M, .inr (25, [.ref nt, va_rf es, .int (nI sz), .int mc, .int (nI th), .float 1061158912, .null, .null, va_rf hd, va_rf tl, .int 0, .int 0])), (ot, .inl (8, cap, .inr (.inr (.inr (.inr of))))), (nt, .inl (8, 2 * cap, .inr (.inr (.inr (.inr nf)))))] ++ stW L (ndX kd hs ky vl nx bf af pa lf rt pv rd))) k n 151 [(7, .int (nI j)), (6, .ref nt), (4, .int (nI (2 * cap))), (2, .int (nI cap)), (1, .ref ot), (0, .ref M)] [] := by
  have hle := hcap.le
  refine r_iload hC 0 dJ20_resize_151 rfl 153 rfl ?_
  refine r_iload_n hC 3 dJ20_resize_153 rfl 154 rfl ?_
  refine r_icge hC 353 dJ20_resize_154 (by decide) 157 rfl (fun h => absurd h (nI_ge (by omega) (by omega))) (fun _ => ?_)
  refine r_aload_n hC 4 dJ20_resize_157 rfl 158 rfl ?_
  refine r_iload hC 0 dJ20_resize_158 rfl 160 rfl ?_
  refine r_aald hC j (xix_n j (by omega) (by omega)) (t := 8) rfl rfl (fun _ h => h.get 1 rfl) none (hof) dJ20_resize_160 161 rfl ?_
  show rn C (xSt F V0 ([(M, .inr (25, [.ref nt, va_rf es, .int (nI sz), .int mc, .int (nI th), .float 1061158912, .null, .null, va_rf hd, va_rf tl, .int 0, .int 0])), (ot, .inl (8, cap, .inr (.inr (.inr (.inr of))))), (nt, .inl (8, 2 * cap, .inr (.inr (.inr (.inr nf)))))] ++ stW L (ndX kd hs ky vl nx bf af pa lf rt pv rd))) k n 161 [(7, .int (nI j)), (6, .ref nt), (4, .int (nI (2 * cap))), (2, .int (nI cap)), (1, .ref ot), (0, .ref M)] [.null]
  refine r_dup hC dJ20_resize_161 rfl 162 rfl ?_
  refine r_astoreN hC 8 [(8, .null), (7, .int (nI j)), (6, .ref nt), (4, .int (nI (2 * cap))), (2, .int (nI cap)), (1, .ref ot), (0, .ref M)] dJ20_resize_162 (Nat.le_of_ble_eq_true rfl) rfl 164 rfl ?_
  refine r_ifnullN hC 347 dJ20_resize_164 (by decide) ?_
  refine rn.sub (lv' := [(7, .int (nI j)), (6, .ref nt), (4, .int (nI (2 * cap))), (2, .int (nI cap)), (1, .ref ot), (0, .ref M)]) [1, 2, 3, 4, 5, 6] rfl ?_
  exact kx
set_option maxHeartbeats 4000000 in
set_option maxRecDepth 100000 in
theorem lpJ20_rz1 {C : xC} {F : Nat → Prop} {V0 : xV} (c9 s9 : Nat) (hG : xGood (xGG C)) (hC : xCtx C RJ20 cJ20_resize 14 (some (.array (.object "java/util/HashMap$Node"))) { frames := 6, locals := 150, cells := c9, slots := s9 }) (k n : Nat) (L : List Nat) (kd : Nat → Bool) (hs : Nat → Int32) (ky vl : Nat → Nat) (nx bf af pa lf rt pv : Nat → Option Nat) (rd : Nat → Int32) (M : Nat) (es : Option Nat) (sz th : Nat) (mc : Int32) (hd tl : Option Nat) (ot nt cap : Nat) (of nf : Nat → Option Nat) (hcap : capI cap) (hcap2 : capI (2 * cap)) (j : Nat) (hj : j < cap) (f : Nat) (hof : of j = some f) (hfL : f ∈ L) (hfk : kd f = false) (hnf : nx f = none) (kx : rn C (xSt F V0 ([(M, .inr (25, [.ref nt, va_rf es, .int (nI sz), .int mc, .int (nI th), .float 1061158912, .null, .null, va_rf hd, va_rf tl, .int 0, .int 0])), (ot, .inl (8, cap, .inr (.inr (.inr (.inr (va_up of j none)))))), (nt, .inl (8, 2 * cap, .inr (.inr (.inr (.inr (va_up nf (ixN (hs f) (2 * cap)) (some f)))))))] ++ stW L (ndX kd hs ky vl nx bf af pa lf rt pv rd))) k n 347 [(7, .int (nI j)), (6, .ref nt), (4, .int (nI (2 * cap))), (2, .int (nI cap)), (1, .ref ot), (0, .ref M)] []) : rn C (xSt F V0 ([(M, .inr (25, [.ref nt, va_rf es, .int (nI sz), .int mc, .int (nI th), .float 1061158912, .null, .null, va_rf hd, va_rf tl, .int 0, .int 0])), (ot, .inl (8, cap, .inr (.inr (.inr (.inr of))))), (nt, .inl (8, 2 * cap, .inr (.inr (.inr (.inr nf)))))] ++ stW L (ndX kd hs ky vl nx bf af pa lf rt pv rd))) k n 151 [(7, .int (nI j)), (6, .ref nt), (4, .int (nI (2 * cap))), (2, .int (nI cap)), (1, .ref ot), (0, .ref M)] [] := by
  have hle := hcap.le
  refine r_iload hC 0 dJ20_resize_151 rfl 153 rfl ?_
  refine r_iload_n hC 3 dJ20_resize_153 rfl 154 rfl ?_
  refine r_icge hC 353 dJ20_resize_154 (by decide) 157 rfl (fun h => absurd h (nI_ge (by omega) (by omega))) (fun _ => ?_)
  refine r_aload_n hC 4 dJ20_resize_157 rfl 158 rfl ?_
  refine r_iload hC 0 dJ20_resize_158 rfl 160 rfl ?_
  refine r_aald hC j (xix_n j (by omega) (by omega)) (t := 8) rfl rfl (fun _ h => h.get 1 rfl) (some f) (hof) dJ20_resize_160 161 rfl ?_
  show rn C (xSt F V0 ([(M, .inr (25, [.ref nt, va_rf es, .int (nI sz), .int mc, .int (nI th), .float 1061158912, .null, .null, va_rf hd, va_rf tl, .int 0, .int 0])), (ot, .inl (8, cap, .inr (.inr (.inr (.inr of))))), (nt, .inl (8, 2 * cap, .inr (.inr (.inr (.inr nf)))))] ++ stW L (ndX kd hs ky vl nx bf af pa lf rt pv rd))) k n 161 [(7, .int (nI j)), (6, .ref nt), (4, .int (nI (2 * cap))), (2, .int (nI cap)), (1, .ref ot), (0, .ref M)] [.ref f]
  refine r_dup hC dJ20_resize_161 rfl 162 rfl ?_
  refine r_astore hC 8 [(8, .ref f), (7, .int (nI j)), (6, .ref nt), (4, .int (nI (2 * cap))), (2, .int (nI cap)), (1, .ref ot), (0, .ref M)] dJ20_resize_162 (Nat.le_of_ble_eq_true rfl) rfl 164 rfl ?_
  refine r_ifnull hC dJ20_resize_164 167 rfl ?_
  refine r_aload_n hC 5 dJ20_resize_167 rfl 168 rfl ?_
  refine r_iload hC 1 dJ20_resize_168 rfl 170 rfl ?_
  refine r_null hC dJ20_resize_170 171 rfl ?_
  refine r_aastN (J := xSt F V0 ([(M, .inr (25, [.ref nt, va_rf es, .int (nI sz), .int mc, .int (nI th), .float 1061158912, .null, .null, va_rf hd, va_rf tl, .int 0, .int 0])), (ot, .inl (8, cap, .inr (.inr (.inr (.inr (va_up of j none)))))), (nt, .inl (8, 2 * cap, .inr (.inr (.inr (.inr nf)))))] ++ stW L (ndX kd hs ky vl nx bf af pa lf rt pv rd))) hC j (xix_n j (by omega) (by omega)) rfl (fun _ h => h.get 1 rfl) dJ20_resize_171 (fun _ h => h.set 1 _ rfl) 172 rfl ?_
  refine r_aload hC 0 dJ20_resize_172 rfl 174 rfl ?_
  refine r_getI (v := .null) hC kJ25 3 rfl q2250 (Or.inl rfl) (fun _ h => stW_get h hfL (ndX_p hfk)) (congrArg (fun o9 => some (va_rf o9)) (hnf)) dJ20_resize_174 177 rfl ?_
  refine r_ifnonnullN hC dJ20_resize_177 180 rfl ?_
  refine r_aload hC 2 dJ20_resize_180 rfl 182 rfl ?_
  refine r_aload hC 0 dJ20_resize_182 rfl 184 rfl ?_
  refine r_getI (v := .int (hs f)) hC kJ25 0 rfl q2234 (Or.inl rfl) (fun _ h => stW_get h hfL (ndX_p hfk)) rfl dJ20_resize_184 187 rfl ?_
  refine r_iload hC 3 dJ20_resize_187 rfl 189 rfl ?_
  refine r_iconst hC 1 dJ20_resize_189 ic_1 190 rfl ?_
  refine r_isub hC (nI (2 * cap - 1)) dJ20_resize_190  (pk_sub (a := 2 * cap) (b := 1) (by omega)) 191 rfl ?_
  refine r_iand hC (nI (ixN (hs f) (2 * cap))) dJ20_resize_191  ((Int32.and_comm _ _).trans (ix_and hcap2)) 192 rfl ?_
  refine r_aload hC 0 dJ20_resize_192 rfl 194 rfl ?_
  refine r_aastO (J := xSt F V0 ([(M, .inr (25, [.ref nt, va_rf es, .int (nI sz), .int mc, .int (nI th), .float 1061158912, .null, .null, va_rf hd, va_rf tl, .int 0, .int 0])), (ot, .inl (8, cap, .inr (.inr (.inr (.inr (va_up of j none)))))), (nt, .inl (8, 2 * cap, .inr (.inr (.inr (.inr (va_up nf (ixN (hs f) (2 * cap)) (some f)))))))] ++ stW L (ndX kd hs ky vl nx bf af pa lf rt pv rd))) hC hG kJ25 q3422 (ixN (hs f) (2 * cap)) (xix_n _ (ixN_lt hcap2) (by omega)) rfl (fun _ h => ⟨_, stW_get h hfL (ndX_p hfk)⟩) (fun _ h => h.get 2 rfl) dJ20_resize_194 (fun _ h => h.set 2 _ rfl) 195 rfl ?_
  refine r_goto hC 347 dJ20_resize_195 (by decide) ?_
  refine rn.sub (lv' := [(7, .int (nI j)), (6, .ref nt), (4, .int (nI (2 * cap))), (2, .int (nI cap)), (1, .ref ot), (0, .ref M)]) [1, 2, 3, 4, 5, 6] rfl ?_
  exact kx
set_option maxHeartbeats 4000000 in
set_option maxRecDepth 100000 in
theorem lpJ20_rzT {C : xC} {F : Nat → Prop} {V0 : xV} (c9 s9 : Nat) (hG : xGood (xGG C)) (hC : xCtx C RJ20 cJ20_resize 14 (some (.array (.object "java/util/HashMap$Node"))) { frames := 6, locals := 150, cells := c9, slots := s9 }) (k n : Nat) (L : List Nat) (kd : Nat → Bool) (hs : Nat → Int32) (ky vl : Nat → Nat) (nx bf af pa lf rt pv : Nat → Option Nat) (rd : Nat → Int32) (M : Nat) (es : Option Nat) (sz th : Nat) (mc : Int32) (hd tl : Option Nat) (ot nt cap : Nat) (of nf : Nat → Option Nat) (hcap : capI cap) (hcap2 : capI (2 * cap)) (j : Nat) (hj : j < cap) (ord : List Nat) (f g : Nat) (t : List Nat) (hof : of j = some f) (hnf : nx f = some g) (hseg : seg nx (some f) (f :: t) none) (hnd : (f :: t).Nodup) (hk : ∀ a, a ∈ f :: t → kd a = true) (hlen : 6 < (f :: t).length) (hlen3 : (f :: t).length < 2147483648) (hbck : bck pv none (f :: t)) (hT : tI (fun a => (hs a).toInt) (fun a => a ∈ f :: t) pa lf rt f) (hl : lnk bf af hd tl ord) (hoL : ∀ a, a ∈ ord → a ∈ L) (hLo : ∀ a, a ∈ f :: t → a ∈ ord) (hinj : ∀ a a9, a ∈ ord → a9 ∈ ord → hs a = hs a9 → a = a9) (hf1 : nf j = none) (hf2 : nf (j + cap) = none) (hix : ∀ a, a ∈ f :: t → ixN (hs a) cap = j) (hkc : k + (f :: t).length ≤ c9) (hnc : n + 6 * (f :: t).length ≤ s9) (kx : ∀ (L2 ord2 N2 : List Nat) (kd2 : Nat → Bool) (hs2 : Nat → Int32) (ky2 vl2 : Nat → Nat) (nx2 bf2 af2 pa2 lf2 rt2 pv2 : Nat → Option Nat) (rd2 : Nat → Int32) (hd2 tl2 : Option Nat) (N1 : List Nat), brI L ord kd hs ky vl nx pa lf rt pv (f :: t) L2 ord2 kd2 hs2 ky2 vl2 nx2 bf2 af2 pa2 lf2 rt2 pv2 hd2 tl2 (N1 ++ N2) → binI kd2 hs2 nx2 pa2 lf2 rt2 pv2 N1.head? N1 → binI kd2 hs2 nx2 pa2 lf2 rt2 pv2 N2.head? N2 → (∀ a, a ∈ N1 → ixN (hs2 a) (2 * cap) = j) → (∀ a, a ∈ N2 → ixN (hs2 a) (2 * cap) = j + cap) → rn C (xSt F V0 ([(M, .inr (25, [.ref nt, va_rf es, .int (nI sz), .int mc, .int (nI th), .float 1061158912, .null, .null, va_rf hd2, va_rf tl2, .int 0, .int 0])), (ot, .inl (8, cap, .inr (.inr (.inr (.inr (va_up of j none)))))), (nt, .inl (8, 2 * cap, .inr (.inr (.inr (.inr (va_up (va_up nf j N1.head?) (j + cap) N2.head?))))))] ++ stW L2 (ndX kd2 hs2 ky2 vl2 nx2 bf2 af2 pa2 lf2 rt2 pv2 rd2))) (k + (f :: t).length) (n + 6 * (f :: t).length) 347 [(7, .int (nI j)), (6, .ref nt), (4, .int (nI (2 * cap))), (2, .int (nI cap)), (1, .ref ot), (0, .ref M)] []) : rn C (xSt F V0 ([(M, .inr (25, [.ref nt, va_rf es, .int (nI sz), .int mc, .int (nI th), .float 1061158912, .null, .null, va_rf hd, va_rf tl, .int 0, .int 0])), (ot, .inl (8, cap, .inr (.inr (.inr (.inr of))))), (nt, .inl (8, 2 * cap, .inr (.inr (.inr (.inr nf)))))] ++ stW L (ndX kd hs ky vl nx bf af pa lf rt pv rd))) k n 151 [(7, .int (nI j)), (6, .ref nt), (4, .int (nI (2 * cap))), (2, .int (nI cap)), (1, .ref ot), (0, .ref M)] [] := by
  have hle := hcap.le
  have hfL : f ∈ L := hoL f (hLo f List.mem_cons_self)
  have hfk : kd f = true := hk f List.mem_cons_self
  refine r_iload hC 0 dJ20_resize_151 rfl 153 rfl ?_
  refine r_iload_n hC 3 dJ20_resize_153 rfl 154 rfl ?_
  refine r_icge hC 353 dJ20_resize_154 (by decide) 157 rfl (fun h => absurd h (nI_ge (by omega) (by omega))) (fun _ => ?_)
  refine r_aload_n hC 4 dJ20_resize_157 rfl 158 rfl ?_
  refine r_iload hC 0 dJ20_resize_158 rfl 160 rfl ?_
  refine r_aald hC j (xix_n j (by omega) (by omega)) (t := 8) rfl rfl (fun _ h => h.get 1 rfl) (some f) (hof) dJ20_resize_160 161 rfl ?_
  show rn C (xSt F V0 ([(M, .inr (25, [.ref nt, va_rf es, .int (nI sz), .int mc, .int (nI th), .float 1061158912, .null, .null, va_rf hd, va_rf tl, .int 0, .int 0])), (ot, .inl (8, cap, .inr (.inr (.inr (.inr of))))), (nt, .inl (8, 2 * cap, .inr (.inr (.inr (.inr nf)))))] ++ stW L (ndX kd hs ky vl nx bf af pa lf rt pv rd))) k n 161 [(7, .int (nI j)), (6, .ref nt), (4, .int (nI (2 * cap))), (2, .int (nI cap)), (1, .ref ot), (0, .ref M)] [.ref f]
  refine r_dup hC dJ20_resize_161 rfl 162 rfl ?_
  refine r_astore hC 8 [(8, .ref f), (7, .int (nI j)), (6, .ref nt), (4, .int (nI (2 * cap))), (2, .int (nI cap)), (1, .ref ot), (0, .ref M)] dJ20_resize_162 (Nat.le_of_ble_eq_true rfl) rfl 164 rfl ?_
  refine r_ifnull hC dJ20_resize_164 167 rfl ?_
  refine r_aload_n hC 5 dJ20_resize_167 rfl 168 rfl ?_
  refine r_iload hC 1 dJ20_resize_168 rfl 170 rfl ?_
  refine r_null hC dJ20_resize_170 171 rfl ?_
  refine r_aastN (J := xSt F V0 ([(M, .inr (25, [.ref nt, va_rf es, .int (nI sz), .int mc, .int (nI th), .float 1061158912, .null, .null, va_rf hd, va_rf tl, .int 0, .int 0])), (ot, .inl (8, cap, .inr (.inr (.inr (.inr (va_up of j none)))))), (nt, .inl (8, 2 * cap, .inr (.inr (.inr (.inr nf)))))] ++ stW L (ndX kd hs ky vl nx bf af pa lf rt pv rd))) hC j (xix_n j (by omega) (by omega)) rfl (fun _ h => h.get 1 rfl) dJ20_resize_171 (fun _ h => h.set 1 _ rfl) 172 rfl ?_
  refine r_aload hC 0 dJ20_resize_172 rfl 174 rfl ?_
  refine r_getI (v := .ref g) hC kJ26 3 rfl q2250 (Or.inl rfl) (fun _ h => stW_get h hfL (ndX_t hfk)) (congrArg (fun o9 => some (va_rf o9)) (hnf)) dJ20_resize_174 177 rfl ?_
  refine r_ifnonnull hC 198 dJ20_resize_177 (by decide) ?_
  refine r_aload hC 0 dJ20_resize_198 rfl 200 rfl ?_
  refine r_instS hC kJ26 q1960 (fun _ h => ⟨_, stW_get h hfL (ndX_t hfk)⟩) dJ20_resize_200 203 rfl ?_
  refine r_ifeq hC 223 dJ20_resize_203 (by decide) 206 rfl (fun h => absurd h (by decide)) (fun _ => ?_)
  refine r_aload hC 0 dJ20_resize_206 rfl 208 rfl ?_
  refine r_castS hC kJ26 q1960 (fun _ h => ⟨_, stW_get h hfL (ndX_t hfk)⟩) dJ20_resize_208 211 rfl ?_
  refine r_aload_n hC 6 dJ20_resize_211 rfl 212 rfl ?_
  refine r_aload hC 2 dJ20_resize_212 rfl 214 rfl ?_
  refine r_iload hC 1 dJ20_resize_214 rfl 216 rfl ?_
  refine r_iload_n hC 4 dJ20_resize_216 rfl 217 rfl ?_
  refine xCall.ct (wcx := [(M, .inr (25, [.ref nt, va_rf es, .int (nI sz), .int mc, .int (nI th), .float 1061158912, .null, .null, va_rf hd, va_rf tl, .int 0, .int 0])), (nt, .inl (8, 2 * cap, .inr (.inr (.inr (.inr nf)))))]) (wr := [(ot, .inl (8, cap, .inr (.inr (.inr (.inr (va_up of j none))))))]) (r_cV hC kJ26 f [.ref M, .ref nt, .int (nI j), .int (nI cap)] mVJ26_split q2202 (fun _ h => ⟨_, stW_get h hfL (ndX_t hfk)⟩) (fun V9 h9 => (metJ26_split _ _ hG L kd hs ky vl nx bf af pa lf rt pv rd M (some nt) es sz th mc hd tl nt (2 * cap) nf cap j hcap2 rfl hj ord (f :: t) f hseg hnd hk hlen hlen3 hbck hT hl hoL hLo hinj hf1 hf2 (fun a ha => lob_ix hcap (hix a ha))) V9 (h9.in.cut (wcx := [(M, .inr (25, [.ref nt, va_rf es, .int (nI sz), .int mc, .int (nI th), .float 1061158912, .null, .null, va_rf hd, va_rf tl, .int 0, .int 0])), (nt, .inl (8, 2 * cap, .inr (.inr (.inr (.inr nf)))))]) (wr := [(ot, .inl (8, cap, .inr (.inr (.inr (.inr (va_up of j none))))))]) [0, 2] [1] 3 rfl rfl rfl rfl)) ⟨rfl, rfl⟩ (by first | omega | (dsimp only; omega)) (by first | omega | (dsimp only; omega)) rfl (Nat.le_of_ble_eq_true rfl) dJ20_resize_217) [0, 2] [1] 3 rfl rfl rfl rfl (k + (f :: t).length) (n + (6 * (f :: t).length)) 220 rfl rfl rfl (fun v1 w2 h3 => ?_) (fun _ _ h => h.elim)
  obtain ⟨L2, ord2, N2, kd2, hs2, ky2, vl2, nx2, bf2, af2, pa2, lf2, rt2, pv2, rd2, hd2, tl2, N1, rfl, hR2, hB1, hB2, hx1, hx2, rfl⟩ := h3
  refine rn.mono (J := xSt F V0 ([(ot, .inl (8, cap, .inr (.inr (.inr (.inr (va_up of j none)))))), (M, .inr (25, [.ref nt, va_rf es, .int (nI sz), .int mc, .int (nI th), .float 1061158912, .null, .null, va_rf hd2, va_rf tl2, .int 0, .int 0])), (nt, .inl (8, 2 * cap, .inr (.inr (.inr (.inr (va_up (va_up nf j N1.head?) (j + cap) N2.head?))))))] ++ stW L2 (ndX kd2 hs2 ky2 vl2 nx2 bf2 af2 pa2 lf2 rt2 pv2 rd2))) (fun _ h => by rw [← List.append_assoc] at h; exact h) ?_
  show rn C (xSt F V0 ([(ot, .inl (8, cap, .inr (.inr (.inr (.inr (va_up of j none)))))), (M, .inr (25, [.ref nt, va_rf es, .int (nI sz), .int mc, .int (nI th), .float 1061158912, .null, .null, va_rf hd2, va_rf tl2, .int 0, .int 0])), (nt, .inl (8, 2 * cap, .inr (.inr (.inr (.inr (va_up (va_up nf j N1.head?) (j + cap) N2.head?))))))] ++ stW L2 (ndX kd2 hs2 ky2 vl2 nx2 bf2 af2 pa2 lf2 rt2 pv2 rd2))) (k + (f :: t).length) (n + (6 * (f :: t).length)) 220 [(8, .ref f), (7, .int (nI j)), (6, .ref nt), (4, .int (nI (2 * cap))), (2, .int (nI cap)), (1, .ref ot), (0, .ref M)] []
  refine r_goto hC 347 dJ20_resize_220 (by decide) ?_
  refine rn.sub (lv' := [(7, .int (nI j)), (6, .ref nt), (4, .int (nI (2 * cap))), (2, .int (nI cap)), (1, .ref ot), (0, .ref M)]) [1, 2, 3, 4, 5, 6] rfl ?_
  refine rn.mono (J := xSt F V0 ([(M, .inr (25, [.ref nt, va_rf es, .int (nI sz), .int mc, .int (nI th), .float 1061158912, .null, .null, va_rf hd2, va_rf tl2, .int 0, .int 0])), (ot, .inl (8, cap, .inr (.inr (.inr (.inr (va_up of j none)))))), (nt, .inl (8, 2 * cap, .inr (.inr (.inr (.inr (va_up (va_up nf j N1.head?) (j + cap) N2.head?))))))] ++ stW L2 (ndX kd2 hs2 ky2 vl2 nx2 bf2 af2 pa2 lf2 rt2 pv2 rd2))) (fun _ h => h.ordT [1, 0, 2] 3 rfl rfl rfl) ?_
  exact kx L2 ord2 N2 kd2 hs2 ky2 vl2 nx2 bf2 af2 pa2 lf2 rt2 pv2 rd2 hd2 tl2 N1 hR2 hB1 hB2 hx1 hx2
set_option maxHeartbeats 4000000 in
set_option maxRecDepth 100000 in
theorem lpJ20_rzL {C : xC} {F : Nat → Prop} {V0 : xV} (c9 s9 : Nat) (hG : xGood (xGG C)) (hC : xCtx C RJ20 cJ20_resize 14 (some (.array (.object "java/util/HashMap$Node"))) { frames := 6, locals := 150, cells := c9, slots := s9 }) (k n : Nat) (L : List Nat) (kd : Nat → Bool) (hs : Nat → Int32) (ky vl : Nat → Nat) (nx bf af pa lf rt pv : Nat → Option Nat) (rd : Nat → Int32) (M : Nat) (es : Option Nat) (sz th : Nat) (mc : Int32) (hd tl : Option Nat) (ot nt cap : Nat) (of nf : Nat → Option Nat) (hcap : capI cap) (hcap2 : capI (2 * cap)) (j : Nat) (hj : j < cap) (f g : Nat) (hof : of j = some f) (hfL : f ∈ L) (hfk : kd f = false) (hnf : nx f = some g) (kx : rn C (xSt F V0 ([(M, .inr (25, [.ref nt, va_rf es, .int (nI sz), .int mc, .int (nI th), .float 1061158912, .null, .null, va_rf hd, va_rf tl, .int 0, .int 0])), (ot, .inl (8, cap, .inr (.inr (.inr (.inr (va_up of j none)))))), (nt, .inl (8, 2 * cap, .inr (.inr (.inr (.inr nf)))))] ++ stW L (ndX kd hs ky vl nx bf af pa lf rt pv rd))) k n 235 [(8, .ref f), (9, .null), (10, .null), (11, .null), (12, .null), (7, .int (nI j)), (6, .ref nt), (4, .int (nI (2 * cap))), (2, .int (nI cap)), (1, .ref ot), (0, .ref M)] []) : rn C (xSt F V0 ([(M, .inr (25, [.ref nt, va_rf es, .int (nI sz), .int mc, .int (nI th), .float 1061158912, .null, .null, va_rf hd, va_rf tl, .int 0, .int 0])), (ot, .inl (8, cap, .inr (.inr (.inr (.inr of))))), (nt, .inl (8, 2 * cap, .inr (.inr (.inr (.inr nf)))))] ++ stW L (ndX kd hs ky vl nx bf af pa lf rt pv rd))) k n 151 [(7, .int (nI j)), (6, .ref nt), (4, .int (nI (2 * cap))), (2, .int (nI cap)), (1, .ref ot), (0, .ref M)] [] := by
  have hle := hcap.le
  refine r_iload hC 0 dJ20_resize_151 rfl 153 rfl ?_
  refine r_iload_n hC 3 dJ20_resize_153 rfl 154 rfl ?_
  refine r_icge hC 353 dJ20_resize_154 (by decide) 157 rfl (fun h => absurd h (nI_ge (by omega) (by omega))) (fun _ => ?_)
  refine r_aload_n hC 4 dJ20_resize_157 rfl 158 rfl ?_
  refine r_iload hC 0 dJ20_resize_158 rfl 160 rfl ?_
  refine r_aald hC j (xix_n j (by omega) (by omega)) (t := 8) rfl rfl (fun _ h => h.get 1 rfl) (some f) (hof) dJ20_resize_160 161 rfl ?_
  show rn C (xSt F V0 ([(M, .inr (25, [.ref nt, va_rf es, .int (nI sz), .int mc, .int (nI th), .float 1061158912, .null, .null, va_rf hd, va_rf tl, .int 0, .int 0])), (ot, .inl (8, cap, .inr (.inr (.inr (.inr of))))), (nt, .inl (8, 2 * cap, .inr (.inr (.inr (.inr nf)))))] ++ stW L (ndX kd hs ky vl nx bf af pa lf rt pv rd))) k n 161 [(7, .int (nI j)), (6, .ref nt), (4, .int (nI (2 * cap))), (2, .int (nI cap)), (1, .ref ot), (0, .ref M)] [.ref f]
  refine r_dup hC dJ20_resize_161 rfl 162 rfl ?_
  refine r_astore hC 8 [(8, .ref f), (7, .int (nI j)), (6, .ref nt), (4, .int (nI (2 * cap))), (2, .int (nI cap)), (1, .ref ot), (0, .ref M)] dJ20_resize_162 (Nat.le_of_ble_eq_true rfl) rfl 164 rfl ?_
  refine r_ifnull hC dJ20_resize_164 167 rfl ?_
  refine r_aload_n hC 5 dJ20_resize_167 rfl 168 rfl ?_
  refine r_iload hC 1 dJ20_resize_168 rfl 170 rfl ?_
  refine r_null hC dJ20_resize_170 171 rfl ?_
  refine r_aastN (J := xSt F V0 ([(M, .inr (25, [.ref nt, va_rf es, .int (nI sz), .int mc, .int (nI th), .float 1061158912, .null, .null, va_rf hd, va_rf tl, .int 0, .int 0])), (ot, .inl (8, cap, .inr (.inr (.inr (.inr (va_up of j none)))))), (nt, .inl (8, 2 * cap, .inr (.inr (.inr (.inr nf)))))] ++ stW L (ndX kd hs ky vl nx bf af pa lf rt pv rd))) hC j (xix_n j (by omega) (by omega)) rfl (fun _ h => h.get 1 rfl) dJ20_resize_171 (fun _ h => h.set 1 _ rfl) 172 rfl ?_
  refine r_aload hC 0 dJ20_resize_172 rfl 174 rfl ?_
  refine r_getI (v := .ref g) hC kJ25 3 rfl q2250 (Or.inl rfl) (fun _ h => stW_get h hfL (ndX_p hfk)) (congrArg (fun o9 => some (va_rf o9)) (hnf)) dJ20_resize_174 177 rfl ?_
  refine r_ifnonnull hC 198 dJ20_resize_177 (by decide) ?_
  refine r_aload hC 0 dJ20_resize_198 rfl 200 rfl ?_
  refine r_instNo hC kJ25 q1960 (nt_25 hG) (fun _ h => ⟨_, stW_get h hfL (ndX_p hfk)⟩) dJ20_resize_200 203 rfl ?_
  refine r_ifeq hC 223 dJ20_resize_203 (by decide) 206 rfl (fun _ => ?_) (fun h => absurd h (by decide))
  refine r_null hC dJ20_resize_223 224 rfl ?_
  refine r_astoreN hC 9 [(9, .null), (8, .ref f), (7, .int (nI j)), (6, .ref nt), (4, .int (nI (2 * cap))), (2, .int (nI cap)), (1, .ref ot), (0, .ref M)] dJ20_resize_224 (Nat.le_of_ble_eq_true rfl) rfl 226 rfl ?_
  refine r_null hC dJ20_resize_226 227 rfl ?_
  refine r_astoreN hC 10 [(10, .null), (9, .null), (8, .ref f), (7, .int (nI j)), (6, .ref nt), (4, .int (nI (2 * cap))), (2, .int (nI cap)), (1, .ref ot), (0, .ref M)] dJ20_resize_227 (Nat.le_of_ble_eq_true rfl) rfl 229 rfl ?_
  refine r_null hC dJ20_resize_229 230 rfl ?_
  refine r_astoreN hC 11 [(11, .null), (10, .null), (9, .null), (8, .ref f), (7, .int (nI j)), (6, .ref nt), (4, .int (nI (2 * cap))), (2, .int (nI cap)), (1, .ref ot), (0, .ref M)] dJ20_resize_230 (Nat.le_of_ble_eq_true rfl) rfl 232 rfl ?_
  refine r_null hC dJ20_resize_232 233 rfl ?_
  refine r_astoreN hC 12 [(12, .null), (11, .null), (10, .null), (9, .null), (8, .ref f), (7, .int (nI j)), (6, .ref nt), (4, .int (nI (2 * cap))), (2, .int (nI cap)), (1, .ref ot), (0, .ref M)] dJ20_resize_233 (Nat.le_of_ble_eq_true rfl) rfl 235 rfl ?_
  refine rn.sub (lv' := [(8, .ref f), (9, .null), (10, .null), (11, .null), (12, .null), (7, .int (nI j)), (6, .ref nt), (4, .int (nI (2 * cap))), (2, .int (nI cap)), (1, .ref ot), (0, .ref M)]) [4, 3, 2, 1, 0, 5, 6, 7, 8, 9, 10] rfl ?_
  exact kx
theorem seg_some1 {nx : Nat → Option Nat} {x : Nat} {l : List Nat} (h : seg nx (some x) l none) : ∃ t, l = x :: t := by
  obtain ⟨t, ht⟩ := seg_some h
  exact ⟨t, ht⟩
set_option maxHeartbeats 4000000 in
set_option maxRecDepth 100000 in
theorem lpJ20_deal {C : xC} {F : Nat → Prop} {V0 : xV} (c9 s9 : Nat) (hG : xGood (xGG C)) (hC : xCtx C RJ20 cJ20_resize 14 (some (.array (.object "java/util/HashMap$Node"))) { frames := 6, locals := 150, cells := c9, slots := s9 }) (k n : Nat) (L : List Nat) (kd : Nat → Bool) (hs : Nat → Int32) (ky vl : Nat → Nat) (bf af pa lf rt pv : Nat → Option Nat) (rd : Nat → Int32) (M : Nat) (es : Option Nat) (sz th : Nat) (mc : Int32) (hd tl : Option Nat) (ot nt cap : Nat) (of nf : Nat → Option Nat) (hcap : capI cap) (hcap2 : capI (2 * cap)) (j : Nat) (nx0 : Nat → Option Nat) (Lb : List Nat) (hmL : ∀ a, a ∈ Lb → a ∈ L ∧ kd a = false) (kx : ∀ (Lo Hi : List Nat) (nx : Nat → Option Nat), dlI hs cap nx0 Lb Lb [] Lo Hi nx → rn C (xSt F V0 ([(M, .inr (25, [.ref nt, va_rf es, .int (nI sz), .int mc, .int (nI th), .float 1061158912, .null, .null, va_rf hd, va_rf tl, .int 0, .int 0])), (ot, .inl (8, cap, .inr (.inr (.inr (.inr of))))), (nt, .inl (8, 2 * cap, .inr (.inr (.inr (.inr nf)))))] ++ stW L (ndX kd hs ky vl nx bf af pa lf rt pv rd))) k n 309 [(9, (va_rf Lo.head?)), (10, (va_rf (lstO none Lo))), (11, (va_rf Hi.head?)), (12, (va_rf (lstO none Hi))), (7, .int (nI j)), (6, .ref nt), (4, .int (nI (2 * cap))), (2, .int (nI cap)), (1, .ref ot), (0, .ref M)] []) : ∀ (m : Nat) (rest done Lo Hi : List Nat) (nx : Nat → Option Nat) (e : Nat), rest.length = m → seg nx0 (some e) (e :: rest) none → dlI hs cap nx0 Lb done (e :: rest) Lo Hi nx → rn C (xSt F V0 ([(M, .inr (25, [.ref nt, va_rf es, .int (nI sz), .int mc, .int (nI th), .float 1061158912, .null, .null, va_rf hd, va_rf tl, .int 0, .int 0])), (ot, .inl (8, cap, .inr (.inr (.inr (.inr of))))), (nt, .inl (8, 2 * cap, .inr (.inr (.inr (.inr nf)))))] ++ stW L (ndX kd hs ky vl nx bf af pa lf rt pv rd))) k n 235 [(8, .ref e), (9, (va_rf Lo.head?)), (10, (va_rf (lstO none Lo))), (11, (va_rf Hi.head?)), (12, (va_rf (lstO none Hi))), (7, .int (nI j)), (6, .ref nt), (4, .int (nI (2 * cap))), (2, .int (nI cap)), (1, .ref ot), (0, .ref M)] [] := by
  have hle := hcap.le
  intro m
  induction m using Nat.strongRecOn with
  | ind m ihm =>
    intro rest done Lo Hi nx e hrm hseg hI
    have ih : ∀ (done Lo Hi : List Nat) (nx : Nat → Option Nat) (e9 : Nat) (t9 : List Nat), rest = e9 :: t9 → seg nx0 (some e9) rest none → dlI hs cap nx0 Lb done rest Lo Hi nx → rn C (xSt F V0 ([(M, .inr (25, [.ref nt, va_rf es, .int (nI sz), .int mc, .int (nI th), .float 1061158912, .null, .null, va_rf hd, va_rf tl, .int 0, .int 0])), (ot, .inl (8, cap, .inr (.inr (.inr (.inr of))))), (nt, .inl (8, 2 * cap, .inr (.inr (.inr (.inr nf)))))] ++ stW L (ndX kd hs ky vl nx bf af pa lf rt pv rd))) k n 235 [(8, .ref e9), (9, (va_rf Lo.head?)), (10, (va_rf (lstO none Lo))), (11, (va_rf Hi.head?)), (12, (va_rf (lstO none Hi))), (7, .int (nI j)), (6, .ref nt), (4, .int (nI (2 * cap))), (2, .int (nI cap)), (1, .ref ot), (0, .ref M)] [] := by
      intro done Lo Hi nx e9 t9 hr h1 h2
      subst hr
      exact ihm t9.length (by rw [← hrm]; exact Nat.lt_succ_self _) t9 done Lo Hi nx e9 rfl h1 h2
    have heLb : e ∈ Lb := by rw [hI.1]; exact List.mem_append_right _ List.mem_cons_self
    have hnd := hI.2.2.2.2.2.2
    rw [hI.1] at hnd
    have hed : e ∉ done := (nd_split hnd).1
    cases hlb : lob hs cap e with
    | true =>
      have hlz0 : (hs e &&& nI cap) = 0 := of_decide_eq_true hlb
      rcases opt_c (lstO none Lo) with hlz | ⟨z, hlz⟩
      · have Lo0 : Lo = [] := lst_none hlz
        rw [hlz, show Lo.head? = none by rw [Lo0]; rfl]
        refine r_aload hC 0 dJ20_resize_235 rfl 237 rfl ?_
        rcases opt_c (nx e) with hl1 | ⟨x2, hl1⟩
        · skip
          refine r_getI (v := .null) hC kJ25 3 rfl q2250 (Or.inl rfl) (fun _ h => stW_get h ((hmL e heLb).1) (ndX_p ((hmL e heLb).2))) (congrArg (fun o9 => some (va_rf o9)) (hl1)) dJ20_resize_237 240 rfl ?_
          refine r_astoreN hC 13 [(13, .null), (8, .ref e), (9, .null), (10, .null), (11, (va_rf Hi.head?)), (12, (va_rf (lstO none Hi))), (7, .int (nI j)), (6, .ref nt), (4, .int (nI (2 * cap))), (2, .int (nI cap)), (1, .ref ot), (0, .ref M)] dJ20_resize_240 (Nat.le_of_ble_eq_true rfl) (by cases (lstO none Hi) <;> rfl) 242 rfl ?_
          refine r_aload hC 1 dJ20_resize_242 rfl 244 rfl ?_
          refine r_getI (v := .int (hs e)) hC kJ25 0 rfl q2234 (Or.inl rfl) (fun _ h => stW_get h ((hmL e heLb).1) (ndX_p ((hmL e heLb).2))) rfl dJ20_resize_244 247 rfl ?_
          refine r_iload_n hC 9 dJ20_resize_247 rfl 248 rfl ?_
          refine r_iand hC ((hs e) &&& (nI cap)) dJ20_resize_248  (rfl) 249 rfl ?_
          refine r_ifne hC 278 dJ20_resize_249 (by decide) 252 rfl (fun h => absurd (hlz0) h) (fun _ => ?_)
          refine r_aloadN hC 3 dJ20_resize_252 rfl 254 rfl ?_
          refine r_ifnonnullN hC dJ20_resize_254 257 rfl ?_
          refine r_aload hC 1 dJ20_resize_257 rfl 259 rfl ?_
          refine r_astore hC 9 [(9, .ref e), (13, .null), (8, .ref e), (10, .null), (11, (va_rf Hi.head?)), (12, (va_rf (lstO none Hi))), (7, .int (nI j)), (6, .ref nt), (4, .int (nI (2 * cap))), (2, .int (nI cap)), (1, .ref ot), (0, .ref M)] dJ20_resize_259 (Nat.le_of_ble_eq_true rfl) rfl 261 rfl ?_
          refine r_goto hC 271 dJ20_resize_261 (by decide) ?_
          refine r_aload hC 2 dJ20_resize_271 rfl 273 rfl ?_
          refine r_astore hC 10 [(10, .ref e), (9, .ref e), (13, .null), (8, .ref e), (11, (va_rf Hi.head?)), (12, (va_rf (lstO none Hi))), (7, .int (nI j)), (6, .ref nt), (4, .int (nI (2 * cap))), (2, .int (nI cap)), (1, .ref ot), (0, .ref M)] dJ20_resize_273 (Nat.le_of_ble_eq_true rfl) rfl 275 rfl ?_
          refine r_goto hC 301 dJ20_resize_275 (by decide) ?_
          refine r_aloadN hC 2 dJ20_resize_301 rfl 303 rfl ?_
          refine r_dup hC dJ20_resize_303 rfl 304 rfl ?_
          refine r_astoreN hC 8 [(8, .null), (10, .ref e), (9, .ref e), (13, .null), (11, (va_rf Hi.head?)), (12, (va_rf (lstO none Hi))), (7, .int (nI j)), (6, .ref nt), (4, .int (nI (2 * cap))), (2, .int (nI cap)), (1, .ref ot), (0, .ref M)] dJ20_resize_304 (Nat.le_of_ble_eq_true rfl) rfl 306 rfl ?_
          refine r_ifnonnullN hC dJ20_resize_306 309 rfl ?_
          refine rn.sub (lv' := [(9, .ref e), (10, .ref e), (11, (va_rf Hi.head?)), (12, (va_rf (lstO none Hi))), (7, .int (nI j)), (6, .ref nt), (4, .int (nI (2 * cap))), (2, .int (nI cap)), (1, .ref ot), (0, .ref M)]) [2, 1, 4, 5, 6, 7, 8, 9, 10, 11] rfl ?_
          have hI' := hI.lo hlb (nx' := nx) (fun z9 e9 => by rw [hlz] at e9; cases e9) (fun a n9 => rfl)
          have hsg : seg nx0 none rest none := by have h8 := hseg.2; rw [← hI.2.2.2.2.2.1 e hed, hl1] at h8; exact h8
          obtain rfl := seg_none hsg
          have hLb := hI'.1
          rw [List.append_nil] at hLb
          rw [← hLb] at hI'
          have key := kx (Lo ++ [e]) Hi nx hI'
          rw [show lstO none (Lo ++ [e]) = some e from lstO_snoc, show (Lo ++ [e]).head? = some e by rw [Lo0]; rfl] at key
          exact key
        · skip
          refine r_getI (v := .ref x2) hC kJ25 3 rfl q2250 (Or.inl rfl) (fun _ h => stW_get h ((hmL e heLb).1) (ndX_p ((hmL e heLb).2))) (congrArg (fun o9 => some (va_rf o9)) (hl1)) dJ20_resize_237 240 rfl ?_
          refine r_astore hC 13 [(13, .ref x2), (8, .ref e), (9, .null), (10, .null), (11, (va_rf Hi.head?)), (12, (va_rf (lstO none Hi))), (7, .int (nI j)), (6, .ref nt), (4, .int (nI (2 * cap))), (2, .int (nI cap)), (1, .ref ot), (0, .ref M)] dJ20_resize_240 (Nat.le_of_ble_eq_true rfl) (by cases (lstO none Hi) <;> rfl) 242 rfl ?_
          refine r_aload hC 1 dJ20_resize_242 rfl 244 rfl ?_
          refine r_getI (v := .int (hs e)) hC kJ25 0 rfl q2234 (Or.inl rfl) (fun _ h => stW_get h ((hmL e heLb).1) (ndX_p ((hmL e heLb).2))) rfl dJ20_resize_244 247 rfl ?_
          refine r_iload_n hC 9 dJ20_resize_247 rfl 248 rfl ?_
          refine r_iand hC ((hs e) &&& (nI cap)) dJ20_resize_248  (rfl) 249 rfl ?_
          refine r_ifne hC 278 dJ20_resize_249 (by decide) 252 rfl (fun h => absurd (hlz0) h) (fun _ => ?_)
          refine r_aloadN hC 3 dJ20_resize_252 rfl 254 rfl ?_
          refine r_ifnonnullN hC dJ20_resize_254 257 rfl ?_
          refine r_aload hC 1 dJ20_resize_257 rfl 259 rfl ?_
          refine r_astore hC 9 [(9, .ref e), (13, .ref x2), (8, .ref e), (10, .null), (11, (va_rf Hi.head?)), (12, (va_rf (lstO none Hi))), (7, .int (nI j)), (6, .ref nt), (4, .int (nI (2 * cap))), (2, .int (nI cap)), (1, .ref ot), (0, .ref M)] dJ20_resize_259 (Nat.le_of_ble_eq_true rfl) rfl 261 rfl ?_
          refine r_goto hC 271 dJ20_resize_261 (by decide) ?_
          refine r_aload hC 2 dJ20_resize_271 rfl 273 rfl ?_
          refine r_astore hC 10 [(10, .ref e), (9, .ref e), (13, .ref x2), (8, .ref e), (11, (va_rf Hi.head?)), (12, (va_rf (lstO none Hi))), (7, .int (nI j)), (6, .ref nt), (4, .int (nI (2 * cap))), (2, .int (nI cap)), (1, .ref ot), (0, .ref M)] dJ20_resize_273 (Nat.le_of_ble_eq_true rfl) rfl 275 rfl ?_
          refine r_goto hC 301 dJ20_resize_275 (by decide) ?_
          refine r_aload hC 2 dJ20_resize_301 rfl 303 rfl ?_
          refine r_dup hC dJ20_resize_303 rfl 304 rfl ?_
          refine r_astore hC 8 [(8, .ref x2), (10, .ref e), (9, .ref e), (13, .ref x2), (11, (va_rf Hi.head?)), (12, (va_rf (lstO none Hi))), (7, .int (nI j)), (6, .ref nt), (4, .int (nI (2 * cap))), (2, .int (nI cap)), (1, .ref ot), (0, .ref M)] dJ20_resize_304 (Nat.le_of_ble_eq_true rfl) rfl 306 rfl ?_
          refine r_ifnonnull hC 235 dJ20_resize_306 (by decide) ?_
          refine rn.sub (lv' := [(8, .ref x2), (9, .ref e), (10, .ref e), (11, (va_rf Hi.head?)), (12, (va_rf (lstO none Hi))), (7, .int (nI j)), (6, .ref nt), (4, .int (nI (2 * cap))), (2, .int (nI cap)), (1, .ref ot), (0, .ref M)]) [0, 2, 1, 4, 5, 6, 7, 8, 9, 10, 11] rfl ?_
          have hI' := hI.lo hlb (nx' := nx) (fun z9 e9 => by rw [hlz] at e9; cases e9) (fun a n9 => rfl)
          have hsg : seg nx0 (some x2) rest none := by have h8 := hseg.2; rw [← hI.2.2.2.2.2.1 e hed, hl1] at h8; exact h8
          obtain ⟨t9, rfl⟩ := seg_some hsg
          have key := ih (done ++ [e]) (Lo ++ [e]) Hi nx x2 t9 rfl hsg hI'
          rw [show lstO none (Lo ++ [e]) = some e from lstO_snoc, show (Lo ++ [e]).head? = some e by rw [Lo0]; rfl] at key
          exact key
      · have hzX : z ∈ Lo := by obtain ⟨l0, hz⟩ := lstO_some hlz; rw [hz]; exact List.mem_append_right _ List.mem_cons_self
        have hzd : z ∈ done := by rw [hI.2.1] at hzX; exact fl_mem hzX
        have hzLb : z ∈ Lb := by rw [hI.1]; exact List.mem_append_left _ hzd
        have nez : e ≠ z := fun q => hed (by rw [q]; exact hzd)
        obtain ⟨hX, hhX⟩ : ∃ hX, Lo.head? = some hX := by
          cases hN9 : Lo with
          | nil => rw [hN9] at hlz; cases hlz
          | cons c t => exact ⟨c, rfl⟩
        rw [hlz, hhX]
        refine r_aload hC 0 dJ20_resize_235 rfl 237 rfl ?_
        rcases opt_c (nx e) with hl1 | ⟨x2, hl1⟩
        · skip
          refine r_getI (v := .null) hC kJ25 3 rfl q2250 (Or.inl rfl) (fun _ h => stW_get h ((hmL e heLb).1) (ndX_p ((hmL e heLb).2))) (congrArg (fun o9 => some (va_rf o9)) (hl1)) dJ20_resize_237 240 rfl ?_
          refine r_astoreN hC 13 [(13, .null), (8, .ref e), (9, .ref hX), (10, .ref z), (11, (va_rf Hi.head?)), (12, (va_rf (lstO none Hi))), (7, .int (nI j)), (6, .ref nt), (4, .int (nI (2 * cap))), (2, .int (nI cap)), (1, .ref ot), (0, .ref M)] dJ20_resize_240 (Nat.le_of_ble_eq_true rfl) (by cases (lstO none Hi) <;> rfl) 242 rfl ?_
          refine r_aload hC 1 dJ20_resize_242 rfl 244 rfl ?_
          refine r_getI (v := .int (hs e)) hC kJ25 0 rfl q2234 (Or.inl rfl) (fun _ h => stW_get h ((hmL e heLb).1) (ndX_p ((hmL e heLb).2))) rfl dJ20_resize_244 247 rfl ?_
          refine r_iload_n hC 9 dJ20_resize_247 rfl 248 rfl ?_
          refine r_iand hC ((hs e) &&& (nI cap)) dJ20_resize_248  (rfl) 249 rfl ?_
          refine r_ifne hC 278 dJ20_resize_249 (by decide) 252 rfl (fun h => absurd (hlz0) h) (fun _ => ?_)
          refine r_aload hC 3 dJ20_resize_252 rfl 254 rfl ?_
          refine r_ifnonnull hC 264 dJ20_resize_254 (by decide) ?_
          refine r_aload hC 3 dJ20_resize_264 rfl 266 rfl ?_
          refine r_aload hC 1 dJ20_resize_266 rfl 268 rfl ?_
          refine r_putI (J := xSt F V0 ([(M, .inr (25, [.ref nt, va_rf es, .int (nI sz), .int mc, .int (nI th), .float 1061158912, .null, .null, va_rf hd, va_rf tl, .int 0, .int 0])), (ot, .inl (8, cap, .inr (.inr (.inr (.inr of))))), (nt, .inl (8, 2 * cap, .inr (.inr (.inr (.inr nf)))))] ++ stW L (ndX kd hs ky vl (va_up nx z (some e)) bf af pa lf rt pv rd))) hC kJ25 3 rfl q2250 (Or.inl rfl) rfl (fun _ h => stW_get h ((hmL z hzLb).1) (ndX_p ((hmL z hzLb).2))) (Nat.le_of_ble_eq_true rfl) rfl rfl dJ20_resize_268 (fun _ h => stW_set h ((hmL z hzLb).1) (ndP_nx ((hmL z hzLb).2))) 271 rfl ?_
          refine r_aload hC 1 dJ20_resize_271 rfl 273 rfl ?_
          refine r_astore hC 10 [(10, .ref e), (13, .null), (8, .ref e), (9, .ref hX), (11, (va_rf Hi.head?)), (12, (va_rf (lstO none Hi))), (7, .int (nI j)), (6, .ref nt), (4, .int (nI (2 * cap))), (2, .int (nI cap)), (1, .ref ot), (0, .ref M)] dJ20_resize_273 (Nat.le_of_ble_eq_true rfl) rfl 275 rfl ?_
          refine r_goto hC 301 dJ20_resize_275 (by decide) ?_
          refine r_aloadN hC 1 dJ20_resize_301 rfl 303 rfl ?_
          refine r_dup hC dJ20_resize_303 rfl 304 rfl ?_
          refine r_astoreN hC 8 [(8, .null), (10, .ref e), (13, .null), (9, .ref hX), (11, (va_rf Hi.head?)), (12, (va_rf (lstO none Hi))), (7, .int (nI j)), (6, .ref nt), (4, .int (nI (2 * cap))), (2, .int (nI cap)), (1, .ref ot), (0, .ref M)] dJ20_resize_304 (Nat.le_of_ble_eq_true rfl) rfl 306 rfl ?_
          refine r_ifnonnullN hC dJ20_resize_306 309 rfl ?_
          refine rn.sub (lv' := [(9, .ref hX), (10, .ref e), (11, (va_rf Hi.head?)), (12, (va_rf (lstO none Hi))), (7, .int (nI j)), (6, .ref nt), (4, .int (nI (2 * cap))), (2, .int (nI cap)), (1, .ref ot), (0, .ref M)]) [3, 1, 4, 5, 6, 7, 8, 9, 10, 11] rfl ?_
          have hI' := hI.lo hlb (nx' := va_up nx z (some e)) (fun z9 e9 => by obtain rfl : z = z9 := Option.some.inj (hlz.symm.trans e9); exact up_same _ _ _) (fun a n9 => up_ne (fun e9 => n9 (by rw [e9]; exact hlz)))
          have hsg : seg nx0 none rest none := by have h8 := hseg.2; rw [← hI.2.2.2.2.2.1 e hed, hl1] at h8; exact h8
          obtain rfl := seg_none hsg
          have hLb := hI'.1
          rw [List.append_nil] at hLb
          rw [← hLb] at hI'
          have key := kx (Lo ++ [e]) Hi (va_up nx z (some e)) hI'
          rw [show lstO none (Lo ++ [e]) = some e from lstO_snoc, show (Lo ++ [e]).head? = some hX by rw [head_app, hhX]; rfl] at key
          exact key
        · skip
          refine r_getI (v := .ref x2) hC kJ25 3 rfl q2250 (Or.inl rfl) (fun _ h => stW_get h ((hmL e heLb).1) (ndX_p ((hmL e heLb).2))) (congrArg (fun o9 => some (va_rf o9)) (hl1)) dJ20_resize_237 240 rfl ?_
          refine r_astore hC 13 [(13, .ref x2), (8, .ref e), (9, .ref hX), (10, .ref z), (11, (va_rf Hi.head?)), (12, (va_rf (lstO none Hi))), (7, .int (nI j)), (6, .ref nt), (4, .int (nI (2 * cap))), (2, .int (nI cap)), (1, .ref ot), (0, .ref M)] dJ20_resize_240 (Nat.le_of_ble_eq_true rfl) (by cases (lstO none Hi) <;> rfl) 242 rfl ?_
          refine r_aload hC 1 dJ20_resize_242 rfl 244 rfl ?_
          refine r_getI (v := .int (hs e)) hC kJ25 0 rfl q2234 (Or.inl rfl) (fun _ h => stW_get h ((hmL e heLb).1) (ndX_p ((hmL e heLb).2))) rfl dJ20_resize_244 247 rfl ?_
          refine r_iload_n hC 9 dJ20_resize_247 rfl 248 rfl ?_
          refine r_iand hC ((hs e) &&& (nI cap)) dJ20_resize_248  (rfl) 249 rfl ?_
          refine r_ifne hC 278 dJ20_resize_249 (by decide) 252 rfl (fun h => absurd (hlz0) h) (fun _ => ?_)
          refine r_aload hC 3 dJ20_resize_252 rfl 254 rfl ?_
          refine r_ifnonnull hC 264 dJ20_resize_254 (by decide) ?_
          refine r_aload hC 3 dJ20_resize_264 rfl 266 rfl ?_
          refine r_aload hC 1 dJ20_resize_266 rfl 268 rfl ?_
          refine r_putI (J := xSt F V0 ([(M, .inr (25, [.ref nt, va_rf es, .int (nI sz), .int mc, .int (nI th), .float 1061158912, .null, .null, va_rf hd, va_rf tl, .int 0, .int 0])), (ot, .inl (8, cap, .inr (.inr (.inr (.inr of))))), (nt, .inl (8, 2 * cap, .inr (.inr (.inr (.inr nf)))))] ++ stW L (ndX kd hs ky vl (va_up nx z (some e)) bf af pa lf rt pv rd))) hC kJ25 3 rfl q2250 (Or.inl rfl) rfl (fun _ h => stW_get h ((hmL z hzLb).1) (ndX_p ((hmL z hzLb).2))) (Nat.le_of_ble_eq_true rfl) rfl rfl dJ20_resize_268 (fun _ h => stW_set h ((hmL z hzLb).1) (ndP_nx ((hmL z hzLb).2))) 271 rfl ?_
          refine r_aload hC 1 dJ20_resize_271 rfl 273 rfl ?_
          refine r_astore hC 10 [(10, .ref e), (13, .ref x2), (8, .ref e), (9, .ref hX), (11, (va_rf Hi.head?)), (12, (va_rf (lstO none Hi))), (7, .int (nI j)), (6, .ref nt), (4, .int (nI (2 * cap))), (2, .int (nI cap)), (1, .ref ot), (0, .ref M)] dJ20_resize_273 (Nat.le_of_ble_eq_true rfl) rfl 275 rfl ?_
          refine r_goto hC 301 dJ20_resize_275 (by decide) ?_
          refine r_aload hC 1 dJ20_resize_301 rfl 303 rfl ?_
          refine r_dup hC dJ20_resize_303 rfl 304 rfl ?_
          refine r_astore hC 8 [(8, .ref x2), (10, .ref e), (13, .ref x2), (9, .ref hX), (11, (va_rf Hi.head?)), (12, (va_rf (lstO none Hi))), (7, .int (nI j)), (6, .ref nt), (4, .int (nI (2 * cap))), (2, .int (nI cap)), (1, .ref ot), (0, .ref M)] dJ20_resize_304 (Nat.le_of_ble_eq_true rfl) rfl 306 rfl ?_
          refine r_ifnonnull hC 235 dJ20_resize_306 (by decide) ?_
          refine rn.sub (lv' := [(8, .ref x2), (9, .ref hX), (10, .ref e), (11, (va_rf Hi.head?)), (12, (va_rf (lstO none Hi))), (7, .int (nI j)), (6, .ref nt), (4, .int (nI (2 * cap))), (2, .int (nI cap)), (1, .ref ot), (0, .ref M)]) [0, 3, 1, 4, 5, 6, 7, 8, 9, 10, 11] rfl ?_
          have hI' := hI.lo hlb (nx' := va_up nx z (some e)) (fun z9 e9 => by obtain rfl : z = z9 := Option.some.inj (hlz.symm.trans e9); exact up_same _ _ _) (fun a n9 => up_ne (fun e9 => n9 (by rw [e9]; exact hlz)))
          have hsg : seg nx0 (some x2) rest none := by have h8 := hseg.2; rw [← hI.2.2.2.2.2.1 e hed, hl1] at h8; exact h8
          obtain ⟨t9, rfl⟩ := seg_some hsg
          have key := ih (done ++ [e]) (Lo ++ [e]) Hi (va_up nx z (some e)) x2 t9 rfl hsg hI'
          rw [show lstO none (Lo ++ [e]) = some e from lstO_snoc, show (Lo ++ [e]).head? = some hX by rw [head_app, hhX]; rfl] at key
          exact key
    | false =>
      have hlz0 : ¬ (hs e &&& nI cap) = 0 := of_decide_eq_false hlb
      rcases opt_c (lstO none Hi) with hlz | ⟨z, hlz⟩
      · have Hi0 : Hi = [] := lst_none hlz
        rw [hlz, show Hi.head? = none by rw [Hi0]; rfl]
        refine r_aload hC 0 dJ20_resize_235 rfl 237 rfl ?_
        rcases opt_c (nx e) with hl1 | ⟨x2, hl1⟩
        · skip
          refine r_getI (v := .null) hC kJ25 3 rfl q2250 (Or.inl rfl) (fun _ h => stW_get h ((hmL e heLb).1) (ndX_p ((hmL e heLb).2))) (congrArg (fun o9 => some (va_rf o9)) (hl1)) dJ20_resize_237 240 rfl ?_
          refine r_astoreN hC 13 [(13, .null), (8, .ref e), (9, (va_rf Lo.head?)), (10, (va_rf (lstO none Lo))), (11, .null), (12, .null), (7, .int (nI j)), (6, .ref nt), (4, .int (nI (2 * cap))), (2, .int (nI cap)), (1, .ref ot), (0, .ref M)] dJ20_resize_240 (Nat.le_of_ble_eq_true rfl) rfl 242 rfl ?_
          refine r_aload hC 1 dJ20_resize_242 rfl 244 rfl ?_
          refine r_getI (v := .int (hs e)) hC kJ25 0 rfl q2234 (Or.inl rfl) (fun _ h => stW_get h ((hmL e heLb).1) (ndX_p ((hmL e heLb).2))) rfl dJ20_resize_244 247 rfl ?_
          refine r_iload_n hC 9 dJ20_resize_247 rfl 248 rfl ?_
          refine r_iand hC ((hs e) &&& (nI cap)) dJ20_resize_248  (rfl) 249 rfl ?_
          refine r_ifne hC 278 dJ20_resize_249 (by decide) 252 rfl (fun _ => ?_) (fun h => absurd h (hlz0))
          refine r_aloadN hC 5 dJ20_resize_278 rfl 280 rfl ?_
          refine r_ifnonnullN hC dJ20_resize_280 283 rfl ?_
          refine r_aload hC 1 dJ20_resize_283 rfl 285 rfl ?_
          refine r_astore hC 11 [(11, .ref e), (13, .null), (8, .ref e), (9, (va_rf Lo.head?)), (10, (va_rf (lstO none Lo))), (12, .null), (7, .int (nI j)), (6, .ref nt), (4, .int (nI (2 * cap))), (2, .int (nI cap)), (1, .ref ot), (0, .ref M)] dJ20_resize_285 (Nat.le_of_ble_eq_true rfl) (by cases (lstO none Lo) <;> rfl) 287 rfl ?_
          refine r_goto hC 297 dJ20_resize_287 (by decide) ?_
          refine r_aload hC 2 dJ20_resize_297 rfl 299 rfl ?_
          refine r_astore hC 12 [(12, .ref e), (11, .ref e), (13, .null), (8, .ref e), (9, (va_rf Lo.head?)), (10, (va_rf (lstO none Lo))), (7, .int (nI j)), (6, .ref nt), (4, .int (nI (2 * cap))), (2, .int (nI cap)), (1, .ref ot), (0, .ref M)] dJ20_resize_299 (Nat.le_of_ble_eq_true rfl) rfl 301 rfl ?_
          refine r_aloadN hC 2 dJ20_resize_301 rfl 303 rfl ?_
          refine r_dup hC dJ20_resize_303 rfl 304 rfl ?_
          refine r_astoreN hC 8 [(8, .null), (12, .ref e), (11, .ref e), (13, .null), (9, (va_rf Lo.head?)), (10, (va_rf (lstO none Lo))), (7, .int (nI j)), (6, .ref nt), (4, .int (nI (2 * cap))), (2, .int (nI cap)), (1, .ref ot), (0, .ref M)] dJ20_resize_304 (Nat.le_of_ble_eq_true rfl) rfl 306 rfl ?_
          refine r_ifnonnullN hC dJ20_resize_306 309 rfl ?_
          refine rn.sub (lv' := [(9, (va_rf Lo.head?)), (10, (va_rf (lstO none Lo))), (11, .ref e), (12, .ref e), (7, .int (nI j)), (6, .ref nt), (4, .int (nI (2 * cap))), (2, .int (nI cap)), (1, .ref ot), (0, .ref M)]) [4, 5, 2, 1, 6, 7, 8, 9, 10, 11] rfl ?_
          have hI' := hI.hi hlb (nx' := nx) (fun z9 e9 => by rw [hlz] at e9; cases e9) (fun a n9 => rfl)
          have hsg : seg nx0 none rest none := by have h8 := hseg.2; rw [← hI.2.2.2.2.2.1 e hed, hl1] at h8; exact h8
          obtain rfl := seg_none hsg
          have hLb := hI'.1
          rw [List.append_nil] at hLb
          rw [← hLb] at hI'
          have key := kx Lo (Hi ++ [e]) nx hI'
          rw [show lstO none (Hi ++ [e]) = some e from lstO_snoc, show (Hi ++ [e]).head? = some e by rw [Hi0]; rfl] at key
          exact key
        · skip
          refine r_getI (v := .ref x2) hC kJ25 3 rfl q2250 (Or.inl rfl) (fun _ h => stW_get h ((hmL e heLb).1) (ndX_p ((hmL e heLb).2))) (congrArg (fun o9 => some (va_rf o9)) (hl1)) dJ20_resize_237 240 rfl ?_
          refine r_astore hC 13 [(13, .ref x2), (8, .ref e), (9, (va_rf Lo.head?)), (10, (va_rf (lstO none Lo))), (11, .null), (12, .null), (7, .int (nI j)), (6, .ref nt), (4, .int (nI (2 * cap))), (2, .int (nI cap)), (1, .ref ot), (0, .ref M)] dJ20_resize_240 (Nat.le_of_ble_eq_true rfl) rfl 242 rfl ?_
          refine r_aload hC 1 dJ20_resize_242 rfl 244 rfl ?_
          refine r_getI (v := .int (hs e)) hC kJ25 0 rfl q2234 (Or.inl rfl) (fun _ h => stW_get h ((hmL e heLb).1) (ndX_p ((hmL e heLb).2))) rfl dJ20_resize_244 247 rfl ?_
          refine r_iload_n hC 9 dJ20_resize_247 rfl 248 rfl ?_
          refine r_iand hC ((hs e) &&& (nI cap)) dJ20_resize_248  (rfl) 249 rfl ?_
          refine r_ifne hC 278 dJ20_resize_249 (by decide) 252 rfl (fun _ => ?_) (fun h => absurd h (hlz0))
          refine r_aloadN hC 5 dJ20_resize_278 rfl 280 rfl ?_
          refine r_ifnonnullN hC dJ20_resize_280 283 rfl ?_
          refine r_aload hC 1 dJ20_resize_283 rfl 285 rfl ?_
          refine r_astore hC 11 [(11, .ref e), (13, .ref x2), (8, .ref e), (9, (va_rf Lo.head?)), (10, (va_rf (lstO none Lo))), (12, .null), (7, .int (nI j)), (6, .ref nt), (4, .int (nI (2 * cap))), (2, .int (nI cap)), (1, .ref ot), (0, .ref M)] dJ20_resize_285 (Nat.le_of_ble_eq_true rfl) (by cases (lstO none Lo) <;> rfl) 287 rfl ?_
          refine r_goto hC 297 dJ20_resize_287 (by decide) ?_
          refine r_aload hC 2 dJ20_resize_297 rfl 299 rfl ?_
          refine r_astore hC 12 [(12, .ref e), (11, .ref e), (13, .ref x2), (8, .ref e), (9, (va_rf Lo.head?)), (10, (va_rf (lstO none Lo))), (7, .int (nI j)), (6, .ref nt), (4, .int (nI (2 * cap))), (2, .int (nI cap)), (1, .ref ot), (0, .ref M)] dJ20_resize_299 (Nat.le_of_ble_eq_true rfl) rfl 301 rfl ?_
          refine r_aload hC 2 dJ20_resize_301 rfl 303 rfl ?_
          refine r_dup hC dJ20_resize_303 rfl 304 rfl ?_
          refine r_astore hC 8 [(8, .ref x2), (12, .ref e), (11, .ref e), (13, .ref x2), (9, (va_rf Lo.head?)), (10, (va_rf (lstO none Lo))), (7, .int (nI j)), (6, .ref nt), (4, .int (nI (2 * cap))), (2, .int (nI cap)), (1, .ref ot), (0, .ref M)] dJ20_resize_304 (Nat.le_of_ble_eq_true rfl) rfl 306 rfl ?_
          refine r_ifnonnull hC 235 dJ20_resize_306 (by decide) ?_
          refine rn.sub (lv' := [(8, .ref x2), (9, (va_rf Lo.head?)), (10, (va_rf (lstO none Lo))), (11, .ref e), (12, .ref e), (7, .int (nI j)), (6, .ref nt), (4, .int (nI (2 * cap))), (2, .int (nI cap)), (1, .ref ot), (0, .ref M)]) [0, 4, 5, 2, 1, 6, 7, 8, 9, 10, 11] rfl ?_
          have hI' := hI.hi hlb (nx' := nx) (fun z9 e9 => by rw [hlz] at e9; cases e9) (fun a n9 => rfl)
          have hsg : seg nx0 (some x2) rest none := by have h8 := hseg.2; rw [← hI.2.2.2.2.2.1 e hed, hl1] at h8; exact h8
          obtain ⟨t9, rfl⟩ := seg_some hsg
          have key := ih (done ++ [e]) Lo (Hi ++ [e]) nx x2 t9 rfl hsg hI'
          rw [show lstO none (Hi ++ [e]) = some e from lstO_snoc, show (Hi ++ [e]).head? = some e by rw [Hi0]; rfl] at key
          exact key
      · have hzX : z ∈ Hi := by obtain ⟨l0, hz⟩ := lstO_some hlz; rw [hz]; exact List.mem_append_right _ List.mem_cons_self
        have hzd : z ∈ done := by rw [hI.2.2.1] at hzX; exact fl_mem hzX
        have hzLb : z ∈ Lb := by rw [hI.1]; exact List.mem_append_left _ hzd
        have nez : e ≠ z := fun q => hed (by rw [q]; exact hzd)
        obtain ⟨hX, hhX⟩ : ∃ hX, Hi.head? = some hX := by
          cases hN9 : Hi with
          | nil => rw [hN9] at hlz; cases hlz
          | cons c t => exact ⟨c, rfl⟩
        rw [hlz, hhX]
        refine r_aload hC 0 dJ20_resize_235 rfl 237 rfl ?_
        rcases opt_c (nx e) with hl1 | ⟨x2, hl1⟩
        · skip
          refine r_getI (v := .null) hC kJ25 3 rfl q2250 (Or.inl rfl) (fun _ h => stW_get h ((hmL e heLb).1) (ndX_p ((hmL e heLb).2))) (congrArg (fun o9 => some (va_rf o9)) (hl1)) dJ20_resize_237 240 rfl ?_
          refine r_astoreN hC 13 [(13, .null), (8, .ref e), (9, (va_rf Lo.head?)), (10, (va_rf (lstO none Lo))), (11, .ref hX), (12, .ref z), (7, .int (nI j)), (6, .ref nt), (4, .int (nI (2 * cap))), (2, .int (nI cap)), (1, .ref ot), (0, .ref M)] dJ20_resize_240 (Nat.le_of_ble_eq_true rfl) rfl 242 rfl ?_
          refine r_aload hC 1 dJ20_resize_242 rfl 244 rfl ?_
          refine r_getI (v := .int (hs e)) hC kJ25 0 rfl q2234 (Or.inl rfl) (fun _ h => stW_get h ((hmL e heLb).1) (ndX_p ((hmL e heLb).2))) rfl dJ20_resize_244 247 rfl ?_
          refine r_iload_n hC 9 dJ20_resize_247 rfl 248 rfl ?_
          refine r_iand hC ((hs e) &&& (nI cap)) dJ20_resize_248  (rfl) 249 rfl ?_
          refine r_ifne hC 278 dJ20_resize_249 (by decide) 252 rfl (fun _ => ?_) (fun h => absurd h (hlz0))
          refine r_aload hC 5 dJ20_resize_278 rfl 280 rfl ?_
          refine r_ifnonnull hC 290 dJ20_resize_280 (by decide) ?_
          refine r_aload hC 5 dJ20_resize_290 rfl 292 rfl ?_
          refine r_aload hC 1 dJ20_resize_292 rfl 294 rfl ?_
          refine r_putI (J := xSt F V0 ([(M, .inr (25, [.ref nt, va_rf es, .int (nI sz), .int mc, .int (nI th), .float 1061158912, .null, .null, va_rf hd, va_rf tl, .int 0, .int 0])), (ot, .inl (8, cap, .inr (.inr (.inr (.inr of))))), (nt, .inl (8, 2 * cap, .inr (.inr (.inr (.inr nf)))))] ++ stW L (ndX kd hs ky vl (va_up nx z (some e)) bf af pa lf rt pv rd))) hC kJ25 3 rfl q2250 (Or.inl rfl) rfl (fun _ h => stW_get h ((hmL z hzLb).1) (ndX_p ((hmL z hzLb).2))) (Nat.le_of_ble_eq_true rfl) rfl rfl dJ20_resize_294 (fun _ h => stW_set h ((hmL z hzLb).1) (ndP_nx ((hmL z hzLb).2))) 297 rfl ?_
          refine r_aload hC 1 dJ20_resize_297 rfl 299 rfl ?_
          refine r_astore hC 12 [(12, .ref e), (13, .null), (8, .ref e), (9, (va_rf Lo.head?)), (10, (va_rf (lstO none Lo))), (11, .ref hX), (7, .int (nI j)), (6, .ref nt), (4, .int (nI (2 * cap))), (2, .int (nI cap)), (1, .ref ot), (0, .ref M)] dJ20_resize_299 (Nat.le_of_ble_eq_true rfl) rfl 301 rfl ?_
          refine r_aloadN hC 1 dJ20_resize_301 rfl 303 rfl ?_
          refine r_dup hC dJ20_resize_303 rfl 304 rfl ?_
          refine r_astoreN hC 8 [(8, .null), (12, .ref e), (13, .null), (9, (va_rf Lo.head?)), (10, (va_rf (lstO none Lo))), (11, .ref hX), (7, .int (nI j)), (6, .ref nt), (4, .int (nI (2 * cap))), (2, .int (nI cap)), (1, .ref ot), (0, .ref M)] dJ20_resize_304 (Nat.le_of_ble_eq_true rfl) rfl 306 rfl ?_
          refine r_ifnonnullN hC dJ20_resize_306 309 rfl ?_
          refine rn.sub (lv' := [(9, (va_rf Lo.head?)), (10, (va_rf (lstO none Lo))), (11, .ref hX), (12, .ref e), (7, .int (nI j)), (6, .ref nt), (4, .int (nI (2 * cap))), (2, .int (nI cap)), (1, .ref ot), (0, .ref M)]) [3, 4, 5, 1, 6, 7, 8, 9, 10, 11] rfl ?_
          have hI' := hI.hi hlb (nx' := va_up nx z (some e)) (fun z9 e9 => by obtain rfl : z = z9 := Option.some.inj (hlz.symm.trans e9); exact up_same _ _ _) (fun a n9 => up_ne (fun e9 => n9 (by rw [e9]; exact hlz)))
          have hsg : seg nx0 none rest none := by have h8 := hseg.2; rw [← hI.2.2.2.2.2.1 e hed, hl1] at h8; exact h8
          obtain rfl := seg_none hsg
          have hLb := hI'.1
          rw [List.append_nil] at hLb
          rw [← hLb] at hI'
          have key := kx Lo (Hi ++ [e]) (va_up nx z (some e)) hI'
          rw [show lstO none (Hi ++ [e]) = some e from lstO_snoc, show (Hi ++ [e]).head? = some hX by rw [head_app, hhX]; rfl] at key
          exact key
        · skip
          refine r_getI (v := .ref x2) hC kJ25 3 rfl q2250 (Or.inl rfl) (fun _ h => stW_get h ((hmL e heLb).1) (ndX_p ((hmL e heLb).2))) (congrArg (fun o9 => some (va_rf o9)) (hl1)) dJ20_resize_237 240 rfl ?_
          refine r_astore hC 13 [(13, .ref x2), (8, .ref e), (9, (va_rf Lo.head?)), (10, (va_rf (lstO none Lo))), (11, .ref hX), (12, .ref z), (7, .int (nI j)), (6, .ref nt), (4, .int (nI (2 * cap))), (2, .int (nI cap)), (1, .ref ot), (0, .ref M)] dJ20_resize_240 (Nat.le_of_ble_eq_true rfl) rfl 242 rfl ?_
          refine r_aload hC 1 dJ20_resize_242 rfl 244 rfl ?_
          refine r_getI (v := .int (hs e)) hC kJ25 0 rfl q2234 (Or.inl rfl) (fun _ h => stW_get h ((hmL e heLb).1) (ndX_p ((hmL e heLb).2))) rfl dJ20_resize_244 247 rfl ?_
          refine r_iload_n hC 9 dJ20_resize_247 rfl 248 rfl ?_
          refine r_iand hC ((hs e) &&& (nI cap)) dJ20_resize_248  (rfl) 249 rfl ?_
          refine r_ifne hC 278 dJ20_resize_249 (by decide) 252 rfl (fun _ => ?_) (fun h => absurd h (hlz0))
          refine r_aload hC 5 dJ20_resize_278 rfl 280 rfl ?_
          refine r_ifnonnull hC 290 dJ20_resize_280 (by decide) ?_
          refine r_aload hC 5 dJ20_resize_290 rfl 292 rfl ?_
          refine r_aload hC 1 dJ20_resize_292 rfl 294 rfl ?_
          refine r_putI (J := xSt F V0 ([(M, .inr (25, [.ref nt, va_rf es, .int (nI sz), .int mc, .int (nI th), .float 1061158912, .null, .null, va_rf hd, va_rf tl, .int 0, .int 0])), (ot, .inl (8, cap, .inr (.inr (.inr (.inr of))))), (nt, .inl (8, 2 * cap, .inr (.inr (.inr (.inr nf)))))] ++ stW L (ndX kd hs ky vl (va_up nx z (some e)) bf af pa lf rt pv rd))) hC kJ25 3 rfl q2250 (Or.inl rfl) rfl (fun _ h => stW_get h ((hmL z hzLb).1) (ndX_p ((hmL z hzLb).2))) (Nat.le_of_ble_eq_true rfl) rfl rfl dJ20_resize_294 (fun _ h => stW_set h ((hmL z hzLb).1) (ndP_nx ((hmL z hzLb).2))) 297 rfl ?_
          refine r_aload hC 1 dJ20_resize_297 rfl 299 rfl ?_
          refine r_astore hC 12 [(12, .ref e), (13, .ref x2), (8, .ref e), (9, (va_rf Lo.head?)), (10, (va_rf (lstO none Lo))), (11, .ref hX), (7, .int (nI j)), (6, .ref nt), (4, .int (nI (2 * cap))), (2, .int (nI cap)), (1, .ref ot), (0, .ref M)] dJ20_resize_299 (Nat.le_of_ble_eq_true rfl) rfl 301 rfl ?_
          refine r_aload hC 1 dJ20_resize_301 rfl 303 rfl ?_
          refine r_dup hC dJ20_resize_303 rfl 304 rfl ?_
          refine r_astore hC 8 [(8, .ref x2), (12, .ref e), (13, .ref x2), (9, (va_rf Lo.head?)), (10, (va_rf (lstO none Lo))), (11, .ref hX), (7, .int (nI j)), (6, .ref nt), (4, .int (nI (2 * cap))), (2, .int (nI cap)), (1, .ref ot), (0, .ref M)] dJ20_resize_304 (Nat.le_of_ble_eq_true rfl) rfl 306 rfl ?_
          refine r_ifnonnull hC 235 dJ20_resize_306 (by decide) ?_
          refine rn.sub (lv' := [(8, .ref x2), (9, (va_rf Lo.head?)), (10, (va_rf (lstO none Lo))), (11, .ref hX), (12, .ref e), (7, .int (nI j)), (6, .ref nt), (4, .int (nI (2 * cap))), (2, .int (nI cap)), (1, .ref ot), (0, .ref M)]) [0, 3, 4, 5, 1, 6, 7, 8, 9, 10, 11] rfl ?_
          have hI' := hI.hi hlb (nx' := va_up nx z (some e)) (fun z9 e9 => by obtain rfl : z = z9 := Option.some.inj (hlz.symm.trans e9); exact up_same _ _ _) (fun a n9 => up_ne (fun e9 => n9 (by rw [e9]; exact hlz)))
          have hsg : seg nx0 (some x2) rest none := by have h8 := hseg.2; rw [← hI.2.2.2.2.2.1 e hed, hl1] at h8; exact h8
          obtain ⟨t9, rfl⟩ := seg_some hsg
          have key := ih (done ++ [e]) Lo (Hi ++ [e]) (va_up nx z (some e)) x2 t9 rfl hsg hI'
          rw [show lstO none (Hi ++ [e]) = some e from lstO_snoc, show (Hi ++ [e]).head? = some hX by rw [head_app, hhX]; rfl] at key
          exact key
set_option maxHeartbeats 4000000 in
set_option maxRecDepth 100000 in
theorem lpJ20_cutEN {C : xC} {F : Nat → Prop} {V0 : xV} (c9 s9 : Nat) (hG : xGood (xGG C)) (hC : xCtx C RJ20 cJ20_resize 14 (some (.array (.object "java/util/HashMap$Node"))) { frames := 6, locals := 150, cells := c9, slots := s9 }) (k n : Nat) (L : List Nat) (kd : Nat → Bool) (hs : Nat → Int32) (ky vl : Nat → Nat) (nx bf af pa lf rt pv : Nat → Option Nat) (rd : Nat → Int32) (M : Nat) (es : Option Nat) (sz th : Nat) (mc : Int32) (hd tl : Option Nat) (ot nt cap : Nat) (of nf : Nat → Option Nat) (hcap : capI cap) (hcap2 : capI (2 * cap)) (j : Nat) (hj : j < cap) (hh ht : Nat) (h3L : hh ∈ L) (h3k : kd hh = false) (h4L : ht ∈ L) (h4k : kd ht = false) (kx : rn C (xSt F V0 ([(M, .inr (25, [.ref nt, va_rf es, .int (nI sz), .int mc, .int (nI th), .float 1061158912, .null, .null, va_rf hd, va_rf tl, .int 0, .int 0])), (ot, .inl (8, cap, .inr (.inr (.inr (.inr of))))), (nt, .inl (8, 2 * cap, .inr (.inr (.inr (.inr (va_up nf (j + cap) (some hh)))))))] ++ stW L (ndX kd hs ky vl (va_up nx ht none) bf af pa lf rt pv rd))) k n 347 [(7, .int (nI j)), (6, .ref nt), (4, .int (nI (2 * cap))), (2, .int (nI cap)), (1, .ref ot), (0, .ref M)] []) : rn C (xSt F V0 ([(M, .inr (25, [.ref nt, va_rf es, .int (nI sz), .int mc, .int (nI th), .float 1061158912, .null, .null, va_rf hd, va_rf tl, .int 0, .int 0])), (ot, .inl (8, cap, .inr (.inr (.inr (.inr of))))), (nt, .inl (8, 2 * cap, .inr (.inr (.inr (.inr nf)))))] ++ stW L (ndX kd hs ky vl nx bf af pa lf rt pv rd))) k n 309 [(9, .null), (10, .null), (11, .ref hh), (12, .ref ht), (7, .int (nI j)), (6, .ref nt), (4, .int (nI (2 * cap))), (2, .int (nI cap)), (1, .ref ot), (0, .ref M)] [] := by
  have hle := hcap.le
  refine r_aloadN hC 1 dJ20_resize_309 rfl 311 rfl ?_
  refine r_ifnullN hC 327 dJ20_resize_311 (by decide) ?_
  refine r_aload hC 3 dJ20_resize_327 rfl 329 rfl ?_
  refine r_ifnull hC dJ20_resize_329 332 rfl ?_
  refine r_aload hC 3 dJ20_resize_332 rfl 334 rfl ?_
  refine r_null hC dJ20_resize_334 335 rfl ?_
  refine r_putI (J := xSt F V0 ([(M, .inr (25, [.ref nt, va_rf es, .int (nI sz), .int mc, .int (nI th), .float 1061158912, .null, .null, va_rf hd, va_rf tl, .int 0, .int 0])), (ot, .inl (8, cap, .inr (.inr (.inr (.inr of))))), (nt, .inl (8, 2 * cap, .inr (.inr (.inr (.inr nf)))))] ++ stW L (ndX kd hs ky vl (va_up nx ht none) bf af pa lf rt pv rd))) hC kJ25 3 rfl q2250 (Or.inl rfl) rfl (fun _ h => stW_get h h4L (ndX_p h4k)) (Nat.le_of_ble_eq_true rfl) rfl rfl dJ20_resize_335 (fun _ h => stW_set h h4L (ndP_nx h4k)) 338 rfl ?_
  refine r_aload hC 5 dJ20_resize_338 rfl 340 rfl ?_
  refine r_iload hC 4 dJ20_resize_340 rfl 342 rfl ?_
  refine r_iload_n hC 7 dJ20_resize_342 rfl 343 rfl ?_
  refine r_iadd hC (nI (j + cap)) dJ20_resize_343  (nI_add j cap) 344 rfl ?_
  refine r_aload hC 2 dJ20_resize_344 rfl 346 rfl ?_
  refine r_aastO (J := xSt F V0 ([(M, .inr (25, [.ref nt, va_rf es, .int (nI sz), .int mc, .int (nI th), .float 1061158912, .null, .null, va_rf hd, va_rf tl, .int 0, .int 0])), (ot, .inl (8, cap, .inr (.inr (.inr (.inr of))))), (nt, .inl (8, 2 * cap, .inr (.inr (.inr (.inr (va_up nf (j + cap) (some hh)))))))] ++ stW L (ndX kd hs ky vl (va_up nx ht none) bf af pa lf rt pv rd))) hC hG kJ25 q3422 (j + cap) (xix_n (j + cap) (by omega) (by omega)) rfl (fun _ h => ⟨_, stW_get h h3L (ndX_p h3k)⟩) (fun _ h => h.get 2 rfl) dJ20_resize_346 (fun _ h => h.set 2 _ rfl) 347 rfl ?_
  refine rn.sub (lv' := [(7, .int (nI j)), (6, .ref nt), (4, .int (nI (2 * cap))), (2, .int (nI cap)), (1, .ref ot), (0, .ref M)]) [4, 5, 6, 7, 8, 9] rfl ?_
  exact kx
set_option maxHeartbeats 4000000 in
set_option maxRecDepth 100000 in
theorem lpJ20_cutNE {C : xC} {F : Nat → Prop} {V0 : xV} (c9 s9 : Nat) (hG : xGood (xGG C)) (hC : xCtx C RJ20 cJ20_resize 14 (some (.array (.object "java/util/HashMap$Node"))) { frames := 6, locals := 150, cells := c9, slots := s9 }) (k n : Nat) (L : List Nat) (kd : Nat → Bool) (hs : Nat → Int32) (ky vl : Nat → Nat) (nx bf af pa lf rt pv : Nat → Option Nat) (rd : Nat → Int32) (M : Nat) (es : Option Nat) (sz th : Nat) (mc : Int32) (hd tl : Option Nat) (ot nt cap : Nat) (of nf : Nat → Option Nat) (hcap : capI cap) (hcap2 : capI (2 * cap)) (j : Nat) (hj : j < cap) (lh lt : Nat) (h1L : lh ∈ L) (h1k : kd lh = false) (h2L : lt ∈ L) (h2k : kd lt = false) (kx : rn C (xSt F V0 ([(M, .inr (25, [.ref nt, va_rf es, .int (nI sz), .int mc, .int (nI th), .float 1061158912, .null, .null, va_rf hd, va_rf tl, .int 0, .int 0])), (ot, .inl (8, cap, .inr (.inr (.inr (.inr of))))), (nt, .inl (8, 2 * cap, .inr (.inr (.inr (.inr (va_up nf j (some lh)))))))] ++ stW L (ndX kd hs ky vl (va_up nx lt none) bf af pa lf rt pv rd))) k n 347 [(7, .int (nI j)), (6, .ref nt), (4, .int (nI (2 * cap))), (2, .int (nI cap)), (1, .ref ot), (0, .ref M)] []) : rn C (xSt F V0 ([(M, .inr (25, [.ref nt, va_rf es, .int (nI sz), .int mc, .int (nI th), .float 1061158912, .null, .null, va_rf hd, va_rf tl, .int 0, .int 0])), (ot, .inl (8, cap, .inr (.inr (.inr (.inr of))))), (nt, .inl (8, 2 * cap, .inr (.inr (.inr (.inr nf)))))] ++ stW L (ndX kd hs ky vl nx bf af pa lf rt pv rd))) k n 309 [(9, .ref lh), (10, .ref lt), (11, .null), (12, .null), (7, .int (nI j)), (6, .ref nt), (4, .int (nI (2 * cap))), (2, .int (nI cap)), (1, .ref ot), (0, .ref M)] [] := by
  have hle := hcap.le
  refine r_aload hC 1 dJ20_resize_309 rfl 311 rfl ?_
  refine r_ifnull hC dJ20_resize_311 314 rfl ?_
  refine r_aload hC 1 dJ20_resize_314 rfl 316 rfl ?_
  refine r_null hC dJ20_resize_316 317 rfl ?_
  refine r_putI (J := xSt F V0 ([(M, .inr (25, [.ref nt, va_rf es, .int (nI sz), .int mc, .int (nI th), .float 1061158912, .null, .null, va_rf hd, va_rf tl, .int 0, .int 0])), (ot, .inl (8, cap, .inr (.inr (.inr (.inr of))))), (nt, .inl (8, 2 * cap, .inr (.inr (.inr (.inr nf)))))] ++ stW L (ndX kd hs ky vl (va_up nx lt none) bf af pa lf rt pv rd))) hC kJ25 3 rfl q2250 (Or.inl rfl) rfl (fun _ h => stW_get h h2L (ndX_p h2k)) (Nat.le_of_ble_eq_true rfl) rfl rfl dJ20_resize_317 (fun _ h => stW_set h h2L (ndP_nx h2k)) 320 rfl ?_
  refine r_aload hC 5 dJ20_resize_320 rfl 322 rfl ?_
  refine r_iload hC 4 dJ20_resize_322 rfl 324 rfl ?_
  refine r_aload hC 0 dJ20_resize_324 rfl 326 rfl ?_
  refine r_aastO (J := xSt F V0 ([(M, .inr (25, [.ref nt, va_rf es, .int (nI sz), .int mc, .int (nI th), .float 1061158912, .null, .null, va_rf hd, va_rf tl, .int 0, .int 0])), (ot, .inl (8, cap, .inr (.inr (.inr (.inr of))))), (nt, .inl (8, 2 * cap, .inr (.inr (.inr (.inr (va_up nf j (some lh)))))))] ++ stW L (ndX kd hs ky vl (va_up nx lt none) bf af pa lf rt pv rd))) hC hG kJ25 q3422 j (xix_n j (by omega) (by omega)) rfl (fun _ h => ⟨_, stW_get h h1L (ndX_p h1k)⟩) (fun _ h => h.get 2 rfl) dJ20_resize_326 (fun _ h => h.set 2 _ rfl) 327 rfl ?_
  refine r_aloadN hC 3 dJ20_resize_327 rfl 329 rfl ?_
  refine r_ifnullN hC 347 dJ20_resize_329 (by decide) ?_
  refine rn.sub (lv' := [(7, .int (nI j)), (6, .ref nt), (4, .int (nI (2 * cap))), (2, .int (nI cap)), (1, .ref ot), (0, .ref M)]) [4, 5, 6, 7, 8, 9] rfl ?_
  exact kx
set_option maxHeartbeats 4000000 in
set_option maxRecDepth 100000 in
theorem lpJ20_cutNN {C : xC} {F : Nat → Prop} {V0 : xV} (c9 s9 : Nat) (hG : xGood (xGG C)) (hC : xCtx C RJ20 cJ20_resize 14 (some (.array (.object "java/util/HashMap$Node"))) { frames := 6, locals := 150, cells := c9, slots := s9 }) (k n : Nat) (L : List Nat) (kd : Nat → Bool) (hs : Nat → Int32) (ky vl : Nat → Nat) (nx bf af pa lf rt pv : Nat → Option Nat) (rd : Nat → Int32) (M : Nat) (es : Option Nat) (sz th : Nat) (mc : Int32) (hd tl : Option Nat) (ot nt cap : Nat) (of nf : Nat → Option Nat) (hcap : capI cap) (hcap2 : capI (2 * cap)) (j : Nat) (hj : j < cap) (lh lt : Nat) (h1L : lh ∈ L) (h1k : kd lh = false) (h2L : lt ∈ L) (h2k : kd lt = false) (hh ht : Nat) (h3L : hh ∈ L) (h3k : kd hh = false) (h4L : ht ∈ L) (h4k : kd ht = false) (kx : rn C (xSt F V0 ([(M, .inr (25, [.ref nt, va_rf es, .int (nI sz), .int mc, .int (nI th), .float 1061158912, .null, .null, va_rf hd, va_rf tl, .int 0, .int 0])), (ot, .inl (8, cap, .inr (.inr (.inr (.inr of))))), (nt, .inl (8, 2 * cap, .inr (.inr (.inr (.inr (va_up (va_up nf j (some lh)) (j + cap) (some hh)))))))] ++ stW L (ndX kd hs ky vl (va_up (va_up nx lt none) ht none) bf af pa lf rt pv rd))) k n 347 [(7, .int (nI j)), (6, .ref nt), (4, .int (nI (2 * cap))), (2, .int (nI cap)), (1, .ref ot), (0, .ref M)] []) : rn C (xSt F V0 ([(M, .inr (25, [.ref nt, va_rf es, .int (nI sz), .int mc, .int (nI th), .float 1061158912, .null, .null, va_rf hd, va_rf tl, .int 0, .int 0])), (ot, .inl (8, cap, .inr (.inr (.inr (.inr of))))), (nt, .inl (8, 2 * cap, .inr (.inr (.inr (.inr nf)))))] ++ stW L (ndX kd hs ky vl nx bf af pa lf rt pv rd))) k n 309 [(9, .ref lh), (10, .ref lt), (11, .ref hh), (12, .ref ht), (7, .int (nI j)), (6, .ref nt), (4, .int (nI (2 * cap))), (2, .int (nI cap)), (1, .ref ot), (0, .ref M)] [] := by
  have hle := hcap.le
  refine r_aload hC 1 dJ20_resize_309 rfl 311 rfl ?_
  refine r_ifnull hC dJ20_resize_311 314 rfl ?_
  refine r_aload hC 1 dJ20_resize_314 rfl 316 rfl ?_
  refine r_null hC dJ20_resize_316 317 rfl ?_
  refine r_putI (J := xSt F V0 ([(M, .inr (25, [.ref nt, va_rf es, .int (nI sz), .int mc, .int (nI th), .float 1061158912, .null, .null, va_rf hd, va_rf tl, .int 0, .int 0])), (ot, .inl (8, cap, .inr (.inr (.inr (.inr of))))), (nt, .inl (8, 2 * cap, .inr (.inr (.inr (.inr nf)))))] ++ stW L (ndX kd hs ky vl (va_up nx lt none) bf af pa lf rt pv rd))) hC kJ25 3 rfl q2250 (Or.inl rfl) rfl (fun _ h => stW_get h h2L (ndX_p h2k)) (Nat.le_of_ble_eq_true rfl) rfl rfl dJ20_resize_317 (fun _ h => stW_set h h2L (ndP_nx h2k)) 320 rfl ?_
  refine r_aload hC 5 dJ20_resize_320 rfl 322 rfl ?_
  refine r_iload hC 4 dJ20_resize_322 rfl 324 rfl ?_
  refine r_aload hC 0 dJ20_resize_324 rfl 326 rfl ?_
  refine r_aastO (J := xSt F V0 ([(M, .inr (25, [.ref nt, va_rf es, .int (nI sz), .int mc, .int (nI th), .float 1061158912, .null, .null, va_rf hd, va_rf tl, .int 0, .int 0])), (ot, .inl (8, cap, .inr (.inr (.inr (.inr of))))), (nt, .inl (8, 2 * cap, .inr (.inr (.inr (.inr (va_up nf j (some lh)))))))] ++ stW L (ndX kd hs ky vl (va_up nx lt none) bf af pa lf rt pv rd))) hC hG kJ25 q3422 j (xix_n j (by omega) (by omega)) rfl (fun _ h => ⟨_, stW_get h h1L (ndX_p h1k)⟩) (fun _ h => h.get 2 rfl) dJ20_resize_326 (fun _ h => h.set 2 _ rfl) 327 rfl ?_
  refine r_aload hC 3 dJ20_resize_327 rfl 329 rfl ?_
  refine r_ifnull hC dJ20_resize_329 332 rfl ?_
  refine r_aload hC 3 dJ20_resize_332 rfl 334 rfl ?_
  refine r_null hC dJ20_resize_334 335 rfl ?_
  refine r_putI (J := xSt F V0 ([(M, .inr (25, [.ref nt, va_rf es, .int (nI sz), .int mc, .int (nI th), .float 1061158912, .null, .null, va_rf hd, va_rf tl, .int 0, .int 0])), (ot, .inl (8, cap, .inr (.inr (.inr (.inr of))))), (nt, .inl (8, 2 * cap, .inr (.inr (.inr (.inr (va_up nf j (some lh)))))))] ++ stW L (ndX kd hs ky vl (va_up (va_up nx lt none) ht none) bf af pa lf rt pv rd))) hC kJ25 3 rfl q2250 (Or.inl rfl) rfl (fun _ h => stW_get h h4L (ndX_p h4k)) (Nat.le_of_ble_eq_true rfl) rfl rfl dJ20_resize_335 (fun _ h => stW_set h h4L (ndP_nx h4k)) 338 rfl ?_
  refine r_aload hC 5 dJ20_resize_338 rfl 340 rfl ?_
  refine r_iload hC 4 dJ20_resize_340 rfl 342 rfl ?_
  refine r_iload_n hC 7 dJ20_resize_342 rfl 343 rfl ?_
  refine r_iadd hC (nI (j + cap)) dJ20_resize_343  (nI_add j cap) 344 rfl ?_
  refine r_aload hC 2 dJ20_resize_344 rfl 346 rfl ?_
  refine r_aastO (J := xSt F V0 ([(M, .inr (25, [.ref nt, va_rf es, .int (nI sz), .int mc, .int (nI th), .float 1061158912, .null, .null, va_rf hd, va_rf tl, .int 0, .int 0])), (ot, .inl (8, cap, .inr (.inr (.inr (.inr of))))), (nt, .inl (8, 2 * cap, .inr (.inr (.inr (.inr (va_up (va_up nf j (some lh)) (j + cap) (some hh)))))))] ++ stW L (ndX kd hs ky vl (va_up (va_up nx lt none) ht none) bf af pa lf rt pv rd))) hC hG kJ25 q3422 (j + cap) (xix_n (j + cap) (by omega) (by omega)) rfl (fun _ h => ⟨_, stW_get h h3L (ndX_p h3k)⟩) (fun _ h => h.get 2 rfl) dJ20_resize_346 (fun _ h => h.set 2 _ rfl) 347 rfl ?_
  refine rn.sub (lv' := [(7, .int (nI j)), (6, .ref nt), (4, .int (nI (2 * cap))), (2, .int (nI cap)), (1, .ref ot), (0, .ref M)]) [4, 5, 6, 7, 8, 9] rfl ?_
  exact kx
