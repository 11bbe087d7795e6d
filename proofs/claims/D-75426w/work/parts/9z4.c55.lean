/-! ===== the class: Scanner over a token ===== -/
set_option maxRecDepth 100000
theorem xSt.monoF {F F' : Nat → Prop} {V0 V : xV} {ws : xW} (hF : ∀ a, F a → F' a) (h : xSt F V0 ws V) : xSt F' V0 ws V := by
  obtain ⟨h1, h2, h3, h4⟩ := h
  exact ⟨fun i q hi => ⟨(h1 i q hi).1, (h1 i q hi).2.1, (h1 i q hi).2.2.imp (hF _) id⟩, h2, h3, fun a ha hn => h4 a ha (fun hf => hn (hF _ hf))⟩
theorem xF_left {ws ex : xW} {a : Nat} (h : xF ws a) : xF (ws ++ ex) a := by
  obtain ⟨i, e, hi⟩ := h
  exact ⟨i, e, by rw [List.getElem?_append_left (List.getElem?_eq_some_iff.mp hi).1]; exact hi⟩
/-- cells that a method doesn't need are dropped -/
theorem xWm.drop {l : Launch} {G : xG} {y : MethodName} {w : Cond} {rm : Room} {As : List Value} {wc : xW} {Q : Option Value → xW → Prop} {X : Nat → xW → Prop} (h : xWm l G y w rm As wc Q X) (ex : xW) : xWm l G y w rm As (wc ++ ex) Q X := by
  intro V hV
  exact xMet.imp (h V hV.left) (fun v V' ⟨w', h1, h2⟩ => ⟨w', h1, h2.monoF (fun a => xF_left)⟩) (fun q V' ⟨w', h1, h2⟩ => ⟨w', h1, h2.monoF (fun a => xF_left)⟩)
/-- .. or kept -/
theorem xWm.fr {l : Launch} {G : xG} {y : MethodName} {w : Cond} {rm : Room} {As : List Value} {wc : xW} {Q : Option Value → xW → Prop} {X : Nat → xW → Prop} (h : xWm l G y w rm As wc Q X) (ex : xW) : xWm l G y w rm As (wc ++ ex) (fun v w' => ∃ w1, Q v w1 ∧ w' = ex ++ w1) (fun q w' => ∃ w1, X q w1 ∧ w' = ex ++ w1) := by
  intro V hV
  exact xMet.imp (h V hV.left) (fun v V' ⟨w', h1, h2⟩ => ⟨ex ++ w', ⟨w', h1, rfl⟩, hV.st.joinA h2⟩) (fun q V' ⟨w', h1, h2⟩ => ⟨ex ++ w', ⟨w', h1, rfl⟩, hV.st.joinA h2⟩)
theorem xWm.imp2 {l : Launch} {G : xG} {y : MethodName} {w : Cond} {rm : Room} {As : List Value} {wc : xW} {Q Q' : Option Value → xW → Prop} {X X' : Nat → xW → Prop} (h : xWm l G y w rm As wc Q X) (hQ : ∀ v w', Q v w' → Q' v w') (hX : ∀ q w', X q w' → X' q w') : xWm l G y w rm As wc Q' X' := by
  intro V hV
  exact xMet.imp (h V hV) (fun v V' ⟨w', h1, h2⟩ => ⟨w', hQ _ _ h1, h2⟩) (fun q V' ⟨w', h1, h2⟩ => ⟨w', hX _ _ h1, h2⟩)
theorem xRm.left {l : Launch} {G : xG} {y : MethodName} {w : Cond} {rm : Room} {As : List Value} {wc ex : xW} {r : Option Value} (h : xRm l G y w rm As wc r) : xRm l G y w rm As (wc ++ ex) r := fun V hV => h V hV.left
theorem xIn.right {V : xV} {wc wr : xW} (h : xIn (wc ++ wr) V) : xIn wr V := (h.perm List.perm_append_comm).left
/-- what kind of token begins at g -/
def ckQ (T : Nat → Int32) (en : Nat) (B : Nat → Int32) (m g : Nat) : Int32 := if g < en then (if letQ (T g) = true then 1 else if figQ (T g) = true then 2 else if syQ B m (T g) = true then 3 else 4) else 0
/-- the scanner at the token that begins at g -/
def tokW (sc tx sy en : Nat) (T B : Nat → Int32) (m g : Nat) (ws : xW) : Prop :=
  ∃ (vl : Int32) (wd : Option Nat) (ex : xW), ws = (sc, .inr (7, [.ref tx, .int (nI en), .ref sy, .int (ckQ T en B m g), .int (nI g), .int (nI (tEnd T en g)), .int vl, va_rf wd])) :: (tx, .inl (2, 600, .inl T)) :: ex ∧ g ≤ en ∧ (ckQ T en B m g = 2 → vl = cval T g (tEnd T en g - g)) ∧ (ckQ T en B m g = 1 → ∃ (q v2 : Nat) (f2 : Nat → Int32), wd = some q ∧ ex = [(q, .inr (21, [.ref v2, .int 0, .int 0, .int 0])), (v2, .inl (2, (tEnd T en g - g), .inl f2))] ∧ ∀ j, j < tEnd T en g - g → f2 j = T (g + j))
/-- what the scanner stands on -/
def scE (G : xG) (sy en : Nat) (T B : Nat → Int32) (m : Nat) : Prop := en ≤ 600 ∧ fB T 600 ∧ 0 < m ∧ ∃ kv, xStr G sy kv m B
theorem tok_recv {sc tx sy en m g : Nat} {T B : Nat → Int32} {tw : xW} {V : xV} (h : tokW sc tx sy en T B m g tw) (hV : xIn tw V) : ∃ fs, V.2 sc = some (.inr (7, fs)) := by
  obtain ⟨vl, wd, ex, rfl, -⟩ := h
  exact ⟨_, (hV.1 0 _ rfl).1⟩
theorem tok_le {sc tx sy en m g : Nat} {T B : Nat → Int32} {tw : xW} (h : tokW sc tx sy en T B m g tw) : g ≤ en := by
  obtain ⟨vl, wd, ex, -, h, -⟩ := h
  exact h
theorem metX8_advanceP (l : Launch) (G : xG) (hG : xGood G) (sc tx sy en bg p : Nat) (kd vl : Int32) (wd : Option Nat) (T B : Nat → Int32) (m : Nat) (hE : scE G sy en T B m) (hpe : p ≤ en) (g : Nat) (hgq : g = tBeg T en p) : xWm l G yX8_advance (Cond.code yX8_advance cX8_advance 1 none) { frames := 7, locals := 192, cells := (tEnd T en g - g) + 4, slots := 5 * (tEnd T en g - g) + 36 } [.ref sc] [(sc, .inr (7, [.ref tx, .int (nI en), .ref sy, .int kd, .int (nI bg), .int (nI p), .int vl, va_rf wd])), (tx, .inl (2, 600, .inl T))] (fun v w' => v = none ∧ tokW sc tx sy en T B m g w') (fun _ _ => False) := by
  obtain ⟨hen, hTb, hm0, kv, hst⟩ := hE
  have hge : g ≤ en := by rw [hgq]; exact runE_le hpe
  have hgq : g = runE blkQ T en p := hgq
  by_cases hk : g < en
  · cases hl : letQ (T g) with
    | true =>
      have hc : ckQ T en B m g = 1 := by unfold ckQ; rw [if_pos hk, if_pos hl]
      refine xWm.imp2 (metX8_advance1 l G hG sc tx sy en bg p kd vl wd T hen kv m B hm0 hTb hpe hst g hgq hk hl) (fun v w' h => ?_) (fun _ _ h => h)
      obtain ⟨q, v2, f2, h1, h2, h3⟩ := h
      refine ⟨h1, vl, some q, _, by rw [hc]; exact h3, hge, fun h9 => absurd (hc.symm.trans h9) (by decide), fun _ => ⟨q, v2, f2, rfl, rfl, h2⟩⟩
    | false =>
      cases hd : figQ (T g) with
      | true =>
        have hc : ckQ T en B m g = 2 := by unfold ckQ; rw [if_pos hk, if_neg (by rw [hl]; decide), if_pos hd]
        refine xWm.imp2 (metX8_advance2 l G hG sc tx sy en bg p kd vl wd T hen kv m B hm0 hTb hpe hst g hgq hk hl hd) (fun v w' h => ?_) (fun _ _ h => h)
        exact ⟨h.1, _, wd, [], by rw [hc]; exact h.2, hge, fun _ => rfl, fun h9 => absurd (hc.symm.trans h9) (by decide)⟩
      | false =>
        cases hs : syQ B m (T g) with
        | true =>
          have hc : ckQ T en B m g = 3 := by unfold ckQ; rw [if_pos hk, if_neg (by rw [hl]; decide), if_neg (by rw [hd]; decide), if_pos hs]
          have hng : ¬ T g < 0 := fun q9 => by rw [sy_0 q9] at hs; cases hs
          refine xWm.imp2 (metX8_advance3 l G hG sc tx sy en bg p kd vl wd T hen kv m B hm0 hTb hpe hst g hgq hk hl hd hs hng) (fun v w' h => ?_) (fun _ _ h => h)
          exact ⟨h.1, vl, wd, [], by rw [hc]; exact h.2, hge, fun h9 => absurd (hc.symm.trans h9) (by decide), fun h9 => absurd (hc.symm.trans h9) (by decide)⟩
        | false =>
          have hc : ckQ T en B m g = 4 := by unfold ckQ; rw [if_pos hk, if_neg (by rw [hl]; decide), if_neg (by rw [hd]; decide), if_neg (by rw [hs]; decide)]
          by_cases hng : T g < 0
          · refine xWm.imp2 (metX8_advance4n l G hG sc tx sy en bg p kd vl wd T hen kv m B hm0 hTb hpe hst g hgq hk hl hd hs hng) (fun v w' h => ?_) (fun _ _ h => h)
            exact ⟨h.1, vl, wd, [], by rw [hc]; exact h.2, hge, fun h9 => absurd (hc.symm.trans h9) (by decide), fun h9 => absurd (hc.symm.trans h9) (by decide)⟩
          · refine xWm.imp2 (metX8_advance4 l G hG sc tx sy en bg p kd vl wd T hen kv m B hm0 hTb hpe hst g hgq hk hl hd hs hng) (fun v w' h => ?_) (fun _ _ h => h)
            exact ⟨h.1, vl, wd, [], by rw [hc]; exact h.2, hge, fun h9 => absurd (hc.symm.trans h9) (by decide), fun h9 => absurd (hc.symm.trans h9) (by decide)⟩
  · have hk : g = en := by omega
    have hc : ckQ T en B m g = 0 := by unfold ckQ; rw [if_neg (by omega)]
    refine xWm.imp2 (metX8_advance0 l G hG sc tx sy en bg p kd vl wd T hen kv m B hm0 hTb hpe hst g hgq hk) (fun v w' h => ?_) (fun _ _ h => h)
    exact ⟨h.1, vl, wd, [], by rw [hc]; exact h.2, hge, fun h9 => absurd (hc.symm.trans h9) (by decide), fun h9 => absurd (hc.symm.trans h9) (by decide)⟩
theorem metX8_advance (l : Launch) (G : xG) (hG : xGood G) (sc tx sy en : Nat) (T B : Nat → Int32) (m : Nat) (hE : scE G sy en T B m) (g : Nat) (tw : xW) (htw : tokW sc tx sy en T B m g tw) : xWm l G yX8_advance (Cond.code yX8_advance cX8_advance 1 none) { frames := 7, locals := 192, cells := (tEnd T en (tBeg T en (tEnd T en g)) - (tBeg T en (tEnd T en g))) + 4, slots := 5 * (tEnd T en (tBeg T en (tEnd T en g)) - (tBeg T en (tEnd T en g))) + 36 } [.ref sc] tw (fun v w' => v = none ∧ tokW sc tx sy en T B m (tBeg T en (tEnd T en g)) w') (fun _ _ => False) := by
  obtain ⟨vl, wd, ex, rfl, hge, -⟩ := htw
  exact (metX8_advanceP l G hG sc tx sy en g (tEnd T en g) _ vl wd T B m hE (tEnd_le hge) _ rfl).drop ex
