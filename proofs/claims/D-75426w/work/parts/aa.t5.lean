/-! ===== plain: hashes, places in a table, bins ===== -/
set_option maxRecDepth 100000
def hspQ (x : Int32) : Int32 := x ^^^ (x.toUInt32 >>> ((16 : Int32).toUInt32 &&& Int32.toUInt32 31)).toInt32
def hsh (c d : Int32) : Int32 := hspQ (1000 * c + d)
def ixN (h : Int32) (cap : Nat) : Nat := h.toUInt32.toNat % cap
/-- one bin: its first node, its nodes -/
def binI (kd : Nat → Bool) (hs : Nat → Int32) (nx pa lf rt pv : Nat → Option Nat) (o : Option Nat) (B : List Nat) : Prop :=
  seg nx o B none ∧ B.Nodup ∧ ((∀ a, a ∈ B → kd a = false) ∨ ((∀ a, a ∈ B → kd a = true) ∧ 6 < B.length ∧ bck pv none B ∧ ∃ root t, B = root :: t ∧ tI (fun a => (hs a).toInt) (fun a => a ∈ B) pa lf rt root))
theorem binI.congr {kd kd' : Nat → Bool} {hs hs' : Nat → Int32} {nx pa lf rt pv nx' pa' lf' rt' pv' : Nat → Option Nat} {o : Option Nat} {B : List Nat} (h : binI kd hs nx pa lf rt pv o B) (e : ∀ a, a ∈ B → kd' a = kd a ∧ hs' a = hs a ∧ nx' a = nx a ∧ pa' a = pa a ∧ lf' a = lf a ∧ rt' a = rt a ∧ pv' a = pv a) : binI kd' hs' nx' pa' lf' rt' pv' o B := by
  obtain ⟨h1, h2, h3⟩ := h
  refine ⟨seg_congr (fun a ha => (e a ha).2.2.1) h1, h2, ?_⟩
  rcases h3 with h3 | ⟨h3, h4, h5, root, t, hB, h6⟩
  · exact Or.inl fun a ha => (e a ha).1.trans (h3 a ha)
  · refine Or.inr ⟨fun a ha => (e a ha).1.trans (h3 a ha), h4, bck_congr (fun a ha => (e a ha).2.2.2.2.2.2) h5, root, t, hB, ?_⟩
    have h7 := h6.congr (T' := fun a => a ∈ B) (pa' := pa') (lf' := lf') (rt' := rt') (fun _ => Iff.rfl) (fun a ha => (e a ha).2.2.2.1) (fun a ha => (e a ha).2.2.2.2.1) (fun a ha => (e a ha).2.2.2.2.2.1)
    obtain ⟨lo, hi, ⟨g1, g2, g3, g4⟩, gb, gB, gL, gR, gP⟩ := h7
    have he : ∀ a, a ∈ B → (hs' a).toInt = (hs a).toInt := fun a ha => by rw [(e a ha).2.1]
    refine ⟨lo, hi, ⟨g1, g2, g3, g4⟩, fun a ha => ?_, gB, fun a b ha q => ?_, fun a b ha q => ?_, gP⟩
    · dsimp only
      rw [he a ha]
      exact gb a ha
    · dsimp only
      rw [he a ha]
      exact gL a b ha q
    · dsimp only
      rw [he a ha]
      exact gR a b ha q
/-- all bins -/
def binsI (kd : Nat → Bool) (hs : Nat → Int32) (nx pa lf rt pv : Nat → Option Nat) (tf : Nat → Option Nat) (cap : Nat) (bins : Nat → List Nat) (ord : List Nat) : Prop :=
  (∀ b, b < cap → binI kd hs nx pa lf rt pv (tf b) (bins b)) ∧ (∀ b, b < cap → ∀ a, a ∈ bins b ↔ a ∈ ord ∧ ixN (hs a) cap = b)
/-- tables have 16, 32 .. 512 places -/
def capI (cap : Nat) : Prop := cap = 16 ∨ cap = 32 ∨ cap = 64 ∨ cap = 128 ∨ cap = 256 ∨ cap = 512
theorem capI.pow {cap : Nat} (h : capI cap) : ∃ k, cap = 2 ^ k ∧ 4 ≤ k ∧ k ≤ 9 := by
  rcases h with h | h | h | h | h | h
  · exact ⟨4, h, by omega⟩
  · exact ⟨5, h, by omega⟩
  · exact ⟨6, h, by omega⟩
  · exact ⟨7, h, by omega⟩
  · exact ⟨8, h, by omega⟩
  · exact ⟨9, h, by omega⟩
theorem capI.le {cap : Nat} (h : capI cap) : 16 ≤ cap ∧ cap ≤ 512 := by unfold capI at h; omega
theorem ixN_lt {h : Int32} {cap : Nat} (hc : capI cap) : ixN h cap < cap := Nat.mod_lt _ (by have := hc.le; omega)
theorem i32_ext {a b : Int32} (h : a.toUInt32 = b.toUInt32) : a = b := by
  cases a; cases b; cases h; rfl
theorem ix_and {h : Int32} {cap : Nat} (hc : capI cap) : (nI (cap - 1) &&& h) = nI (ixN h cap) := by
  obtain ⟨k, rfl, -, hk⟩ := hc.pow
  have hp : 2 ^ k ≤ 512 := by have := hc.le; omega
  have e1 : (nI (2 ^ k - 1)).toUInt32.toNat = 2 ^ k - 1 := by
    show (UInt32.ofNat _).toNat = _
    rw [UInt32.toNat_ofNat']
    exact Nat.mod_eq_of_lt (by omega)
  have e2 : (nI (2 ^ k - 1) &&& h).toUInt32.toNat = (nI (ixN h (2 ^ k))).toUInt32.toNat := by
    rw [show (nI (2 ^ k - 1) &&& h).toUInt32 = (nI (2 ^ k - 1)).toUInt32 &&& h.toUInt32 from rfl, UInt32.toNat_and, e1, Nat.and_comm, Nat.and_two_pow_sub_one_eq_mod]
    have hl : ixN h (2 ^ k) < 2 ^ k := ixN_lt hc
    show _ = (UInt32.ofNat (ixN h (2 ^ k))).toNat
    rw [UInt32.toNat_ofNat', Nat.mod_eq_of_lt (a := ixN h (2 ^ k)) (by omega)]
    rfl
  exact i32_ext (UInt32.toNat_inj.mp e2)
