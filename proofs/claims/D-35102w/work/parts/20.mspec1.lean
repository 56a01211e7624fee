/-! THE REFERENCE'S FUNCTIONS, as numbers -/
set_option maxRecDepth 100000
section MSP1
theorem bI_1 {c : Prop} [Decidable c] (h : bI c = 1) : c := by
  by_cases q : c
  · exact q
  · rw [bI_f q] at h; exact absurd h (by decide)
theorem bI_0 {c : Prop} [Decidable c] (h : bI c = 0) : ¬ c := fun q => by rw [bI_t q] at h; exact absurd h (by decide)
theorem bI_n1 {c : Prop} [Decidable c] (h : ¬ bI c = 1) : ¬ c := fun q => h (bI_t q)
theorem bI_n0 {c : Prop} [Decidable c] (h : ¬ bI c = 0) : c := by
  by_cases q : c
  · exact q
  · exact absurd (bI_f q) h
theorem bI_or (c : Prop) [Decidable c] : (bI c = 1 ∧ c) ∨ (bI c = 0 ∧ ¬ c) := by
  by_cases q : c
  · exact Or.inl ⟨bI_t q, q⟩
  · exact Or.inr ⟨bI_f q, q⟩
theorem bI_R (c : Prop) [Decidable c] : RR (bI c) := by rcases bI_01 c with h | h <;> rw [h] <;> decide
/-- which exception an operation throws, by its checks in order; 0: none -/
def t1 (a : Prop) [Decidable a] : Int := if a then 0 else 1
def t2 (a b : Prop) [Decidable a] [Decidable b] : Int := if a then (if b then 0 else 2) else 1
def t3 (a b c : Prop) [Decidable a] [Decidable b] [Decidable c] : Int := if a then (if b then (if c then 0 else 3) else 2) else 1
def sStreet (a b : Int) : Int := if max a b - min a b = 1 ∧ 0 < max a b % 6 then min a b else if max a b - min a b = 6 then 36 + min a b else -1
theorem sStreet_rng {a b : Int} (ha : 0 ≤ a ∧ a ≤ 35) (hb : 0 ≤ b ∧ b ≤ 35) : -1 ≤ sStreet a b ∧ sStreet a b ≤ 71 := by
  unfold sStreet
  split
  · omega
  · split <;> omega
/-- where a person dwelt, by the first n moves -/
def sDwelt (σ : MM) (p t : Int) : Nat → Int
  | 0 => -1
  | n + 1 => if σ.2 10 n = p ∧ σ.2 11 n ≤ t then σ.2 12 n else sDwelt σ p t n
/-- the last sealed envelope of a person among the first n -/
def sSealed (σ : MM) (p : Int) : Nat → Int
  | 0 => -1
  | n + 1 => if σ.2 23 n = p ∧ σ.2 25 n = 0 then (n : Int) else sSealed σ p n
theorem sSealed_rng (σ : MM) (p : Int) : ∀ n : Nat, -1 ≤ sSealed σ p n ∧ sSealed σ p n < n
  | 0 => by unfold sSealed; omega
  | n + 1 => by
    unfold sSealed
    have := sSealed_rng σ p n
    split <;> omega
/-- ints all through -/
def AllR (σ : MM) : Prop := (∀ k : Nat, RR (σ.1 k)) ∧ ∀ k i : Nat, RR (σ.2 k i)
theorem AllR.i {σ : MM} (h : AllR σ) {k : Nat} {v : Int} (hv : RR v) : AllR (setI σ k v) := ⟨fun j => by rw [setI_1]; split; exact hv; exact h.1 j, h.2⟩
theorem AllR.a {σ : MM} (h : AllR σ) {k i : Nat} {v : Int} (hv : RR v) : AllR (setA σ k i v) := ⟨h.1, fun j n => by rw [setA_2]; split; (rw [uA_ap]; split; exact hv; exact h.2 k n); exact h.2 j n⟩
def sComes (σ : MM) (p c : Int) : MM := setI (setA (setA (setA σ 10 (σ.1 13).toNat p) 11 (σ.1 13).toNat (σ.1 0)) 12 (σ.1 13).toNat c) 13 (σ.1 13 + 1)
def sNote (σ : MM) (t g p : Int) : MM := setI (setA (setA (setA σ 39 (σ.1 42).toNat t) 40 (σ.1 42).toNat g) 41 (σ.1 42).toNat p) 42 (σ.1 42 + 1)
def sVoids (σ : MM) (p : Int) : MM := if sSealed σ p (σ.1 26).toNat = -1 then σ else sNote (setA σ 25 (sSealed σ p (σ.1 26).toNat).toNat 1) (σ.1 0) 120 p
/-- bounds of every number and every entry -/
def nHi : Nat → Int := fun k => match k with
  | 0 => 2100
  | 6 => 5
  | 9 => 20
  | 13 => 540
  | 14 => 5
  | 15 => 2000
  | 16 => 30
  | 17 => 1
  | 19 => 5
  | 26 => 60
  | 37 => 30
  | 38 => 30
  | 42 => 1000
  | 43 => 3
  | _ => 0
def bHi : Nat → Int := fun k => match k with
  | 1 => 1
  | 2 => 36
  | 3 => 35
  | 4 => 35
  | 5 => 20
  | 7 => 2000
  | 8 => 1
  | 10 => 19
  | 11 => 2100
  | 12 => 35
  | 18 => 9999
  | 20 => 4
  | 21 => 20
  | 22 => 1
  | 23 => 19
  | 24 => 5
  | 25 => 2
  | 27 => 5
  | 28 => 20
  | 29 => 20
  | 30 => 3
  | 31 => 8
  | 32 => 39
  | 33 => 20
  | 34 => 100
  | 35 => 30
  | 36 => 4
  | 39 => 2100
  | 40 => 127
  | 41 => 19
  | _ => 0
def bLo : Nat → Int := fun k => match k with
  | 2 => -1
  | 20 => -1
  | 32 => -1
  | _ => 0
def Bd (σ : MM) : Prop := (∀ k : Nat, 0 ≤ σ.1 k ∧ σ.1 k ≤ nHi k) ∧ ∀ k i : Nat, bLo k ≤ σ.2 k i ∧ σ.2 k i ≤ bHi k
theorem Bd.i {σ : MM} (h : Bd σ) {k : Nat} {v : Int} (hv : 0 ≤ v ∧ v ≤ nHi k) : Bd (setI σ k v) := ⟨fun j => by rw [setI_1]; split; (rename_i e; rw [e]; exact hv); exact h.1 j, h.2⟩
theorem Bd.a {σ : MM} (h : Bd σ) {k i : Nat} {v : Int} (hv : bLo k ≤ v ∧ v ≤ bHi k) : Bd (setA σ k i v) := ⟨h.1, fun j n => by rw [setA_2]; split; (rename_i e; rw [e, uA_ap]; split; exact hv; exact h.2 k n); exact h.2 j n⟩
theorem nHi_le (k : Nat) : nHi k ≤ 2100 := by unfold nHi; split <;> decide
theorem bHi_le (k : Nat) : bHi k ≤ 9999 := by unfold bHi; split <;> decide
theorem bLo_ge (k : Nat) : -1 ≤ bLo k := by unfold bLo; split <;> decide
theorem Bd.all {σ : MM} (h : Bd σ) : AllR σ := ⟨fun k => by have := h.1 k; have := nHi_le k; constructor <;> omega, fun k i => by have := h.2 k i; have := bHi_le k; have := bLo_ge k; constructor <;> omega⟩
abbrev isC (c : Int) : Prop := 0 ≤ c ∧ c ≤ 35
abbrev isP (σ : MM) (p : Int) : Prop := 0 ≤ p ∧ p ≤ σ.1 9 - 1
abbrev isS (σ : MM) (s : Int) : Prop := 0 ≤ s ∧ s ≤ σ.1 6 - 1
/-- an operation's end: it throws (t, the number of its exception; only that is kept), or answers r and leaves the state f -/
def oEnd (σ : MM) (t r : Int) (f : MM) : Int → MM → Prop := fun x s => (t = 0 ∧ x = r ∧ s = f) ∨ (t ≠ 0 ∧ x = 0 ∧ s = setI σ 43 t)
abbrev σ0 (σ : MM) : MM := setI σ 43 0
def sCasts (σ : MM) (p v : Int) : MM := setA (setA (setA σ 27 (20 * σ.2 20 p.toNat + σ.2 28 (σ.2 20 p.toNat).toNat).toNat v) 28 (σ.2 20 p.toNat).toNat (σ.2 28 (σ.2 20 p.toNat).toNat + 1)) 22 p.toNat 1
def sBest1 (σ : MM) : Nat → Int
  | 0 => -1
  | n + 1 => if σ.2 2 (σ.2 4 n).toNat ≠ -1 ∧ σ.2 21 n < σ.2 5 n ∧ (sBest1 σ n = -1 ∨ σ.2 2 (σ.2 4 n).toNat < σ.2 2 (σ.2 4 (sBest1 σ n).toNat).toNat) then (n : Int) else sBest1 σ n
def sBest2 (σ : MM) : Nat → Int
  | 0 => -1
  | n + 1 => if σ.2 2 (σ.2 4 n).toNat ≠ -1 ∧ (sBest2 σ n = -1 ∨ σ.2 21 n < σ.2 21 (sBest2 σ n).toNat) then (n : Int) else sBest2 σ n
theorem sBest1_rng (σ : MM) : ∀ n : Nat, -1 ≤ sBest1 σ n ∧ sBest1 σ n < n
  | 0 => by unfold sBest1; omega
  | n + 1 => by unfold sBest1; have := sBest1_rng σ n; split <;> omega
theorem sBest2_rng (σ : MM) : ∀ n : Nat, -1 ≤ sBest2 σ n ∧ sBest2 σ n < n
  | 0 => by unfold sBest2; omega
  | n + 1 => by unfold sBest2; have := sBest2_rng σ n; split <;> omega
def sFor (σ : MM) : Int := if sBest1 σ (σ.1 19).toNat ≠ -1 then sBest1 σ (σ.1 19).toNat else if sBest2 σ (σ.1 19).toNat = -1 then 0 else sBest2 σ (σ.1 19).toNat
/-- cleared for an election -/
def sCl1 (σ : MM) : Nat → MM
  | 0 => σ
  | n + 1 => setA (setA (sCl1 σ n) 20 n (-1)) 22 n 0
def sCl2 (σ : MM) : Nat → MM
  | 0 => σ
  | n + 1 => setA (setA (setA (setA (setA (sCl2 σ n) 18 n 0) 21 n 0) 28 n 0) 31 n 0) 32 n (-1)
def sClears (σ : MM) : MM := sCl2 (sCl1 (setI (setI (setI σ 19 0) 26 0) 42 0) 20) 5
/-- how far all is from a crossing -/
def sFi (σ : MM) : Nat → MM
  | 0 => σ
  | n + 1 => setA (sFi σ n) 2 n (-1)
def sFs (σ : MM) (m : Int) (a : Nat) : Nat → MM × Int
  | 0 => (σ, m)
  | n + 1 => if sStreet ((sFs σ m a n).1.2 3 a) n ≠ -1 ∧ (sFs σ m a n).1.2 1 (sStreet ((sFs σ m a n).1.2 3 a) n).toNat = 0 ∧ (sFs σ m a n).1.2 2 n = -1 then
      (setA (setA (sFs σ m a n).1 2 n ((sFs σ m a n).1.2 2 ((sFs σ m a n).1.2 3 a).toNat + 1)) 3 (sFs σ m a n).2.toNat n, (sFs σ m a n).2 + 1)
    else sFs σ m a n
def sFo (σ : MM) (m : Int) : Nat → MM × Int
  | 0 => (σ, m)
  | a + 1 => if (a : Int) < (sFo σ m a).2 then sFs (sFo σ m a).1 (sFo σ m a).2 a 36 else sFo σ m a
def sFinds (σ : MM) (c : Int) : MM := (sFo (setA (setA (sFi σ 36) 2 c.toNat 0) 3 0 c) 1 36).1
end MSP1
