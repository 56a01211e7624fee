/-! THE REFERENCE'S FUNCTIONS: ways -/
set_option maxRecDepth 100000
section MSP2
def cntN (f : Nat → Int) : Nat → Nat
  | 0 => 0
  | n + 1 => cntN f n + (if f n = -1 then 0 else 1)
theorem cntN_le (f : Nat → Int) : ∀ n : Nat, cntN f n ≤ n
  | 0 => Nat.le_refl _
  | n + 1 => by unfold cntN; have := cntN_le f n; split <;> omega
theorem cntN_ext {f g : Nat → Int} : ∀ n : Nat, (∀ j, j < n → f j = g j) → cntN f n = cntN g n
  | 0, _ => rfl
  | n + 1, h => by unfold cntN; rw [cntN_ext n (fun j hj => h j (by omega)), h n (by omega)]
theorem cntN_set {f : Nat → Int} {j : Nat} {v : Int} (hv : v ≠ -1) (hf : f j = -1) : ∀ n : Nat, j < n → cntN (uA f j v) n = cntN f n + 1
  | 0, h => absurd h (Nat.not_lt_zero _)
  | n + 1, h => by
    unfold cntN
    by_cases e : j = n
    · subst e
      rw [uA_self, if_neg hv, if_pos hf, cntN_ext (f := uA f j v) (g := f) j (fun i hi => uA_ne (by omega))]
    · rw [cntN_set hv hf n (by omega), uA_ne (Ne.symm e)]
      omega
theorem cntN_lt {f : Nat → Int} {j : Nat} (hf : f j = -1) : ∀ n : Nat, j < n → cntN f n < n
  | 0, h => absurd h (Nat.not_lt_zero _)
  | n + 1, h => by
    unfold cntN
    by_cases e : j = n
    · subst e
      rw [if_pos hf]
      have := cntN_le f j
      omega
    · have := cntN_lt hf n (by omega)
      split <;> omega
theorem cntN_all {f : Nat → Int} : ∀ n : Nat, (∀ j, j < n → f j = -1) → cntN f n = 0
  | 0, _ => rfl
  | n + 1, h => by unfold cntN; rw [cntN_all n (fun j hj => h j (by omega)), if_pos (h n (by omega))]
theorem sFi_2 (σ : MM) : ∀ (n j : Nat), (sFi σ n).2 2 j = if j < n then -1 else σ.2 2 j
  | 0, j => by simp [sFi]
  | n + 1, j => by
    unfold sFi
    rw [setA_2, if_pos rfl, uA_ap]
    have := sFi_2 σ n j
    by_cases e : j = n
    · rw [if_pos e, if_pos (by omega)]
    · rw [if_neg e, this]
      by_cases h : j < n
      · rw [if_pos h, if_pos (by omega)]
      · rw [if_neg h, if_neg (by omega)]
theorem sFi_bd {σ : MM} (h : Bd σ) : ∀ n : Nat, Bd (sFi σ n)
  | 0 => h
  | n + 1 => (sFi_bd h n).a (by show (-1 : Int) ≤ -1 ∧ (-1 : Int) ≤ 36; decide)
/-- the search's invariant: m crossings are reached -/
def BI (s : MM) (m : Int) : Prop := Bd s ∧ 1 ≤ m ∧ m ≤ 36 ∧ (cntN (s.2 2) 36 : Int) = m ∧ ∀ i : Nat, (i : Int) < m → 0 ≤ s.2 2 (s.2 3 i).toNat ∧ s.2 2 (s.2 3 i).toNat ≤ i
theorem BI.start {σ : MM} (h : Bd σ) {c : Int} (hc : isC c) : BI (setA (setA (sFi σ 36) 2 c.toNat 0) 3 0 c) 1 := by
  refine ⟨((sFi_bd h 36).a (by show (-1 : Int) ≤ 0 ∧ (0 : Int) ≤ 36; decide)).a (by show (0 : Int) ≤ c ∧ c ≤ 35; exact hc), by decide, by decide, ?_, fun i hi => ?_⟩
  · have h1 : (setA (setA (sFi σ 36) 2 c.toNat 0) 3 0 c).2 2 = uA ((sFi σ 36).2 2) c.toNat 0 := rfl
    have h2 : ∀ j, j < 36 → (sFi σ 36).2 2 j = -1 := fun j hj => by rw [sFi_2, if_pos hj]
    rw [h1, cntN_set (by decide) (h2 _ (by omega)) 36 (by omega), cntN_all 36 h2]
    rfl
  · have hi0 : i = 0 := by omega
    subst hi0
    have h1 : (setA (setA (sFi σ 36) 2 c.toNat 0) 3 0 c).2 3 0 = c := by rw [setA_2, if_pos rfl, uA_self]
    have h2 : (setA (setA (sFi σ 36) 2 c.toNat 0) 3 0 c).2 2 c.toNat = 0 := by
      show uA ((sFi σ 36).2 2) c.toNat 0 c.toNat = 0
      exact uA_self _ _ _
    rw [h1, h2]
    decide
theorem BI.far_lt {s : MM} {m : Int} (h : BI s m) {n : Nat} (hn : n < 36) (hf : s.2 2 n = -1) : m < 36 := by
  have h1 := cntN_lt hf 36 hn
  have h2 := h.2.2.2.1
  omega
theorem BI.step {s : MM} {m : Int} {a n : Nat} (h : BI s m) (ha : (a : Int) < m) (hn : n < 36) (hf : s.2 2 n = -1) : BI (setA (setA s 2 n (s.2 2 (s.2 3 a).toNat + 1)) 3 m.toNat n) (m + 1) := by
  have hm := h.far_lt hn hf
  obtain ⟨hB, h1, h2, h3, h4⟩ := h
  have h5 := h4 a ha
  refine ⟨(hB.a (by show (-1 : Int) ≤ _ ∧ _ ≤ (36 : Int); omega)).a (by show (0 : Int) ≤ (n : Int) ∧ (n : Int) ≤ 35; omega), by omega, by omega, ?_, fun i hi => ?_⟩
  · have e1 : (setA (setA s 2 n (s.2 2 (s.2 3 a).toNat + 1)) 3 m.toNat n).2 2 = uA (s.2 2) n (s.2 2 (s.2 3 a).toNat + 1) := rfl
    rw [e1, cntN_set (by omega) hf 36 hn]
    omega
  · have e2 : (setA (setA s 2 n (s.2 2 (s.2 3 a).toNat + 1)) 3 m.toNat n).2 3 i = if i = m.toNat then (n : Int) else s.2 3 i := rfl
    have e1 : (setA (setA s 2 n (s.2 2 (s.2 3 a).toNat + 1)) 3 m.toNat n).2 2 = uA (s.2 2) n (s.2 2 (s.2 3 a).toNat + 1) := rfl
    rw [e1, e2]
    by_cases e : i = m.toNat
    · rw [if_pos e, show ((n : Int)).toNat = n from rfl, uA_self]
      omega
    · rw [if_neg e]
      have h6 := h4 i (by omega)
      rw [uA_ne (fun z => by rw [z, hf] at h6; omega)]
      omega
theorem sFo_stop {S : MM} {a : Nat} {s : MM} {m : Int} (h : sFo S 1 a = (s, m)) (hm : m ≤ a) : ∀ k : Nat, sFo S 1 (a + k) = (s, m)
  | 0 => h
  | k + 1 => by
    have ih := sFo_stop h hm k
    show (if ((a + k : Nat) : Int) < (sFo S 1 (a + k)).2 then sFs (sFo S 1 (a + k)).1 (sFo S 1 (a + k)).2 (a + k) 36 else sFo S 1 (a + k)) = (s, m)
    rw [ih, if_neg (by show ¬ ((a + k : Nat) : Int) < m; omega)]
theorem sFinds_of {σ : MM} {c : Int} {a : Nat} {s : MM} {m : Int} (h : sFo (setA (setA (sFi σ 36) 2 c.toNat 0) 3 0 c) 1 a = (s, m)) (hm : m ≤ a) (ha : a ≤ 36) : s = sFinds σ c := by
  have h1 := sFo_stop h hm (36 - a)
  rw [show a + (36 - a) = 36 by omega] at h1
  unfold sFinds
  rw [h1]
theorem sFo_succ {S : MM} {a : Nat} {s s' : MM} {m m' : Int} (h : sFo S 1 a = (s, m)) (ha : (a : Int) < m) (h2 : sFs s m a 36 = (s', m')) : sFo S 1 (a + 1) = (s', m') := by
  show (if (a : Int) < (sFo S 1 a).2 then sFs (sFo S 1 a).1 (sFo S 1 a).2 a 36 else sFo S 1 a) = (s', m')
  rw [h, if_pos ha, h2]
theorem sFs_skip {s s' : MM} {m m' : Int} {a n : Nat} (h : sFs s m a n = (s', m')) (hc : ¬ (sStreet (s'.2 3 a) n ≠ -1 ∧ s'.2 1 (sStreet (s'.2 3 a) n).toNat = 0 ∧ s'.2 2 n = -1)) : sFs s m a (n + 1) = (s', m') := by
  unfold sFs
  rw [h, if_neg hc]
theorem sFs_go {s s' : MM} {m m' : Int} {a n : Nat} (h : sFs s m a n = (s', m')) (hc : sStreet (s'.2 3 a) n ≠ -1 ∧ s'.2 1 (sStreet (s'.2 3 a) n).toNat = 0 ∧ s'.2 2 n = -1) : sFs s m a (n + 1) = (setA (setA s' 2 n (s'.2 2 (s'.2 3 a).toNat + 1)) 3 m'.toNat n, m' + 1) := by
  show (if sStreet ((sFs s m a n).1.2 3 a) n ≠ -1 ∧ (sFs s m a n).1.2 1 (sStreet ((sFs s m a n).1.2 3 a) n).toNat = 0 ∧ (sFs s m a n).1.2 2 n = -1 then
      (setA (setA (sFs s m a n).1 2 n ((sFs s m a n).1.2 2 ((sFs s m a n).1.2 3 a).toNat + 1)) 3 (sFs s m a n).2.toNat n, (sFs s m a n).2 + 1) else sFs s m a n) = _
  rw [h, if_pos hc]
end MSP2
