/-! THE COMPONENT'S OBJECTS: counts -/
set_option maxRecDepth 100000
section REL10
variable {K : KK} {h h' : AL2} {o : Nat} {ad : AD} {σ τ : MM}
abbrev adC (ad : AD) (s m q nb : Nat) : AD := fun k i j => if k = 22 ∧ i = s ∧ j = m then q else if k = 23 ∧ i = s ∧ j = m then nb else ad k i j
abbrev adS (ad : AD) (s q nb : Nat) : AD := fun k i j => if k = 24 ∧ i = s ∧ j = 0 then q else if k = 27 ∧ i = s ∧ j = 0 then nb else ad k i j
/-- a count more -/
theorem Rel.counted (R : Rel K h o ad σ) {s m : Nat} (h19 : σ.1 19 ≤ 5) (hs : (s : Int) < σ.1 19) (hz : σ.1 14 ≠ 0) (hm : σ.2 31 s = (m : Int)) (hm8 : m < 8) (h31 : ∀ i, σ.2 31 i ≤ 8) (h32 : ∀ i : Nat, i < 5 → σ.2 32 i = -1 ∨ (8 * (i : Int) ≤ σ.2 32 i ∧ σ.2 32 i < 8 * i + σ.2 31 i)) {q nb : Nat} {c : Int}
    (hq : ∀ k i j, live σ k i j → ad k i j ≠ q) (hnb : ∀ k i j, live σ k i j → ad k i j ≠ nb) (hne : q ≠ nb) (t1 : τ.1 = σ.1) (to : ∀ k, k ≠ 29 → k ≠ 30 → k ≠ 31 → τ.2 k = σ.2 k) (t30 : τ.2 30 = uA (σ.2 30) (8 * s + m) c) (t31 : τ.2 31 = uA (σ.2 31) s (m + 1)) (t29 : ∀ i : Nat, ¬ (6 * (8 * s + m) ≤ i ∧ i < 6 * (8 * s + m) + 6) → τ.2 29 i = σ.2 29 i)
    (g1 : h' q = some (pO 10 [IV c, .ref nb])) (g2 : h' nb = some (pA 0 6 (c6 (fun x => τ.2 29 (6 * (8 * s + m) + x))))) (g3 : h' (ad 21 s 0) = some (pL (rg (σ.2 31 s) (fun n => ad 22 s n) ++ [q]))) (g4 : ∀ k i j, live σ k i j → ¬ (k = 21 ∧ i = s ∧ j = 0) → h' (ad k i j) = h (ad k i j)) : Rel K h' o (adC ad s m q nb) τ := by
  have a22 : adC ad s m q nb 22 s m = q := if_pos ⟨rfl, rfl, rfl⟩
  have a23 : adC ad s m q nb 23 s m = nb := by simp [adC]
  have aold : ∀ k i j, ¬ ((k = 22 ∨ k = 23) ∧ i = s ∧ j = m) → adC ad s m q nb k i j = ad k i j := fun k i j hN => by
    show (if _ then _ else _) = _
    rw [if_neg (fun z => hN ⟨Or.inl z.1, z.2⟩), if_neg (fun z => hN ⟨Or.inr z.1, z.2⟩)]
  have ak : ∀ k i j, k ≠ 22 → k ≠ 23 → adC ad s m q nb k i j = ad k i j := fun k i j e1 e2 => aold k i j fun z => z.1.elim e1 e2
  have cnt : ∀ i j : Nat, (j : Int) < τ.2 31 i → (i = s ∧ j = m) ∨ ((j : Int) < σ.2 31 i ∧ ¬ (i = s ∧ j = m)) := fun i j hj => by
    rw [t31, uA_ap] at hj
    by_cases e : i = s
    · rw [if_pos e] at hj
      rw [e, hm]
      omega
    · rw [if_neg e] at hj
      exact Or.inr ⟨hj, fun z => e z.1⟩
  have key : ∀ k i j, live τ k i j → ((k = 22 ∨ k = 23) ∧ i = s ∧ j = m) ∨ (live σ k i j ∧ ¬ ((k = 22 ∨ k = 23) ∧ i = s ∧ j = m)) := fun k i j hl => by
    by_cases e2 : k = 22
    · subst e2
      have h9 : τ.1 14 ≠ 0 ∧ (i : Int) < τ.1 19 ∧ (j : Int) < τ.2 31 i := hl
      rw [t1] at h9
      rcases cnt i j h9.2.2 with z | z
      · exact Or.inl ⟨Or.inl rfl, z⟩
      · exact Or.inr ⟨⟨h9.1, h9.2.1, z.1⟩, fun y => z.2 y.2⟩
    · by_cases e3 : k = 23
      · subst e3
        have h9 : τ.1 14 ≠ 0 ∧ (i : Int) < τ.1 19 ∧ (j : Int) < τ.2 31 i := hl
        rw [t1] at h9
        rcases cnt i j h9.2.2 with z | z
        · exact Or.inl ⟨Or.inr rfl, z⟩
        · exact Or.inr ⟨⟨h9.1, h9.2.1, z.1⟩, fun y => z.2 y.2⟩
      · refine Or.inr ⟨?_, fun y => y.1.elim e2 e3⟩
        revert hl
        unfold live
        rw [t1, to 32 (by decide) (by decide) (by decide)]
        split <;> first | exact absurd rfl e2 | exact absurd rfl e3 | exact id | exact fun z => z.elim
  refine R.grow _ (fun k i j => (k = 22 ∨ k = 23) ∧ i = s ∧ j = m) (by rw [ak 0 0 0 (by decide) (by decide)]; exact R.1) (fun k i j hl hN => ?_) (fun k i j hN => ?_) (fun k i j k2 i2 j2 hN hN2 e => ?_) (fun k i j hl => ?_)
  · rcases key k i j hl with z | z
    · exact absurd z hN
    · exact ⟨z.1, aold _ _ _ hN⟩
  · obtain ⟨e1, e2, e3⟩ := hN
    rw [e2, e3]
    rcases e1 with e1 | e1 <;> rw [e1]
    · rw [a22]; exact hq
    · rw [a23]; exact hnb
  · obtain ⟨e1, e2, e3⟩ := hN
    obtain ⟨f1, f2, f3⟩ := hN2
    rw [e2, e3, f2, f3] at e
    refine ⟨?_, e2.trans f2.symm, e3.trans f3.symm⟩
    rcases e1 with e1 | e1 <;> rcases f1 with f1 | f1 <;> rw [e1, f1] at e ⊢
    · rw [a22, a23] at e; exact absurd e hne
    · rw [a22, a23] at e; exact absurd e.symm hne
  · rcases key k i j hl with ⟨e1, e2, e3⟩ | ⟨z, hN⟩
    · rw [e2, e3]
      rcases e1 with e1 | e1 <;> rw [e1]
      · rw [a22, g1]
        show _ = some (pO 10 [IV (τ.2 30 (8 * s + m)), .ref (adC ad s m q nb 23 s m)])
        rw [a23, t30, uA_self]
      · rw [a23, g2]
        rfl
    · rw [aold k i j hN]
      by_cases g21 : k = 21 ∧ i = s ∧ j = 0
      · obtain ⟨e1, e2, e3⟩ := g21
        rw [e1, e2, e3, g3]
        show _ = some (cL (rg (τ.2 31 s) (fun n => adC ad s m q nb 22 s n)))
        rw [t31, uA_self, rg_succ (by omega), show ((m : Int)).toNat = m from Int.toNat_natCast m, a22, hm, rg_ext (f := fun n => adC ad s m q nb 22 s n) (g := fun n => ad 22 s n) (fun n hn => aold 22 s n (fun y => by have := y.2.2; omega))]
      · rw [g4 k i j z g21, R.at k i j z]
        congr 1
        have w31 : ∀ j : Nat, (j : Int) < σ.2 31 i → j < 8 := fun j hj => by have := h31 i; omega
        by_cases k21 : k = 21
        · subst k21
          have hj : j = 0 := z.2.2
          show cL (rg (σ.2 31 i) (fun n => ad 22 i n)) = cL (rg (τ.2 31 i) (fun n => adC ad s m q nb 22 i n))
          have hi : i ≠ s := fun e => g21 ⟨rfl, e, hj⟩
          rw [t31, uA_ne hi, rg_ext (f := fun n => adC ad s m q nb 22 i n) (g := fun n => ad 22 i n) (fun n _ => aold 22 i n (fun y => hi y.2.1))]
        · by_cases k22 : k = 22
          · subst k22
            have h9 : (j : Int) < σ.2 31 i := z.2.2
            have hj := w31 j h9
            have hn : ¬ (i = s ∧ j = m) := fun y => hN ⟨Or.inl rfl, y⟩
            show pO 10 [IV (σ.2 30 (8 * i + j)), .ref (ad 23 i j)] = pO 10 [IV (τ.2 30 (8 * i + j)), .ref (adC ad s m q nb 23 i j)]
            rw [t30, uA_ne (by omega), aold 23 i j (fun y => hn y.2)]
          · by_cases k23 : k = 23
            · subst k23
              have h9 : (j : Int) < σ.2 31 i := z.2.2
              have hj := w31 j h9
              have hn : ¬ (i = s ∧ j = m) := fun y => hN ⟨Or.inr rfl, y⟩
              show pA 0 6 (c6 (fun x => σ.2 29 (6 * (8 * i + j) + x))) = pA 0 6 (c6 (fun x => τ.2 29 (6 * (8 * i + j) + x)))
              rw [c6_ext (g := fun x => τ.2 29 (6 * (8 * i + j) + x)) (fun x hx => (t29 _ (by omega)).symm)]
            · have e32 := to 32 (by decide) (by decide) (by decide)
              by_cases k24 : k = 24
              · subst k24
                have hi : (i : Int) < σ.1 19 := z.2.1
                have hn : σ.2 32 i ≠ -1 := z.2.2.1
                have h8 := (h32 i (by omega)).resolve_left hn
                have h7 := h31 i
                show pO 10 [IV (σ.2 30 (σ.2 32 i).toNat), .ref (ad 27 i 0)] = pO 10 [IV (τ.2 30 (τ.2 32 i).toNat), .ref (adC ad s m q nb 27 i 0)]
                rw [e32, t30, uA_ne (by by_cases e : i = s; (rw [e] at h8 ⊢; omega); omega), ak 27 i 0 (by decide) (by decide)]
              · by_cases k27 : k = 27
                · subst k27
                  have hi : (i : Int) < σ.1 19 := z.2.1
                  have hn : σ.2 32 i ≠ -1 := z.2.2.1
                  have h8 := (h32 i (by omega)).resolve_left hn
                  have h7 := h31 i
                  show pA 0 6 (c6 (fun x => σ.2 29 (6 * (σ.2 32 i).toNat + x))) = pA 0 6 (c6 (fun x => τ.2 29 (6 * (τ.2 32 i).toNat + x)))
                  rw [e32, c6_ext (g := fun x => τ.2 29 (6 * (σ.2 32 i).toNat + x)) (fun x hx => (t29 _ (by by_cases e : i = s; (rw [e] at h8 ⊢; omega); omega)).symm)]
                · have d1 : ∀ x, x ≠ 29 → x ≠ 30 → x ≠ 31 → τ.2 x = σ.2 x := to
                  have hmv : ∀ p, mvs τ p = mvs σ p := fun p => by unfold mvs; rw [t1, d1 10 (by decide) (by decide) (by decide)]
                  revert z
                  unfold cel live
                  rw [t1, d1 1 (by decide) (by decide) (by decide), d1 2 (by decide) (by decide) (by decide), d1 3 (by decide) (by decide) (by decide), d1 4 (by decide) (by decide) (by decide), d1 5 (by decide) (by decide) (by decide), d1 7 (by decide) (by decide) (by decide), d1 8 (by decide) (by decide) (by decide), d1 11 (by decide) (by decide) (by decide), d1 12 (by decide) (by decide) (by decide), d1 18 (by decide) (by decide) (by decide), d1 20 (by decide) (by decide) (by decide), d1 21 (by decide) (by decide) (by decide), d1 22 (by decide) (by decide) (by decide), d1 23 (by decide) (by decide) (by decide), d1 24 (by decide) (by decide) (by decide), d1 25 (by decide) (by decide) (by decide), d1 27 (by decide) (by decide) (by decide), d1 28 (by decide) (by decide) (by decide), d1 32 (by decide) (by decide) (by decide), d1 33 (by decide) (by decide) (by decide), d1 39 (by decide) (by decide) (by decide), d1 40 (by decide) (by decide) (by decide), d1 41 (by decide) (by decide) (by decide)]
                  simp only [hmv]
                  split <;> first | exact absurd rfl k21 | exact absurd rfl k22 | exact absurd rfl k23 | exact absurd rfl k24 | exact absurd rfl k27 | exact fun z => z.elim | exact fun _ => rfl
/-- a box is settled -/
theorem Rel.settle (R : Rel K h o ad σ) {s a : Nat} (hs : (s : Int) < σ.1 19) (hz : σ.1 14 ≠ 0) {q nb : Nat} (hq : ∀ k i j, live σ k i j → ad k i j ≠ q) (hnb : ∀ k i j, live σ k i j → ad k i j ≠ nb) (hne : q ≠ nb)
    (g1 : h' q = some (pO 10 [IV (σ.2 30 a), .ref nb])) (g2 : h' nb = some (pA 0 6 (c6 (fun x => σ.2 29 (6 * a + x))))) (g3 : h' (ad 19 s 0) = some (pO 8 [.ref (ad 20 s 0), .ref (ad 21 s 0), .ref q, IV (σ.2 21 s)])) (h32 : σ.2 32 s = -1) (g4 : ∀ k i j, live σ k i j → ¬ (k = 19 ∧ i = s ∧ j = 0) → h' (ad k i j) = h (ad k i j)) : Rel K h' o (adS ad s q nb) (setA σ 32 s a) := by
  have a24 : adS ad s q nb 24 s 0 = q := if_pos ⟨rfl, rfl, rfl⟩
  have a27 : adS ad s q nb 27 s 0 = nb := by simp [adS]
  have aold : ∀ k i j, ¬ ((k = 24 ∨ k = 27) ∧ i = s ∧ j = 0) → adS ad s q nb k i j = ad k i j := fun k i j hN => by
    show (if _ then _ else _) = _
    rw [if_neg (fun z => hN ⟨Or.inl z.1, z.2⟩), if_neg (fun z => hN ⟨Or.inr z.1, z.2⟩)]
  have ak : ∀ k i j, k ≠ 24 → k ≠ 27 → adS ad s q nb k i j = ad k i j := fun k i j e1 e2 => aold k i j fun z => z.1.elim e1 e2
  have e32 : ∀ i, (setA σ 32 s a).2 32 i = if i = s then (a : Int) else σ.2 32 i := fun i => rfl
  have key : ∀ k i j, live (setA σ 32 s a) k i j → ((k = 24 ∨ k = 27) ∧ i = s ∧ j = 0) ∨ (live σ k i j ∧ ¬ ((k = 24 ∨ k = 27) ∧ i = s ∧ j = 0)) := fun k i j hl => by
    by_cases e2 : k = 24
    · subst e2
      have h9 : σ.1 14 ≠ 0 ∧ (i : Int) < σ.1 19 ∧ (setA σ 32 s a).2 32 i ≠ -1 ∧ j = 0 := hl
      rw [e32] at h9
      by_cases e : i = s
      · exact Or.inl ⟨Or.inl rfl, e, h9.2.2.2⟩
      · rw [if_neg e] at h9
        exact Or.inr ⟨h9, fun y => e y.2.1⟩
    · by_cases e3 : k = 27
      · subst e3
        have h9 : σ.1 14 ≠ 0 ∧ (i : Int) < σ.1 19 ∧ (setA σ 32 s a).2 32 i ≠ -1 ∧ j = 0 := hl
        rw [e32] at h9
        by_cases e : i = s
        · exact Or.inl ⟨Or.inr rfl, e, h9.2.2.2⟩
        · rw [if_neg e] at h9
          exact Or.inr ⟨h9, fun y => e y.2.1⟩
      · refine Or.inr ⟨?_, fun y => y.1.elim e2 e3⟩
        revert hl
        unfold live
        split <;> first | exact absurd rfl e2 | exact absurd rfl e3 | exact id | exact fun z => z.elim
  refine R.grow _ (fun k i j => (k = 24 ∨ k = 27) ∧ i = s ∧ j = 0) (by rw [ak 0 0 0 (by decide) (by decide)]; exact R.1) (fun k i j hl hN => ?_) (fun k i j hN => ?_) (fun k i j k2 i2 j2 hN hN2 e => ?_) (fun k i j hl => ?_)
  · rcases key k i j hl with z | z
    · exact absurd z hN
    · exact ⟨z.1, aold _ _ _ hN⟩
  · obtain ⟨e1, e2, e3⟩ := hN
    rw [e2, e3]
    rcases e1 with e1 | e1 <;> rw [e1]
    · rw [a24]; exact hq
    · rw [a27]; exact hnb
  · obtain ⟨e1, e2, e3⟩ := hN
    obtain ⟨f1, f2, f3⟩ := hN2
    rw [e2, e3, f2, f3] at e
    refine ⟨?_, e2.trans f2.symm, e3.trans f3.symm⟩
    rcases e1 with e1 | e1 <;> rcases f1 with f1 | f1 <;> rw [e1, f1] at e ⊢
    · rw [a24, a27] at e; exact absurd e hne
    · rw [a24, a27] at e; exact absurd e.symm hne
  · rcases key k i j hl with ⟨e1, e2, e3⟩ | ⟨z, hN⟩
    · rw [e2, e3]
      have e9 : (setA σ 32 s a).2 32 s = (a : Int) := by rw [e32, if_pos rfl]
      rcases e1 with e1 | e1 <;> rw [e1]
      · rw [a24, g1]
        show _ = some (pO 10 [IV (σ.2 30 ((setA σ 32 s a).2 32 s).toNat), .ref (adS ad s q nb 27 s 0)])
        rw [a27, e9]; rfl
      · rw [a27, g2]
        show _ = some (pA 0 6 (c6 (fun x => σ.2 29 (6 * ((setA σ 32 s a).2 32 s).toNat + x))))
        rw [e9]; rfl
    · rw [aold k i j hN]
      by_cases g19 : k = 19 ∧ i = s ∧ j = 0
      · obtain ⟨e1, e2, e3⟩ := g19
        rw [e1, e2, e3, g3]
        show _ = some (pO 8 [.ref (adS ad s q nb 20 s 0), .ref (adS ad s q nb 21 s 0), va_rf (if (setA σ 32 s a).2 32 s = -1 then none else some (adS ad s q nb 24 s 0)), IV (σ.2 21 s)])
        rw [e32, if_pos rfl, if_neg (by omega), a24, ak 20 s 0 (by decide) (by decide), ak 21 s 0 (by decide) (by decide)]
        rfl
      · rw [g4 k i j z g19, R.at k i j z]
        congr 1
        by_cases k19 : k = 19
        · subst k19
          have hj : j = 0 := z.2.2
          have hi : i ≠ s := fun e => g19 ⟨rfl, e, hj⟩
          show _ = pO 8 [.ref (adS ad s q nb 20 i 0), .ref (adS ad s q nb 21 i 0), va_rf (if (setA σ 32 s a).2 32 i = -1 then none else some (adS ad s q nb 24 i 0)), IV (σ.2 21 i)]
          rw [e32, if_neg hi, ak 20 i 0 (by decide) (by decide), ak 21 i 0 (by decide) (by decide), aold 24 i 0 (fun y => hi y.2.1)]
          rfl
        · by_cases k24 : k = 24
          · subst k24
            have hj : j = 0 := z.2.2.2
            have hi : i ≠ s := fun e => hN ⟨Or.inl rfl, e, hj⟩
            show _ = pO 10 [IV (σ.2 30 ((setA σ 32 s a).2 32 i).toNat), .ref (adS ad s q nb 27 i 0)]
            rw [e32, if_neg hi, aold 27 i 0 (fun y => hi y.2.1)]
            rfl
          · by_cases k27 : k = 27
            · subst k27
              have hj : j = 0 := z.2.2.2
              have hi : i ≠ s := fun e => hN ⟨Or.inr rfl, e, hj⟩
              show _ = pA 0 6 (c6 (fun x => σ.2 29 (6 * ((setA σ 32 s a).2 32 i).toNat + x)))
              rw [e32, if_neg hi]
              rfl
            · revert z
              unfold cel live
              split <;> first | exact absurd rfl k19 | exact absurd rfl k24 | exact absurd rfl k27 | exact fun z => z.elim | exact fun _ => rfl
/-! what a count comes to -/
theorem sCz_29 (σ : MM) (a : Int) (ha : 0 ≤ a) : ∀ (n i : Nat), (sCz σ a n).2 29 i = if 6 * a ≤ i ∧ (i : Int) < 6 * a + n then 0 else σ.2 29 i
  | 0, i => by rw [if_neg (by omega)]; rfl
  | n + 1, i => by
    show uA ((sCz σ a n).2 29) (6 * a + n).toNat 0 i = _
    rw [uA_ap, sCz_29 σ a ha n i]
    by_cases e : i = (6 * a + n).toNat
    · rw [if_pos e, if_pos (by omega)]
    · rw [if_neg e]
      by_cases g : 6 * a ≤ i ∧ (i : Int) < 6 * a + n
      · rw [if_pos g, if_pos (by omega)]
      · rw [if_neg g, if_neg (by omega)]
theorem sCi_rd {σ : MM} (hB : ∀ k, 0 ≤ σ.2 27 k ∧ σ.2 27 k ≤ 5) (s : Nat) (c a : Int) (k : Nat) : sCi σ s c a k = 6 * a + rdI (fun q => σ.2 27 (20 * s + q)) (σ.2 33 c.toNat) k := by
  have h1 : 0 ≤ σ.2 27 (20 * s + k) ∧ σ.2 27 (20 * s + k) ≤ 5 := hB _
  have e2 : (20 * (s : Int) + (k : Int)).toNat = 20 * s + k := by omega
  unfold sCi rdI
  rw [e2]
  by_cases g : 0 < σ.2 33 c.toNat ∧ ((k : Int) + 1) % σ.2 33 c.toNat = 0
  · rw [if_pos g, if_pos g]
  · rw [if_neg g, if_neg g]
    show 6 * a + (σ.2 27 (20 * s + k) + 0) % 6 = 6 * a + σ.2 27 (20 * s + k)
    omega
theorem sCt_29' {σ : MM} (hB : ∀ k, 0 ≤ σ.2 27 k ∧ σ.2 27 k ≤ 5) (s : Nat) (c a : Int) (ha : 0 ≤ a) (h0 : ∀ i : Nat, 6 * a ≤ i → (i : Int) < 6 * a + 6 → σ.2 29 i = 0) : ∀ (n i : Nat), (sCt σ s c a n).2 29 i = if 6 * a ≤ i ∧ (i : Int) < 6 * a + 6 then rdN (fun q => σ.2 27 (20 * s + q)) (σ.2 33 c.toNat) n (i - (6 * a).toNat) else σ.2 29 i
  | 0, i => by
    show σ.2 29 i = _
    by_cases g : 6 * a ≤ i ∧ (i : Int) < 6 * a + 6
    · rw [if_pos g, h0 i g.1 g.2]; rfl
    · rw [if_neg g]
  | n + 1, i => by
    have fr := sCt_fr σ s c a n
    have hr := rdI_rng (b := fun q => σ.2 27 (20 * s + q)) (fun j => hB _) (σ.2 33 c.toNat) n
    have ei : sCi (sCt σ s c a n) s c a n = sCi σ s c a n := by unfold sCi; rw [fr.2 27 (by decide), fr.2 33 (by decide)]
    show uA ((sCt σ s c a n).2 29) (sCi (sCt σ s c a n) s c a n).toNat ((sCt σ s c a n).2 29 (sCi (sCt σ s c a n) s c a n).toNat + 1) i = if 6 * a ≤ i ∧ (i : Int) < 6 * a + 6 then uA (rdN (fun q => σ.2 27 (20 * s + q)) (σ.2 33 c.toNat) n) (rdI (fun q => σ.2 27 (20 * s + q)) (σ.2 33 c.toNat) n).toNat (rdN (fun q => σ.2 27 (20 * s + q)) (σ.2 33 c.toNat) n (rdI (fun q => σ.2 27 (20 * s + q)) (σ.2 33 c.toNat) n).toNat + 1) (i - (6 * a).toNat) else σ.2 29 i
    rw [ei, sCi_rd hB, uA_ap, uA_ap, sCt_29' hB s c a ha h0 n i, sCt_29' hB s c a ha h0 n]
    generalize rdI (fun q => σ.2 27 (20 * s + q)) (σ.2 33 c.toNat) n = w at hr ⊢
    have hw : 6 * a ≤ (((6 * a + w).toNat : Nat) : Int) ∧ (((6 * a + w).toNat : Nat) : Int) < 6 * a + 6 := by omega
    by_cases g : 6 * a ≤ i ∧ (i : Int) < 6 * a + 6
    · rw [if_pos hw, if_pos g, if_pos g, show (6 * a + w).toNat - (6 * a).toNat = w.toNat by omega]
      by_cases e : i = (6 * a + w).toNat
      · rw [if_pos e, if_pos (by omega)]
      · rw [if_neg e, if_neg (by omega)]
    · rw [if_neg g, if_neg g, if_neg (by omega)]
/-- the count's state: what it changes -/
theorem sC3_at {σ : MM} (hB : Bd σ) {s m : Nat} {c : Int} (hm : σ.2 31 s = (m : Int)) : (sC3 σ s c).1 = σ.1 ∧ (∀ k, k ≠ 29 → k ≠ 30 → k ≠ 31 → (sC3 σ s c).2 k = σ.2 k) ∧ (sC3 σ s c).2 30 = uA (σ.2 30) (8 * s + m) c ∧ (sC3 σ s c).2 31 = uA (σ.2 31) s (m + 1) ∧
    (∀ i : Nat, ¬ (6 * (8 * s + m) ≤ i ∧ i < 6 * (8 * s + m) + 6) → (sC3 σ s c).2 29 i = σ.2 29 i) ∧ ∀ x : Nat, x < 6 → (sC3 σ s c).2 29 (6 * (8 * s + m) + x) = rdN (fun q => σ.2 27 (20 * s + q)) (σ.2 33 c.toNat) (σ.2 28 s).toNat x := by
  have ea : sCa σ s = ((8 * s + m : Nat) : Int) := by unfold sCa; rw [Int.toNat_natCast, hm]; omega
  have eb : sCa σ s = 8 * (s : Int) + m := by rw [ea]; omega
  have f1 : (sC3 σ s c).1 = σ.1 := sC2_1 σ s c
  have f2 : ∀ k, k ≠ 31 → (sC3 σ s c).2 k = (sC2 σ s c).2 k := fun k hk => by unfold sC3; rw [setA_2, if_neg hk]
  have g1 : ∀ k, k ≠ 29 → (sC2 σ s c).2 k = (sC1 σ s c).2 k := fun k hk => (sCt_fr _ s c _ _).2 k hk
  have g2 : ∀ k, k ≠ 29 → (sC1 σ s c).2 k = (setA σ 30 (sCa σ s).toNat c).2 k := fun k hk => (sCz_fr _ _ 6).2 k hk
  have hB1 : Bd (setA σ 30 (8 * s + m) 0) := hB.a (by show (0 : Int) ≤ 0 ∧ (0 : Int) ≤ 3; decide)
  have c27 : (sC1 σ s c).2 27 = σ.2 27 := sC1_2 σ s c (by decide) (by decide)
  have c33 : (sC1 σ s c).2 33 = σ.2 33 := sC1_2 σ s c (by decide) (by decide)
  have c28 : (sC1 σ s c).2 28 = σ.2 28 := sC1_2 σ s c (by decide) (by decide)
  have z29 : ∀ i : Nat, (sC1 σ s c).2 29 i = if 6 * sCa σ s ≤ i ∧ (i : Int) < 6 * sCa σ s + 6 then 0 else σ.2 29 i := fun i => by
    unfold sC1
    rw [sCz_29 _ _ (by omega)]
    rfl
  have rd27 : ∀ (k : Nat), 0 ≤ (sC1 σ s c).2 27 k ∧ (sC1 σ s c).2 27 k ≤ 5 := fun k => by rw [c27]; exact hB.2 27 k
  have t29 : ∀ i : Nat, (sC2 σ s c).2 29 i = if 6 * sCa σ s ≤ i ∧ (i : Int) < 6 * sCa σ s + 6 then rdN (fun q => (sC1 σ s c).2 27 (20 * s + q)) ((sC1 σ s c).2 33 c.toNat) ((sC1 σ s c).2 28 s).toNat (i - (6 * sCa σ s).toNat) else (sC1 σ s c).2 29 i := fun i => by
    unfold sC2
    rw [Int.toNat_natCast]
    exact sCt_29' rd27 s c _ (by omega) (fun i h1 h2 => by rw [z29, if_pos ⟨h1, h2⟩]) _ i
  refine ⟨f1, fun k h1 h2 h3 => ?_, ?_, ?_, fun i hi => ?_, fun x hx => ?_⟩
  · rw [f2 k h3, g1 k h1, g2 k h1, setA_2, if_neg h2]
  · rw [f2 30 (by decide), g1 30 (by decide), g2 30 (by decide), setA_2, if_pos rfl, ea, Int.toNat_natCast]
  · show uA ((sC2 σ s c).2 31) (s : Int).toNat ((sC2 σ s c).2 31 (s : Int).toNat + 1) = _
    rw [Int.toNat_natCast, g1 31 (by decide), g2 31 (by decide), setA_2, if_neg (by decide), hm]
  · rw [f2 29 (by decide), t29, if_neg (by omega), z29, if_neg (by omega)]
  · rw [f2 29 (by decide), t29, if_pos (by omega), c27, c33, c28, show 6 * (8 * s + m) + x - (6 * sCa σ s).toNat = x by omega]
theorem setA_setA (σ : MM) (k i : Nat) (v w : Int) : setA (setA σ k i v) k i w = setA σ k i w := by
  refine Prod.ext rfl (funext fun j => ?_)
  show (if j = k then uA (if k = k then uA (σ.2 k) i v else σ.2 k) i w else if j = k then uA (σ.2 k) i v else σ.2 j) = (if j = k then uA (σ.2 k) i w else σ.2 j)
  by_cases e : j = k
  · rw [if_pos e, if_pos e, if_pos rfl]
    funext x
    rw [uA_ap, uA_ap, uA_ap]
    split <;> rfl
  · rw [if_neg e, if_neg e, if_neg e]
theorem sSt_at {σ : MM} {s m : Nat} {a : Nat} : ∀ n : Nat, sSt σ s a n = if ∃ j : Nat, j < n ∧ sAl σ (8 * s + j) a 6 = 1 then setA σ 32 s a else σ
  | 0 => by rw [if_neg (fun ⟨j, hj, _⟩ => absurd hj (Nat.not_lt_zero _))]; rfl
  | n + 1 => by
    have ih := sSt_at (σ := σ) (s := s) (m := m) (a := a) n
    have fr := sSt_fr σ s a n
    have ea : sAl (sSt σ s a n) (8 * s + n) a 6 = sAl σ (8 * s + n) a 6 := sAl_ext (fr.2 29 (by decide)) (fr.2 30 (by decide)) _ _ 6
    show setA (sSt σ s a n) 32 (s : Int).toNat (if sAl (sSt σ s a n) (8 * s + n) a 6 = 1 then (a : Int) else (sSt σ s a n).2 32 (s : Int).toNat) = _
    rw [ea, Int.toNat_natCast]
    by_cases g : ∃ j : Nat, j < n ∧ sAl σ (8 * s + j) a 6 = 1
    · rw [if_pos g] at ih
      obtain ⟨j, hj, hj2⟩ := g
      refine Eq.trans ?_ (if_pos ⟨j, by omega, hj2⟩).symm
      rw [ih]
      have e9 : (setA σ 32 s a).2 32 s = (a : Int) := by rw [setA_2, if_pos rfl, uA_self]
      have e8 : (if sAl σ (8 * s + n) a 6 = 1 then (a : Int) else (setA σ 32 s a).2 32 s) = (a : Int) := by rw [e9]; split <;> rfl
      rw [e8]
      exact setA_setA _ _ _ _ _
    · rw [if_neg g] at ih
      rw [ih]
      by_cases q : sAl σ (8 * s + n) a 6 = 1
      · rw [if_pos q, if_pos ⟨n, by omega, q⟩]
      · rw [if_neg q, setA_self, if_neg]
        rintro ⟨j, hj, hj2⟩
        rcases Nat.lt_or_ge j n with z | z
        · exact g ⟨j, z, hj2⟩
        · rw [show j = n by omega] at hj2; exact q hj2
end REL10
