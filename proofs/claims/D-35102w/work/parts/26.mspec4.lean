/-! THE REFERENCE'S INVARIANT: a day; what voids writes -/
set_option maxRecDepth 100000
section MSP4
theorem sVoids_1 (σ : MM) (p : Int) {k : Nat} (hk : k ≠ 42) : (sVoids σ p).1 k = σ.1 k := by
  unfold sVoids
  split
  · rfl
  · show (if k = 42 then _ else σ.1 k) = σ.1 k
    rw [if_neg hk]
theorem sVoids_2 (σ : MM) (p : Int) {k : Nat} (hk : k ≠ 25 ∧ k ≠ 39 ∧ k ≠ 40 ∧ k ≠ 41) : (sVoids σ p).2 k = σ.2 k := by
  unfold sVoids
  split
  · rfl
  · unfold sNote
    rw [setI_2, setA_2, if_neg hk.2.2.2, setA_2, if_neg hk.2.2.1, setA_2, if_neg hk.2.1, setA_2, if_neg hk.1]
theorem sVoids_42 (σ : MM) (p : Int) : σ.1 42 ≤ (sVoids σ p).1 42 ∧ (sVoids σ p).1 42 ≤ σ.1 42 + 1 := by
  unfold sVoids
  split
  · omega
  · show σ.1 42 ≤ (if 42 = 42 then σ.1 42 + 1 else σ.1 42) ∧ (if 42 = 42 then σ.1 42 + 1 else σ.1 42) ≤ _
    rw [if_pos rfl]
    omega
theorem Bd.note {σ : MM} (h : Bd σ) {t g p : Int} (ht : 0 ≤ t ∧ t ≤ 2100) (hg : 0 ≤ g ∧ g ≤ 127) (hp : 0 ≤ p ∧ p ≤ 19) (hn : σ.1 42 < 1000) : Bd (sNote σ t g p) := by
  have n1 : 0 ≤ σ.1 42 := (h.1 42).1
  exact (((h.a (by show (0 : Int) ≤ t ∧ t ≤ 2100; exact ht)).a (by show (0 : Int) ≤ g ∧ g ≤ 127; exact hg)).a (by show (0 : Int) ≤ p ∧ p ≤ 19; exact hp)).i (by show 0 ≤ σ.1 42 + 1 ∧ σ.1 42 + 1 ≤ 1000; omega)
theorem Bd.casts {σ : MM} (h : Bd σ) {p v : Int} (hv : 0 ≤ v ∧ v ≤ 5) (hb : σ.2 28 (σ.2 20 p.toNat).toNat ≤ 19) : Bd (sCasts σ p v) := by
  have b1 : 0 ≤ σ.2 28 (σ.2 20 p.toNat).toNat := (h.2 28 _).1
  exact ((h.a (by show (0 : Int) ≤ v ∧ v ≤ 5; exact hv)).a (by show (0 : Int) ≤ _ ∧ _ ≤ (20 : Int); omega)).a (by show (0 : Int) ≤ 1 ∧ (1 : Int) ≤ 1; decide)
theorem In.voids {σ : MM} (h : In σ) {p : Int} (hp : 0 ≤ p ∧ p ≤ 19) (hn : σ.1 42 < 1000) : In (sVoids σ p) := by
  unfold sVoids
  split
  · exact h
  · exact In.note (h.unseal (Or.inl rfl)) (h.1.1 0) (by decide) hp hn
theorem Bd.voids {σ : MM} (h : Bd σ) {p : Int} (hp : 0 ≤ p ∧ p ≤ 19) (hn : σ.1 42 < 1000) : Bd (sVoids σ p) := by
  unfold sVoids
  split
  · exact h
  · have n1 : 0 ≤ σ.1 42 := (h.1 42).1
    have n0 : 0 ≤ σ.1 0 ∧ σ.1 0 ≤ 2100 := h.1 0
    exact ((((h.a (by show (0 : Int) ≤ 1 ∧ (1 : Int) ≤ 2; decide)).a (by show 0 ≤ σ.1 0 ∧ σ.1 0 ≤ 2100; exact n0)).a (by show (0 : Int) ≤ 120 ∧ (120 : Int) ≤ 127; decide)).a (by show (0 : Int) ≤ p ∧ p ≤ 19; exact hp)).i (by show 0 ≤ σ.1 42 + 1 ∧ σ.1 42 + 1 ≤ 1000; omega)
/-- behind it no sealed envelope of that person is left -/
theorem sSealed_none {σ : MM} {p : Int} : ∀ n : Nat, sSealed σ p n = -1 → ∀ i : Nat, i < n → σ.2 25 i = 0 → σ.2 23 i ≠ p
  | 0, _, i, hi, _ => absurd hi (Nat.not_lt_zero _)
  | n + 1, h, i, hi, h0 => by
    unfold sSealed at h
    by_cases c : σ.2 23 n = p ∧ σ.2 25 n = 0
    · rw [if_pos c] at h; omega
    · rw [if_neg c] at h
      by_cases e : i = n
      · subst e; exact fun z => c ⟨z, h0⟩
      · exact sSealed_none n h i (by omega) h0
theorem sSealed_some {σ : MM} {p : Int} : ∀ n : Nat, sSealed σ p n ≠ -1 → σ.2 23 (sSealed σ p n).toNat = p ∧ σ.2 25 (sSealed σ p n).toNat = 0
  | 0, h => absurd rfl h
  | n + 1, h => by
    unfold sSealed at h ⊢
    by_cases c : σ.2 23 n = p ∧ σ.2 25 n = 0
    · rw [if_pos c]; exact c
    · rw [if_neg c] at h ⊢; exact sSealed_some n h
theorem In.sealed_only {σ : MM} (h : In σ) {p : Int} {k : Nat} (hk : (k : Int) < σ.1 26) (hp : σ.2 23 k = p) (h0 : σ.2 25 k = 0) {v : Int} (hv : v ≠ 0) : ∀ i : Nat, (i : Int) < σ.1 26 → (setA σ 25 k v).2 25 i = 0 → σ.2 23 i ≠ p := by
  intro i hi hi0
  obtain ⟨-, -, -, -, -, -, -, h6, -⟩ := h
  have h9 : uA (σ.2 25) k v i = 0 := hi0
  rw [uA_ap] at h9
  split at h9
  · exact absurd h9 hv
  · rename_i hne
    rw [← hp]
    rcases Nat.lt_or_gt_of_ne hne with g | g
    · exact h6 i k g hk h9 h0
    · exact fun z => h6 k i g hi h0 h9 z.symm
theorem In.voided {σ : MM} (h : In σ) (p : Int) : ∀ i : Nat, (i : Int) < (sVoids σ p).1 26 → (sVoids σ p).2 25 i = 0 → (sVoids σ p).2 23 i ≠ p := by
  intro i hi h0
  rw [sVoids_1 σ p (by decide)] at hi
  rw [sVoids_2 σ p (k := 23) (by decide)]
  unfold sVoids at h0
  split at h0
  · rename_i hz
    exact sSealed_none _ hz i (by omega) h0
  · rename_i hz
    have h1 := sSealed_some _ hz
    have h2 := sSealed_rng σ p (σ.1 26).toNat
    have hn : 0 ≤ σ.1 26 := (h.1.1 26).1
    exact h.sealed_only (k := (sSealed σ p (σ.1 26).toNat).toNat) (by omega) h1.1 h1.2 (v := 1) (by decide) i hi h0
theorem In.i43 {σ : MM} (h : In σ) {v : Int} (hv : 0 ≤ v ∧ v ≤ 3) : In (setI σ 43 v) := by
  obtain ⟨hB, hW, h1, h2, h3, h4, h5, h6, h7, h8, s1, s2, s3, s4⟩ := h
  exact ⟨hB.i (by show (0 : Int) ≤ v ∧ v ≤ 3; exact hv), hW, h1, h2, h3, h4, h5, h6, h7, h8, s1, s2, s3, s4⟩
/-! the roll keeps it -/
theorem sRollStep_1 (s : MM) (n : Nat) : (sRollStep s n).1 = s.1 := by
  unfold sRollStep
  split
  · show (sRollF s n).1 = s.1
    exact sFinds_1 _ _
  · rfl
theorem sRollStep_own (s : MM) (n j : Nat) : (sRollStep s n).2 20 j = s.2 20 j ∨ (j = n ∧ (sRollStep s n).2 20 j = sFor (sRollF s n)) := by
  unfold sRollStep
  split
  · rw [setA_2, if_neg (by decide), setA_2, if_pos rfl, uA_ap]
    split
    · rename_i e; exact Or.inr ⟨e, rfl⟩
    · left; unfold sRollF; rw [sFinds_2 _ _ (by decide)]
  · exact Or.inl rfl
theorem sRollStep_crowd (s : MM) (n j : Nat) (hj : j ≠ (sFor (sRollF s n)).toNat) : (sRollStep s n).2 21 j = s.2 21 j := by
  unfold sRollStep
  split
  · rw [setA_2, if_pos rfl, uA_ne hj, setA_2, if_neg (by decide)]
    unfold sRollF
    rw [sFinds_2 _ _ (by decide)]
  · rfl
theorem sFor_lt {σ : MM} (hN : 1 ≤ σ.1 19) : sFor σ < σ.1 19 := by
  have h2 := sBest1_rng σ (σ.1 19).toNat
  have h3 := sBest2_rng σ (σ.1 19).toNat
  unfold sFor
  (repeat' split) <;> omega
theorem sFor_ge (σ : MM) : 0 ≤ sFor σ := by
  have h2 := sBest1_rng σ (σ.1 19).toNat
  have h3 := sBest2_rng σ (σ.1 19).toNat
  unfold sFor
  (repeat' split) <;> omega
theorem sRollN_own {σ : MM} (hN : 1 ≤ σ.1 6) (h0 : ∀ p : Nat, p < 20 → σ.2 20 p = -1) : ∀ n : Nat, (∀ p : Nat, p < 20 → (sRollN σ n).2 20 p = -1 ∨ (p < n ∧ 0 ≤ (sRollN σ n).2 20 p ∧ (sRollN σ n).2 20 p < σ.1 6)) ∧ ∀ s : Nat, σ.1 6 ≤ s → (sRollN σ n).2 21 s = σ.2 21 s
  | 0 => ⟨fun p hp => Or.inl (h0 p hp), fun _ _ => rfl⟩
  | n + 1 => by
    obtain ⟨i1, i2⟩ := sRollN_own hN h0 n
    have e19 : (sRollF (sRollN σ n) n).1 19 = σ.1 6 := by
      show (sFinds (sRollN σ n) _).1 19 = _
      rw [sFinds_1, (sRollN_fr σ 10 (by decide) n).1]
      rfl
    have hl := sFor_lt (σ := sRollF (sRollN σ n) n) (by rw [e19]; exact hN)
    have hg := sFor_ge (sRollF (sRollN σ n) n)
    rw [e19] at hl
    refine ⟨fun p hp => ?_, fun s hs => ?_⟩
    · show (sRollStep (sRollN σ n) n).2 20 p = -1 ∨ (p < n + 1 ∧ 0 ≤ (sRollStep (sRollN σ n) n).2 20 p ∧ (sRollStep (sRollN σ n) n).2 20 p < σ.1 6)
      rcases sRollStep_own (sRollN σ n) n p with e | ⟨e1, e2⟩
      · rw [e]
        rcases i1 p hp with g | g
        · exact Or.inl g
        · exact Or.inr ⟨by omega, g.2⟩
      · rw [e2]
        exact Or.inr ⟨by omega, hg, hl⟩
    · show (sRollStep (sRollN σ n) n).2 21 s = _
      rw [sRollStep_crowd _ _ _ (by omega)]
      exact i2 s hs
theorem In.rollPre {σ : MM} (h : In σ) (hs : σ.1 14 = 1) (hd : σ.1 0 + 1 = σ.1 15 - 6) : RollPre (setI σ 0 (σ.1 0 + 1)) := by
  obtain ⟨hB, hW, h1, h2, h3, h4, h5, h6, h7, h8, s1, s2, s3, s4⟩ := h
  have n0 : 0 ≤ σ.1 0 ∧ σ.1 0 ≤ 2100 := hB.1 0
  have n15 : 0 ≤ σ.1 15 ∧ σ.1 15 ≤ 2000 := hB.1 15
  have hz := s1 (by omega)
  refine ⟨hB.i (by show 0 ≤ σ.1 0 + 1 ∧ σ.1 0 + 1 ≤ 2100; omega), fun i hi => (h3 i hi (by rw [hz.1]; omega)).1, fun p hp => ?_⟩
  obtain ⟨j, hj1, hj2⟩ := hW.2 p hp
  have h9 := (hW.1 j hj1).2
  have := sDwelt_has hB (p := p) (t := σ.1 15 - 7) (j := j) ⟨hj2, by omega⟩ (σ.1 13).toNat (by omega)
  have e := sDwelt_ext (σ := σ) (s := setI σ 0 (σ.1 0 + 1)) rfl rfl rfl p (σ.1 15 - 7) (σ.1 13).toNat
  show 0 ≤ sDwelt (setI σ 0 (σ.1 0 + 1)) p (σ.1 15 - 7) (σ.1 13).toNat
  rw [e]
  exact this
theorem In.roll {σ : MM} (h : In σ) (hs : σ.1 14 = 1) (hd : σ.1 0 + 1 = σ.1 15 - 6) : In (sRoll (setI σ 0 (σ.1 0 + 1))) ∧ ∀ j : Nat, j ≠ 14 → j ≠ 19 → (sRoll (setI σ 0 (σ.1 0 + 1))).1 j = (setI σ 0 (σ.1 0 + 1)).1 j := by
  have hP := h.rollPre hs hd
  obtain ⟨hB, hW, h1, h2, h3, h4, h5, h6, h7, h8, s1, s2, s3, s4⟩ := h
  obtain ⟨z1, z2, z3⟩ := s1 (by omega)
  have hst : 1 ≤ σ.1 6 := s2.1 (by omega)
  have n9 : 0 ≤ σ.1 9 ∧ σ.1 9 ≤ 20 := hB.1 9
  have hBr := sRoll_bd hP
  obtain ⟨S, hS⟩ : ∃ S, S = setI σ 0 (σ.1 0 + 1) := ⟨_, rfl⟩
  rw [← hS] at hBr hP ⊢
  have S1e : ∀ j : Nat, S.1 j = if j = 0 then σ.1 0 + 1 else σ.1 j := fun j => by rw [hS]; rfl
  have S2e : S.2 = σ.2 := by rw [hS]; rfl
  have r1 : ∀ j : Nat, (sRoll S).1 j = if j = 19 then σ.1 6 else if j = 14 then 2 else if j = 0 then σ.1 0 + 1 else σ.1 j := fun j => by
    show (sRollN S (S.1 9).toNat).1 j = _
    rw [(sRollN_fr S 10 (by decide) _).1]
    show (if j = 19 then S.1 6 else if j = 14 then 2 else S.1 j) = _
    rw [S1e 6, S1e j]
    rfl
  have r2 : ∀ k : Nat, k ≠ 2 ∧ k ≠ 3 ∧ k ≠ 20 ∧ k ≠ 21 → (sRoll S).2 k = σ.2 k := fun k hk => by
    show (sRollN S (S.1 9).toNat).2 k = _
    rw [(sRollN_fr S k hk _).2, S2e]
  have r3 := sRollN_own (σ := S) (by rw [S1e]; exact hst) (fun p hp => by rw [S2e]; exact z3 p hp) (S.1 9).toNat
  have e6 : S.1 6 = σ.1 6 := S1e 6
  have e9 : S.1 9 = σ.1 9 := S1e 9
  refine ⟨⟨hBr, ?_, ?_, ?_, ?_, ?_, ?_, ?_, ?_, ?_, ?_, ?_, ?_, ?_⟩, fun j j1 j2 => ?_⟩
  · unfold IW
    rw [r1 13, r1 9, r1 0, r2 10 (by decide), r2 11 (by decide)]
    exact ⟨fun j hj => ⟨(hW.1 j hj).1, by have := (hW.1 j hj).2; show σ.2 11 j ≤ σ.1 0 + 1; omega⟩, hW.2⟩
  · rw [r1 19, r1 6]; exact Int.le_refl _
  · intro p hp ho
    rw [r1 19, r1 9]
    rcases r3.1 p hp with g | g
    · exact absurd g ho
    · rw [e6] at g
      refine ⟨?_, ?_⟩
      · show (sRollN S (S.1 9).toNat).2 20 p < σ.1 6
        exact g.2.2
      · rw [e9] at g
        show (p : Int) < σ.1 9
        omega
  · intro s hs5 hsi
    rw [r1 19] at hsi
    have hsi' : σ.1 6 ≤ s := hsi
    have h9 := h3 s hs5 (by rw [z1]; omega)
    rw [r2 28 (by decide), r2 31 (by decide), r2 32 (by decide)]
    refine ⟨?_, h9.2⟩
    have := r3.2 s (by rw [e6]; exact hsi')
    show (sRollN S (S.1 9).toNat).2 21 s = 0
    rw [this, S2e]
    exact h9.1
  · intro i hi
    rw [r1 26] at hi
    have : (i : Int) < σ.1 26 := hi
    omega
  · intro i hi
    rw [r1 26] at hi
    have : (i : Int) < σ.1 26 := hi
    omega
  · intro i j _ hj
    rw [r1 26] at hj
    have : (j : Int) < σ.1 26 := hj
    omega
  · unfold E7
    rw [r2 28 (by decide), r2 22 (by decide)]
    exact h7
  · unfold E8
    rw [r2 32 (by decide), r2 31 (by decide)]
    exact h8
  · intro h9
    rw [r1 14] at h9
    exact absurd (show (2 : Int) ≤ 1 from h9) (by decide)
  · unfold S2
    rw [r1 6, r1 19]
    exact ⟨fun _ => hst, fun _ => hst⟩
  · intro h9
    rw [r1 14] at h9
    exact absurd (show (2 : Int) = 3 from h9) (by decide)
  · intro h9
    rw [r1 14] at h9
    exact absurd (show (2 : Int) = 5 from h9) (by decide)
  · rw [r1, S1e, if_neg j2, if_neg j1]
theorem In.today {σ : MM} (h : In σ) (h3 : σ.1 14 ≠ 3) (hd : σ.1 0 < 2100) : In (setI σ 0 (σ.1 0 + 1)) := by
  obtain ⟨hB, hW, h1, h2, h3', h4, h5, h6, h7, h8, s1, s2, s3, s4⟩ := h
  have n0 : 0 ≤ σ.1 0 := (hB.1 0).1
  exact ⟨hB.i (by show 0 ≤ σ.1 0 + 1 ∧ σ.1 0 + 1 ≤ 2100; omega), ⟨fun j hj => ⟨(hW.1 j hj).1, by have := (hW.1 j hj).2; show σ.2 11 j ≤ σ.1 0 + 1; omega⟩, hW.2⟩, h1, h2, h3', h4, h5, h6, h7, h8, s1, s2, fun h => absurd h h3, s4⟩
theorem In.day {σ : MM} (h : In σ) {T : Nat} (hT : T ≤ 64) (hN : NB σ T) (hd : σ.1 0 < 2100) : In (sDay σ) ∧ NB (sDay σ) T ∧ (sDay σ).1 0 = σ.1 0 + 1 := by
  unfold sDay
  have n14 : 0 ≤ σ.1 14 ∧ σ.1 14 ≤ 5 := h.1.1 14
  have n0 : 0 ≤ σ.1 0 ∧ σ.1 0 ≤ 2100 := h.1.1 0
  have n26 : 0 ≤ σ.1 26 ∧ σ.1 26 ≤ 60 := h.1.1 26
  split
  · rename_i c
    obtain ⟨g1, g2⟩ := h.roll c.1 c.2
    refine ⟨g1, ⟨?_, ?_⟩, ?_⟩
    · rw [g2 13 (by decide) (by decide)]; exact hN.1
    · rw [g2 42 (by decide) (by decide)]
      have h9 : σ.1 42 ≤ 2 * T + (if 4 ≤ σ.1 14 then 60 else 0) := hN.2
      rw [if_neg (by omega)] at h9
      show σ.1 42 ≤ _
      split <;> omega
    · rw [g2 0 (by decide) (by decide)]; rfl
  · split
    · rename_i c
      have h1 := h.today (by omega) hd
      obtain ⟨hB, hW, h1, h2, h3, h4, h5, h6, h7, h8, s1, s2, s3, s4⟩ := h1
      refine ⟨⟨hB.i (by show (0 : Int) ≤ 3 ∧ (3 : Int) ≤ 5; decide), hW, h1, h2, h3, h4, h5, h6, h7, h8, fun h => absurd (show (3 : Int) ≤ 1 from h) (by decide), ⟨fun _ => s2.1 (by show σ.1 14 ≠ 0; omega), fun _ => s2.2 (by show 2 ≤ σ.1 14; omega)⟩, fun _ => c.2, fun h => absurd (show (3 : Int) = 5 from h) (by decide)⟩, ⟨hN.1, ?_⟩, rfl⟩
      have h9 : σ.1 42 ≤ 2 * T + (if 4 ≤ σ.1 14 then 60 else 0) := hN.2
      rw [if_neg (by omega)] at h9
      show σ.1 42 ≤ 2 * T + (if (4 : Int) ≤ 3 then 60 else 0)
      rw [if_neg (by decide)]
      exact h9
    · split
      · rename_i c
        have h9 : σ.1 42 ≤ 2 * T + (if 4 ≤ σ.1 14 then 60 else 0) := hN.2
        rw [if_neg (by omega)] at h9
        have h4 := h.stage4 (d := σ.1 0 + 1) (by omega) ⟨by omega, by omega⟩
        have e26 : (setI σ 0 (σ.1 0 + 1)).1 26 = σ.1 26 := rfl
        obtain ⟨k1, k2, k3⟩ := sClN_In (σ := setI σ 0 (σ.1 0 + 1)) h4 (by show σ.1 42 ≤ 900; omega) (σ.1 26).toNat (by rw [e26]; omega)
        have hc : sCloses (setI σ 0 (σ.1 0 + 1)) = sClN (setI σ 0 (σ.1 0 + 1)) (σ.1 26).toNat := rfl
        rw [hc]
        refine ⟨k1, ⟨by rw [k2 13 (by decide)]; exact hN.1, ?_⟩, by rw [k2 0 (by decide)]; rfl⟩
        rw [k2 14 (by decide)]
        show _ ≤ 2 * (T : Int) + (if (4 : Int) ≤ 4 then 60 else 0)
        rw [if_pos (by decide)]
        have e42 : (setI σ 0 (σ.1 0 + 1)).1 42 = σ.1 42 := rfl
        rw [e42] at k3
        omega
      · exact ⟨h.today (by omega) hd, hN, rfl⟩
theorem In.adv {σ : MM} (h : In σ) {T : Nat} (hT : T ≤ 64) (hN : NB σ T) : ∀ n : Nat, σ.1 0 + n ≤ 2100 → In (sAdv σ n) ∧ NB (sAdv σ n) T ∧ (sAdv σ n).1 0 = σ.1 0 + n
  | 0, _ => ⟨h, hN, by show σ.1 0 = σ.1 0 + 0; omega⟩
  | n + 1, hn => by
    obtain ⟨i1, i2, i3⟩ := h.adv hT hN n (by omega)
    obtain ⟨k1, k2, k3⟩ := i1.day hT i2 (by omega)
    exact ⟨k1, k2, by show (sDay (sAdv σ n)).1 0 = _; rw [k3, i3]; omega⟩
end MSP4
