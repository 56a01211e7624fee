/-! THE REFERENCE'S FUNCTIONS: the roll, the close, a day; the invariant -/
set_option maxRecDepth 100000
section MSP3
/-! frames -/
theorem sFi_fr (σ : MM) (k : Nat) (hk : k ≠ 2) : ∀ n : Nat, (sFi σ n).1 = σ.1 ∧ (sFi σ n).2 k = σ.2 k
  | 0 => ⟨rfl, rfl⟩
  | n + 1 => ⟨(sFi_fr σ k hk n).1, by unfold sFi; rw [setA_2, if_neg hk]; exact (sFi_fr σ k hk n).2⟩
theorem sFs_fr (σ : MM) (m : Int) (a k : Nat) (hk : k ≠ 2 ∧ k ≠ 3) : ∀ n : Nat, (sFs σ m a n).1.1 = σ.1 ∧ (sFs σ m a n).1.2 k = σ.2 k
  | 0 => ⟨rfl, rfl⟩
  | n + 1 => by
    have ih := sFs_fr σ m a k hk n
    unfold sFs
    split
    · refine ⟨ih.1, ?_⟩
      show (setA (setA (sFs σ m a n).1 2 n _) 3 _ _).2 k = σ.2 k
      rw [setA_2, if_neg hk.2, setA_2, if_neg hk.1]
      exact ih.2
    · exact ih
theorem sFo_fr (σ : MM) (m : Int) (k : Nat) (hk : k ≠ 2 ∧ k ≠ 3) : ∀ n : Nat, (sFo σ m n).1.1 = σ.1 ∧ (sFo σ m n).1.2 k = σ.2 k
  | 0 => ⟨rfl, rfl⟩
  | n + 1 => by
    have ih := sFo_fr σ m k hk n
    unfold sFo
    split
    · have h2 := sFs_fr (sFo σ m n).1 (sFo σ m n).2 n k hk 36
      exact ⟨h2.1.trans ih.1, h2.2.trans ih.2⟩
    · exact ih
theorem sFinds_1 (σ : MM) (c : Int) : (sFinds σ c).1 = σ.1 := by
  unfold sFinds
  rw [(sFo_fr _ _ 0 (by decide) 36).1, setA_1, setA_1]
  exact (sFi_fr σ 0 (by decide) 36).1
theorem sFinds_2 (σ : MM) (c : Int) {k : Nat} (hk : k ≠ 2 ∧ k ≠ 3) : (sFinds σ c).2 k = σ.2 k := by
  unfold sFinds
  rw [(sFo_fr _ _ k hk 36).2, setA_2, if_neg hk.2, setA_2, if_neg hk.1]
  exact (sFi_fr σ k hk.1 36).2
theorem BI.inner {s : MM} {m : Int} {a : Nat} (h : BI s m) (ha : (a : Int) < m) : ∀ n : Nat, n ≤ 36 → BI (sFs s m a n).1 (sFs s m a n).2 ∧ m ≤ (sFs s m a n).2
  | 0, _ => ⟨h, Int.le_refl _⟩
  | n + 1, hn => by
    have ih := BI.inner h ha n (by omega)
    unfold sFs
    split
    · rename_i hc
      exact ⟨ih.1.step (by omega) (by omega) hc.2.2, by have := ih.2; show m ≤ (sFs s m a n).2 + 1; omega⟩
    · exact ih
theorem sFo_BI {S : MM} (h : BI S 1) : ∀ n : Nat, BI (sFo S 1 n).1 (sFo S 1 n).2
  | 0 => h
  | n + 1 => by
    have ih := sFo_BI h n
    unfold sFo
    split
    · rename_i hc
      exact (ih.inner hc 36 (Nat.le_refl _)).1
    · exact ih
theorem sFinds_bd {σ : MM} (h : Bd σ) {c : Int} (hc : isC c) : Bd (sFinds σ c) := (sFo_BI (BI.start h hc) 36).1
theorem sDwelt_ext {σ s : MM} (h0 : s.2 10 = σ.2 10) (h1 : s.2 11 = σ.2 11) (h2 : s.2 12 = σ.2 12) (p t : Int) : ∀ n : Nat, sDwelt s p t n = sDwelt σ p t n
  | 0 => rfl
  | n + 1 => by unfold sDwelt; rw [h0, h1, h2, sDwelt_ext h0 h1 h2 p t n]
theorem sDwelt_rng {σ : MM} (h : Bd σ) (p t : Int) : ∀ n : Nat, -1 ≤ sDwelt σ p t n ∧ sDwelt σ p t n ≤ 35
  | 0 => by unfold sDwelt; omega
  | n + 1 => by
    unfold sDwelt
    have h1 : 0 ≤ σ.2 12 n ∧ σ.2 12 n ≤ 35 := h.2 12 n
    have := sDwelt_rng h p t n
    split <;> omega
theorem sDwelt_has {σ : MM} (h : Bd σ) {p t : Int} {j : Nat} (hj : σ.2 10 j = p ∧ σ.2 11 j ≤ t) : ∀ n : Nat, j < n → 0 ≤ sDwelt σ p t n
  | 0, hn => absurd hn (Nat.not_lt_zero _)
  | n + 1, hn => by
    unfold sDwelt
    have h1 : 0 ≤ σ.2 12 n ∧ σ.2 12 n ≤ 35 := h.2 12 n
    by_cases e : j = n
    · subst e
      rw [if_pos hj]
      exact h1.1
    · have := sDwelt_has h hj n (by omega)
      split <;> omega
theorem sFor_rng {σ : MM} (h : Bd σ) : 0 ≤ sFor σ ∧ sFor σ ≤ 4 := by
  have h1 : 0 ≤ σ.1 19 ∧ σ.1 19 ≤ 5 := h.1 19
  have h2 := sBest1_rng σ (σ.1 19).toNat
  have h3 := sBest2_rng σ (σ.1 19).toNat
  unfold sFor
  (repeat' split) <;> omega
/-! the roll -/
def sRollC (s : MM) (n : Nat) : Int := sDwelt s n (s.1 15 - 7) (s.1 13).toNat
def sRollF (s : MM) (n : Nat) : MM := sFinds s (sRollC s n)
def sRollStep (s : MM) (n : Nat) : MM := if s.2 8 n = 0 ∧ s.2 7 n ≤ s.1 15 then setA (setA (sRollF s n) 20 n (sFor (sRollF s n))) 21 (sFor (sRollF s n)).toNat ((sRollF s n).2 21 (sFor (sRollF s n)).toNat + 1) else s
def sRollN (σ : MM) : Nat → MM
  | 0 => setI (setI σ 14 2) 19 (σ.1 6)
  | n + 1 => sRollStep (sRollN σ n) n
def sRoll (σ : MM) : MM := sRollN σ (σ.1 9).toNat
def RollPre (σ : MM) : Prop := Bd σ ∧ (∀ i : Nat, i < 5 → σ.2 21 i = 0) ∧ ∀ p : Nat, (p : Int) < σ.1 9 → 0 ≤ sDwelt σ p (σ.1 15 - 7) (σ.1 13).toNat
theorem sRollN_fr (σ : MM) (k : Nat) (hk : k ≠ 2 ∧ k ≠ 3 ∧ k ≠ 20 ∧ k ≠ 21) : ∀ n : Nat, (sRollN σ n).1 = (sRollN σ 0).1 ∧ (sRollN σ n).2 k = σ.2 k
  | 0 => ⟨rfl, rfl⟩
  | n + 1 => by
    have ih := sRollN_fr σ k hk n
    unfold sRollN sRollStep
    split
    · refine ⟨?_, ?_⟩
      · show (sRollF (sRollN σ n) n).1 = _
        exact (sFinds_1 _ _).trans ih.1
      · rw [setA_2, if_neg hk.2.2.2, setA_2, if_neg hk.2.2.1]
        exact (sFinds_2 _ _ ⟨hk.1, hk.2.1⟩).trans ih.2
    · exact ih
theorem sRollC_eq (σ : MM) (n p : Nat) : sRollC (sRollN σ n) p = sDwelt σ p (σ.1 15 - 7) (σ.1 13).toNat := by
  unfold sRollC
  rw [(sRollN_fr σ 10 (by decide) n).1, sDwelt_ext (sRollN_fr σ 10 (by decide) n).2 (sRollN_fr σ 11 (by decide) n).2 (sRollN_fr σ 12 (by decide) n).2]
  rfl
theorem rollI {σ : MM} (h : RollPre σ) : ∀ n : Nat, n ≤ 20 → (n : Int) ≤ σ.1 9 → Bd (sRollN σ n) ∧ ∀ i : Nat, i < 5 → (sRollN σ n).2 21 i ≤ n
  | 0, _, _ => ⟨(h.1.i (by show (0 : Int) ≤ 2 ∧ (2 : Int) ≤ 5; decide)).i (by show 0 ≤ σ.1 6 ∧ σ.1 6 ≤ 5; exact h.1.1 6), fun i hi => by show σ.2 21 i ≤ 0; rw [h.2.1 i hi]; decide⟩
  | n + 1, hn, hp => by
    obtain ⟨ih1, ih2⟩ := rollI h n (by omega) (by omega)
    unfold sRollN sRollStep
    split
    · have hc : isC (sRollC (sRollN σ n) n) := by
        rw [sRollC_eq]
        have h1 := h.2.2 n (by omega)
        have h2 := sDwelt_rng h.1 n (σ.1 15 - 7) (σ.1 13).toNat
        exact ⟨h1, h2.2⟩
      have hB := sFinds_bd ih1 hc
      have hr := sFor_rng hB
      have he : (sRollF (sRollN σ n) n).2 21 = (sRollN σ n).2 21 := sFinds_2 _ _ (by decide)
      have h5 := ih2 (sFor (sRollF (sRollN σ n) n)).toNat (by have h9 := hr; unfold sRollF; omega)
      have h6 : 0 ≤ (sRollN σ n).2 21 (sFor (sRollF (sRollN σ n) n)).toNat := (ih1.2 21 _).1
      refine ⟨(Bd.a hB (by show (-1 : Int) ≤ _ ∧ _ ≤ (4 : Int); unfold sRollF; omega)).a ?_, fun i hi => ?_⟩
      · show (0 : Int) ≤ (sRollF (sRollN σ n) n).2 21 _ + 1 ∧ _ ≤ (20 : Int)
        rw [he]
        omega
      · rw [setA_2, if_pos rfl, setA_2, if_neg (by decide), uA_ap, he]
        have := ih2 i hi
        split <;> omega
    · exact ⟨ih1, fun i hi => by have := ih2 i hi; omega⟩
theorem sRoll_bd {σ : MM} (h : RollPre σ) : Bd (sRoll σ) := by
  have h9 : 0 ≤ σ.1 9 ∧ σ.1 9 ≤ 20 := h.1.1 9
  exact (rollI h _ (by omega) (by omega)).1
/-! the close, a day -/
def sClStep (s : MM) (k : Nat) : MM := if s.2 25 k = 0 then sNote (sCasts (setA s 25 k 2) (s.2 23 k) (s.2 24 k)) (s.1 15) 115 (s.2 23 k) else s
def sClN (σ : MM) : Nat → MM
  | 0 => setI σ 14 4
  | k + 1 => sClStep (sClN σ k) k
def sCloses (σ : MM) : MM := sClN σ (σ.1 26).toNat
def sDay (σ : MM) : MM :=
  if σ.1 14 = 1 ∧ σ.1 0 + 1 = σ.1 15 - 6 then sRoll (setI σ 0 (σ.1 0 + 1))
  else if σ.1 14 = 2 ∧ σ.1 0 + 1 = σ.1 15 then setI (setI σ 0 (σ.1 0 + 1)) 14 3
  else if σ.1 14 = 3 then sCloses (setI σ 0 (σ.1 0 + 1)) else setI σ 0 (σ.1 0 + 1)
def sAdv (σ : MM) : Nat → MM
  | 0 => σ
  | n + 1 => sDay (sAdv σ n)
/-! sums -/
def sumN (f : Nat → Int) : Nat → Int
  | 0 => 0
  | n + 1 => sumN f n + f n
theorem sumN_ext {f g : Nat → Int} : ∀ n : Nat, (∀ j, j < n → f j = g j) → sumN f n = sumN g n
  | 0, _ => rfl
  | n + 1, h => by unfold sumN; rw [sumN_ext n (fun j hj => h j (by omega)), h n (by omega)]
theorem sumN_set {f : Nat → Int} {j : Nat} {v : Int} : ∀ n : Nat, j < n → sumN (uA f j v) n = sumN f n + (v - f j)
  | 0, h => absurd h (Nat.not_lt_zero _)
  | n + 1, h => by
    unfold sumN
    by_cases e : j = n
    · subst e
      rw [uA_self, sumN_ext (f := uA f j v) (g := f) j (fun i hi => uA_ne (by omega))]
      omega
    · rw [sumN_set n (by omega), uA_ne (Ne.symm e)]
      omega
theorem sumN_ge {f : Nat → Int} (hf : ∀ j, 0 ≤ f j) : ∀ n : Nat, 0 ≤ sumN f n
  | 0 => Int.le_refl _
  | n + 1 => by unfold sumN; have := sumN_ge hf n; have := hf n; omega
theorem sumN_at {f : Nat → Int} (hf : ∀ j, 0 ≤ f j) {j : Nat} : ∀ n : Nat, j < n → f j ≤ sumN f n
  | 0, h => absurd h (Nat.not_lt_zero _)
  | n + 1, h => by
    unfold sumN
    by_cases e : j = n
    · subst e; have := sumN_ge hf j; omega
    · have := sumN_at hf n (j := j) (by omega); have := hf n; omega
theorem sumN_lt {f : Nat → Int} (hf : ∀ j, f j ≤ 1) {j : Nat} (hj : f j = 0) : ∀ n : Nat, j < n → sumN f n < n
  | 0, h => absurd h (Nat.not_lt_zero _)
  | n + 1, h => by
    unfold sumN
    have hle : ∀ m : Nat, sumN f m ≤ m := fun m => by
      induction m with
      | zero => exact Int.le_refl _
      | succ m ih => unfold sumN; have := hf m; omega
    by_cases e : j = n
    · subst e; have := hle j; omega
    · have := sumN_lt hf hj n (by omega); have := hf n; omega
theorem sumN_0 {f : Nat → Int} : ∀ n : Nat, (∀ j, j < n → f j = 0) → sumN f n = 0
  | 0, _ => rfl
  | n + 1, h => by unfold sumN; rw [sumN_0 n (fun j hj => h j (by omega)), h n (by omega)]; rfl
/-! the invariant -/
def IW (σ : MM) : Prop := (∀ j : Nat, (j : Int) < σ.1 13 → σ.2 10 j < σ.1 9 ∧ σ.2 11 j ≤ σ.1 0) ∧ ∀ p : Nat, (p : Int) < σ.1 9 → ∃ j : Nat, (j : Int) < σ.1 13 ∧ σ.2 10 j = p
def E2 (σ : MM) : Prop := ∀ p : Nat, p < 20 → σ.2 20 p ≠ -1 → σ.2 20 p < σ.1 19 ∧ (p : Int) < σ.1 9
def E3 (σ : MM) : Prop := ∀ s : Nat, s < 5 → σ.1 19 ≤ s → σ.2 21 s = 0 ∧ σ.2 28 s = 0 ∧ σ.2 31 s = 0 ∧ σ.2 32 s = -1
def E4 (σ : MM) : Prop := ∀ i : Nat, (i : Int) < σ.1 26 → σ.2 23 i < σ.1 9 ∧ σ.2 20 (σ.2 23 i).toNat ≠ -1
def E5 (σ : MM) : Prop := ∀ i : Nat, (i : Int) < σ.1 26 → σ.2 25 i = 0 → σ.2 22 (σ.2 23 i).toNat = 0
def E6 (σ : MM) : Prop := ∀ i j : Nat, i < j → (j : Int) < σ.1 26 → σ.2 25 i = 0 → σ.2 25 j = 0 → σ.2 23 i ≠ σ.2 23 j
def E7 (σ : MM) : Prop := sumN (σ.2 28) 5 = sumN (σ.2 22) 20
def E8 (σ : MM) : Prop := ∀ s : Nat, s < 5 → σ.2 32 s = -1 ∨ (8 * (s : Int) ≤ σ.2 32 s ∧ σ.2 32 s < 8 * s + σ.2 31 s)
def S1 (σ : MM) : Prop := σ.1 14 ≤ 1 → σ.1 19 = 0 ∧ σ.1 26 = 0 ∧ ∀ p : Nat, p < 20 → σ.2 20 p = -1
def S2 (σ : MM) : Prop := (σ.1 14 ≠ 0 → 1 ≤ σ.1 6) ∧ (2 ≤ σ.1 14 → 1 ≤ σ.1 19)
def S3 (σ : MM) : Prop := σ.1 14 = 3 → σ.1 0 = σ.1 15
def S4 (σ : MM) : Prop := σ.1 14 = 5 → ∀ s : Nat, (s : Int) < σ.1 19 → σ.2 32 s ≠ -1
def In (σ : MM) : Prop := Bd σ ∧ IW σ ∧ σ.1 19 ≤ σ.1 6 ∧ E2 σ ∧ E3 σ ∧ E4 σ ∧ E5 σ ∧ E6 σ ∧ E7 σ ∧ E8 σ ∧ S1 σ ∧ S2 σ ∧ S3 σ ∧ S4 σ
/-- at most so many calls were made -/
def NB (σ : MM) (T : Nat) : Prop := σ.1 13 ≤ T ∧ σ.1 42 ≤ 2 * T + (if 4 ≤ σ.1 14 then 60 else 0)
theorem In.casts_le {σ : MM} (h : In σ) {p : Int} (hp : 0 ≤ p ∧ p ≤ 19) (ho : σ.2 20 p.toNat ≠ -1) (hv : σ.2 22 p.toNat = 0) : 0 ≤ σ.2 20 p.toNat ∧ σ.2 28 (σ.2 20 p.toNat).toNat ≤ 19 := by
  obtain ⟨hB, -, -, h2, -, -, -, -, h7, -⟩ := h
  have o1 : -1 ≤ σ.2 20 p.toNat ∧ σ.2 20 p.toNat ≤ 4 := hB.2 20 _
  have b0 : ∀ j, 0 ≤ σ.2 28 j := fun j => (hB.2 28 j).1
  have v1 : ∀ j, σ.2 22 j ≤ 1 := fun j => (hB.2 22 j).2
  have h3 := sumN_at b0 (j := (σ.2 20 p.toNat).toNat) 5 (by omega)
  have h4 := sumN_lt v1 hv 20 (by omega)
  unfold E7 at h7
  omega
theorem In.casts {σ : MM} (h : In σ) {p v : Int} (hp : 0 ≤ p ∧ p ≤ 19) (hvv : 0 ≤ v ∧ v ≤ 5) (ho : σ.2 20 p.toNat ≠ -1) (hv : σ.2 22 p.toNat = 0) (hs : ∀ i : Nat, (i : Int) < σ.1 26 → σ.2 25 i = 0 → σ.2 23 i ≠ p) : In (sCasts σ p v) := by
  have hc := h.casts_le hp ho hv
  obtain ⟨hB, hW, h1, h2, h3, h4, h5, h6, h7, h8, s1, s2, s3, s4⟩ := h
  have o1 : -1 ≤ σ.2 20 p.toNat ∧ σ.2 20 p.toNat ≤ 4 := hB.2 20 _
  have b1 : 0 ≤ σ.2 28 (σ.2 20 p.toNat).toNat := (hB.2 28 _).1
  have o2 := h2 p.toNat (by omega) ho
  refine ⟨((hB.a (by show (0 : Int) ≤ v ∧ v ≤ 5; exact hvv)).a (by show (0 : Int) ≤ _ ∧ _ ≤ (20 : Int); omega)).a (by show (0 : Int) ≤ 1 ∧ (1 : Int) ≤ 1; decide), hW, h1, h2, fun s hs5 hsi => ?_, h4, fun i hi hi0 => ?_, h6, ?_, h8, s1, s2, s3, s4⟩
  · have h9 := h3 s hs5 hsi
    refine ⟨h9.1, ?_, h9.2.2⟩
    show uA (σ.2 28) (σ.2 20 p.toNat).toNat _ s = 0
    rw [uA_ne (by have : σ.1 19 ≤ s := hsi; omega)]
    exact h9.2.1
  · show uA (σ.2 22) p.toNat 1 (σ.2 23 i).toNat = 0
    have hn := hs i hi hi0
    have hg : 0 ≤ σ.2 23 i := (hB.2 23 i).1
    rw [uA_ne (by omega)]
    exact h5 i hi hi0
  · show sumN (uA (σ.2 28) (σ.2 20 p.toNat).toNat (σ.2 28 (σ.2 20 p.toNat).toNat + 1)) 5 = sumN (uA (σ.2 22) p.toNat 1) 20
    rw [sumN_set 5 (by omega), sumN_set 20 (by omega), hv]
    unfold E7 at h7
    omega
theorem In.note {σ : MM} (h : In σ) {t g p : Int} (ht : 0 ≤ t ∧ t ≤ 2100) (hg : 0 ≤ g ∧ g ≤ 127) (hp : 0 ≤ p ∧ p ≤ 19) (hn : σ.1 42 < 1000) : In (sNote σ t g p) := by
  obtain ⟨hB, hW, h1, h2, h3, h4, h5, h6, h7, h8, s1, s2, s3, s4⟩ := h
  have n1 : 0 ≤ σ.1 42 := (hB.1 42).1
  exact ⟨(((hB.a (by show (0 : Int) ≤ t ∧ t ≤ 2100; exact ht)).a (by show (0 : Int) ≤ g ∧ g ≤ 127; exact hg)).a (by show (0 : Int) ≤ p ∧ p ≤ 19; exact hp)).i (by show 0 ≤ σ.1 42 + 1 ∧ σ.1 42 + 1 ≤ 1000; omega), hW, h1, h2, h3, h4, h5, h6, h7, h8, s1, s2, s3, s4⟩
/-- an envelope that isn't sealed any more -/
theorem In.unseal {σ : MM} (h : In σ) {k : Nat} {v : Int} (hv : v = 1 ∨ v = 2) : In (setA σ 25 k v) := by
  obtain ⟨hB, hW, h1, h2, h3, h4, h5, h6, h7, h8, s1, s2, s3, s4⟩ := h
  have key : ∀ i : Nat, (setA σ 25 k v).2 25 i = 0 → σ.2 25 i = 0 := fun i hi => by
    have h9 : uA (σ.2 25) k v i = 0 := hi
    rw [uA_ap] at h9
    split at h9
    · omega
    · exact h9
  exact ⟨hB.a (by show (0 : Int) ≤ v ∧ v ≤ 2; omega), hW, h1, h2, h3, h4, fun i hi h0 => h5 i hi (key i h0), fun i j hij hj h0 h00 => h6 i j hij hj (key i h0) (key j h00), h7, h8, s1, s2, s3, s4⟩
theorem In.clStep {σ : MM} (h : In σ) {k : Nat} (hk : (k : Int) < σ.1 26) (hn : σ.1 42 < 1000) : In (sClStep σ k) := by
  unfold sClStep
  split
  · rename_i h0
    have hB := h.1
    have e1 : 0 ≤ σ.2 23 k ∧ σ.2 23 k ≤ 19 := hB.2 23 k
    have e2 : 0 ≤ σ.2 24 k ∧ σ.2 24 k ≤ 5 := hB.2 24 k
    have d1 : 0 ≤ σ.1 15 ∧ σ.1 15 ≤ 2000 := hB.1 15
    obtain ⟨-, -, -, -, -, h4, h5, h6, -⟩ := id h
    have hu := h.unseal (k := k) (v := 2) (Or.inr rfl)
    refine In.note (In.casts hu e1 e2 (h4 k hk).2 (h5 k hk h0) (fun i hi hi0 => ?_)) ⟨d1.1, by omega⟩ (by decide) e1 hn
    have h9 : uA (σ.2 25) k 2 i = 0 := hi0
    rw [uA_ap] at h9
    split at h9
    · omega
    · rename_i hne
      rcases Nat.lt_or_gt_of_ne hne with g | g
      · exact h6 i k g hk h9 h0
      · exact fun z => h6 k i g hi h0 h9 z.symm
  · exact h
theorem clStep_1 (s : MM) (k j : Nat) (hj : j ≠ 42) : (sClStep s k).1 j = s.1 j := by
  unfold sClStep
  split
  · show (if j = 42 then _ else s.1 j) = s.1 j
    rw [if_neg hj]
  · rfl
theorem clStep_n (s : MM) (k : Nat) : (sClStep s k).1 42 ≤ s.1 42 + 1 := by
  unfold sClStep
  split
  · show (if 42 = 42 then s.1 42 + 1 else s.1 42) ≤ _
    rw [if_pos rfl]
    omega
  · omega
/-- the voting ends: the day goes on, the stage is 4 -/
theorem In.stage4 {σ : MM} (h : In σ) (hs : 2 ≤ σ.1 14) {d : Int} (hd : σ.1 0 ≤ d ∧ d ≤ 2100) : In (setI (setI σ 0 d) 14 4) := by
  obtain ⟨hB, hW, h1, h2, h3, h4, h5, h6, h7, h8, s1, s2, s3, s4⟩ := h
  have n0 : 0 ≤ σ.1 0 := (hB.1 0).1
  exact ⟨(hB.i (by show (0 : Int) ≤ d ∧ d ≤ 2100; omega)).i (by show (0 : Int) ≤ 4 ∧ (4 : Int) ≤ 5; decide), ⟨fun j hj => ⟨(hW.1 j hj).1, by have := (hW.1 j hj).2; show σ.2 11 j ≤ d; omega⟩, hW.2⟩, h1, h2, h3, h4, h5, h6, h7, h8, fun h => absurd (show (4 : Int) ≤ 1 from h) (by decide), ⟨fun _ => s2.1 (by omega), fun _ => s2.2 hs⟩, fun h => absurd (show (4 : Int) = 3 from h) (by decide), fun h => absurd (show (4 : Int) = 5 from h) (by decide)⟩
theorem sClN_In {σ : MM} (h : In (setI σ 14 4)) (hn : σ.1 42 ≤ 900) : ∀ k : Nat, (k : Int) ≤ σ.1 26 → In (sClN σ k) ∧ (∀ j : Nat, j ≠ 42 → (sClN σ k).1 j = (setI σ 14 4).1 j) ∧ (sClN σ k).1 42 ≤ σ.1 42 + k
  | 0, _ => ⟨h, fun _ _ => rfl, by show σ.1 42 ≤ σ.1 42 + 0; omega⟩
  | k + 1, hk => by
    obtain ⟨i1, i2, i3⟩ := sClN_In h hn k (by omega)
    have e26 : (sClN σ k).1 26 = σ.1 26 := i2 26 (by decide)
    have b26 : 0 ≤ σ.1 26 ∧ σ.1 26 ≤ 60 := h.1.1 26
    refine ⟨i1.clStep (k := k) (by rw [e26]; omega) (by omega), fun j hj => (clStep_1 _ k j hj).trans (i2 j hj), ?_⟩
    have := clStep_n (sClN σ k) k
    show (sClStep (sClN σ k) k).1 42 ≤ _
    omega
end MSP3
