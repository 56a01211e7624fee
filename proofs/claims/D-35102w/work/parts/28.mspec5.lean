/-! THE REFERENCE'S FUNCTIONS: counts, seats, the book -/
set_option maxRecDepth 100000
section MSP5
/-- alike but for what the seats are worked out in -/
def GS (σ s : MM) : Prop := (∀ k, k ≠ 37 → k ≠ 38 → s.1 k = σ.1 k) ∧ ∀ k, k ≠ 34 → k ≠ 35 → k ≠ 36 → s.2 k = σ.2 k
theorem GS.refl (σ : MM) : GS σ σ := ⟨fun _ _ _ => rfl, fun _ _ _ _ => rfl⟩
theorem GS.trans {a b c : MM} (h : GS a b) (g : GS b c) : GS a c := ⟨fun k h1 h2 => (g.1 k h1 h2).trans (h.1 k h1 h2), fun k h1 h2 h3 => (g.2 k h1 h2 h3).trans (h.2 k h1 h2 h3)⟩
theorem GS.i {σ s : MM} (h : GS σ s) {k : Nat} {v : Int} (hk : k = 37 ∨ k = 38) : GS σ (setI s k v) := ⟨fun j h1 h2 => by rw [setI_1, if_neg (by omega)]; exact h.1 j h1 h2, h.2⟩
theorem GS.a {σ s : MM} (h : GS σ s) {k i : Nat} {v : Int} (hk : k = 34 ∨ k = 35 ∨ k = 36) : GS σ (setA s k i v) := ⟨h.1, fun j h1 h2 h3 => by rw [setA_2, if_neg (by omega)]; exact h.2 j h1 h2 h3⟩
/-! boxes and counts -/
def sInB (σ : MM) (s q : Int) : Nat → Int
  | 0 => 0
  | n + 1 => sInB σ s q n + (if σ.2 27 (20 * s + n).toNat = q then 1 else 0)
theorem sInB_rng (σ : MM) (s q : Int) : ∀ n : Nat, 0 ≤ sInB σ s q n ∧ sInB σ s q n ≤ n
  | 0 => by unfold sInB; omega
  | n + 1 => by unfold sInB; have := sInB_rng σ s q n; split <;> omega
theorem sInB_ext {σ u : MM} (h : u.2 27 = σ.2 27) (s q : Int) : ∀ n : Nat, sInB u s q n = sInB σ s q n
  | 0 => rfl
  | n + 1 => by unfold sInB; rw [sInB_ext h s q n, h]
abbrev sBoxed (σ : MM) (s q : Int) : Int := sInB σ s q (σ.2 28 s.toNat).toNat
theorem sBoxed_rng {σ : MM} (h : Bd σ) (s q : Int) : 0 ≤ sBoxed σ s q ∧ sBoxed σ s q ≤ 20 := by
  have h1 := sInB_rng σ s q (σ.2 28 s.toNat).toNat
  have h2 : 0 ≤ σ.2 28 s.toNat ∧ σ.2 28 s.toNat ≤ 20 := h.2 28 _
  unfold sBoxed
  omega
def sMis (σ : MM) (s : Int) : Nat → Int
  | 0 => 0
  | k + 1 => sMis σ s k + (if 0 < sBoxed σ s k - σ.2 29 (6 * σ.2 32 s.toNat + k).toNat then sBoxed σ s k - σ.2 29 (6 * σ.2 32 s.toNat + k).toNat else 0)
theorem sMis_rng {σ : MM} (h : Bd σ) (s : Int) : ∀ k : Nat, 0 ≤ sMis σ s k ∧ sMis σ s k ≤ 20 * k
  | 0 => by unfold sMis; omega
  | k + 1 => by
    unfold sMis
    have h1 := sMis_rng h s k
    have h2 := sBoxed_rng h s k
    have h3 : 0 ≤ σ.2 29 (6 * σ.2 32 s.toNat + k).toNat ∧ σ.2 29 (6 * σ.2 32 s.toNat + k).toNat ≤ 20 := h.2 29 _
    split <;> omega
def sAl (σ : MM) (a b : Int) : Nat → Int
  | 0 => if σ.2 30 a.toNat = σ.2 30 b.toNat then 0 else 1
  | k + 1 => if sAl σ a b k = 1 ∧ σ.2 29 (6 * a + k).toNat = σ.2 29 (6 * b + k).toNat then 1 else 0
theorem sAl_01 (σ : MM) (a b : Int) : ∀ k : Nat, sAl σ a b k = 0 ∨ sAl σ a b k = 1
  | 0 => by unfold sAl; split <;> simp
  | k + 1 => by unfold sAl; split <;> simp
theorem sAl_ext {σ u : MM} (h : u.2 29 = σ.2 29) (h2 : u.2 30 = σ.2 30) (a b : Int) : ∀ k : Nat, sAl u a b k = sAl σ a b k
  | 0 => by unfold sAl; rw [h2]
  | k + 1 => by unfold sAl; rw [sAl_ext h h2 a b k, h]
/-- a count: its numbers are cleared, filled; then it settles; then the stage -/
def sCz (σ : MM) (a : Int) : Nat → MM
  | 0 => σ
  | k + 1 => setA (sCz σ a k) 29 (6 * a + k).toNat 0
def sCi (σ : MM) (s c a : Int) (k : Nat) : Int := 6 * a + (σ.2 27 (20 * s + k).toNat + (if 0 < σ.2 33 c.toNat ∧ ((k : Int) + 1) % σ.2 33 c.toNat = 0 then 1 else 0)) % 6
def sCt (σ : MM) (s c a : Int) : Nat → MM
  | 0 => σ
  | k + 1 => setA (sCt σ s c a k) 29 (sCi (sCt σ s c a k) s c a k).toNat ((sCt σ s c a k).2 29 (sCi (sCt σ s c a k) s c a k).toNat + 1)
def sSt (σ : MM) (s a : Int) : Nat → MM
  | 0 => σ
  | k + 1 => setA (sSt σ s a k) 32 s.toNat (if sAl (sSt σ s a k) (8 * s + k) a 6 = 1 then a else (sSt σ s a k).2 32 s.toNat)
def sAll (σ : MM) : Nat → Int
  | 0 => 1
  | k + 1 => if sAll σ k = 1 ∧ σ.2 32 k ≠ -1 then 1 else 0
theorem sAll_01 (σ : MM) : ∀ k : Nat, sAll σ k = 0 ∨ sAll σ k = 1
  | 0 => Or.inr rfl
  | k + 1 => by unfold sAll; split <;> simp
abbrev sCa (σ : MM) (s : Int) : Int := 8 * s + σ.2 31 s.toNat
def sC1 (σ : MM) (s c : Int) : MM := sCz (setA σ 30 (sCa σ s).toNat c) (sCa σ s) 6
def sC2 (σ : MM) (s c : Int) : MM := sCt (sC1 σ s c) s c (sCa σ s) ((sC1 σ s c).2 28 s.toNat).toNat
def sC3 (σ : MM) (s c : Int) : MM := setA (sC2 σ s c) 31 s.toNat ((sC2 σ s c).2 31 s.toNat + 1)
def sC4 (σ : MM) (s c : Int) : MM := sSt (sC3 σ s c) s (sCa σ s) (σ.2 31 s.toNat).toNat
def sC5 (σ : MM) (s c : Int) : MM := sNote (sC4 σ s c) ((sC4 σ s c).1 0) 99 s
def sCount (σ : MM) (s c : Int) : MM := setI (sC5 σ s c) 14 (if sAll (sC5 σ s c) ((sC5 σ s c).1 19).toNat = 1 then 5 else (sC5 σ s c).1 14)
theorem sCz_fr (σ : MM) (a : Int) : ∀ k : Nat, (sCz σ a k).1 = σ.1 ∧ ∀ j, j ≠ 29 → (sCz σ a k).2 j = σ.2 j
  | 0 => ⟨rfl, fun _ _ => rfl⟩
  | k + 1 => ⟨(sCz_fr σ a k).1, fun j hj => by unfold sCz; rw [setA_2, if_neg hj]; exact (sCz_fr σ a k).2 j hj⟩
theorem sCt_fr (σ : MM) (s c a : Int) : ∀ k : Nat, (sCt σ s c a k).1 = σ.1 ∧ ∀ j, j ≠ 29 → (sCt σ s c a k).2 j = σ.2 j
  | 0 => ⟨rfl, fun _ _ => rfl⟩
  | k + 1 => ⟨(sCt_fr σ s c a k).1, fun j hj => by unfold sCt; rw [setA_2, if_neg hj]; exact (sCt_fr σ s c a k).2 j hj⟩
theorem sSt_fr (σ : MM) (s a : Int) : ∀ k : Nat, (sSt σ s a k).1 = σ.1 ∧ ∀ j, j ≠ 32 → (sSt σ s a k).2 j = σ.2 j
  | 0 => ⟨rfl, fun _ _ => rfl⟩
  | k + 1 => ⟨(sSt_fr σ s a k).1, fun j hj => by unfold sSt; rw [setA_2, if_neg hj]; exact (sSt_fr σ s a k).2 j hj⟩
theorem sC1_1 (σ : MM) (s c : Int) : (sC1 σ s c).1 = σ.1 := (sCz_fr _ _ 6).1
theorem sC1_2 (σ : MM) (s c : Int) {j : Nat} (h : j ≠ 29) (h2 : j ≠ 30) : (sC1 σ s c).2 j = σ.2 j := ((sCz_fr _ _ 6).2 j h).trans (by rw [setA_2, if_neg h2])
theorem sC2_1 (σ : MM) (s c : Int) : (sC2 σ s c).1 = σ.1 := ((sCt_fr _ s c _ _).1).trans (sC1_1 σ s c)
theorem sC2_2 (σ : MM) (s c : Int) {j : Nat} (h : j ≠ 29) (h2 : j ≠ 30) : (sC2 σ s c).2 j = σ.2 j := ((sCt_fr _ s c _ _).2 j h).trans (sC1_2 σ s c h h2)
theorem sC4_1 (σ : MM) (s c : Int) : (sC4 σ s c).1 = σ.1 := ((sSt_fr _ s _ _).1).trans (sC2_1 σ s c)
theorem sC4_2 (σ : MM) (s c : Int) {j : Nat} (h : j ≠ 29) (h2 : j ≠ 30) (h3 : j ≠ 31) (h4 : j ≠ 32) : (sC4 σ s c).2 j = σ.2 j := ((sSt_fr _ s _ _).2 j h4).trans ((by show (setA (sC2 σ s c) 31 _ _).2 j = _; rw [setA_2, if_neg h3] : (sC3 σ s c).2 j = (sC2 σ s c).2 j).trans (sC2_2 σ s c h h2))
theorem sCi_rng {σ : MM} (h : Bd σ) (s c a : Int) (k : Nat) : 6 * a ≤ sCi σ s c a k ∧ sCi σ s c a k ≤ 6 * a + 5 := by
  unfold sCi
  have h1 : 0 ≤ σ.2 27 (20 * s + k).toNat ∧ σ.2 27 (20 * s + k).toNat ≤ 5 := h.2 27 _
  split <;> omega
/-- the numbers of the count that is under way are at most the ballots read -/
def CB (σ : MM) (a : Int) (k : Nat) : Prop := Bd σ ∧ ∀ i : Nat, 6 * a ≤ i → (i : Int) ≤ 6 * a + 5 → σ.2 29 i ≤ k
theorem CB.zero {σ : MM} (h : Bd σ) (a : Int) : ∀ k : Nat, k ≤ 6 → Bd (sCz σ a k) ∧ ∀ i : Nat, 6 * a ≤ i → (i : Int) < 6 * a + k → (sCz σ a k).2 29 i = 0
  | 0, _ => ⟨h, fun i h1 h2 => by omega⟩
  | k + 1, hk => by
    have ih := CB.zero h a k (by omega)
    refine ⟨ih.1.a (by show (0 : Int) ≤ 0 ∧ (0 : Int) ≤ 20; decide), fun i h1 h2 => ?_⟩
    show uA ((sCz σ a k).2 29) (6 * a + k).toNat 0 i = 0
    rw [uA_ap]
    split
    · rfl
    · exact ih.2 i h1 (by omega)
theorem CB.start {σ : MM} (h : Bd σ) (a : Int) : CB (sCz σ a 6) a 0 := ⟨(CB.zero h a 6 (Nat.le_refl _)).1, fun i h1 h2 => by rw [(CB.zero h a 6 (Nat.le_refl _)).2 i h1 (by omega)]; decide⟩
theorem CB.step {σ : MM} {a : Int} {k : Nat} (h : CB σ a k) (ha : 0 ≤ a) (hk : k < 20) (s c : Int) : CB (setA σ 29 (sCi σ s c a k).toNat (σ.2 29 (sCi σ s c a k).toNat + 1)) a (k + 1) := by
  have h1 := sCi_rng h.1 s c a k
  have h2 := h.2 (sCi σ s c a k).toNat (by omega) (by omega)
  have h3 : 0 ≤ σ.2 29 (sCi σ s c a k).toNat := (h.1.2 29 _).1
  refine ⟨h.1.a (by show (0 : Int) ≤ _ ∧ _ ≤ (20 : Int); omega), fun i h4 h5 => ?_⟩
  show uA (σ.2 29) _ _ i ≤ _
  rw [uA_ap]
  have h6 := h.2 i h4 h5
  split <;> omega
theorem CB.all {σ : MM} {a : Int} (h : CB σ a 0) (ha : 0 ≤ a) (s c : Int) : ∀ k : Nat, k ≤ 20 → CB (sCt σ s c a k) a k
  | 0, _ => h
  | k + 1, hk => (CB.all h ha s c k (by omega)).step ha (by omega) s c
/-! seats -/
def hDiv (o : Int) (g : Nat → Int) (p : Int) : Int := if o = 0 then g p.toNat + 1 else 2 * g p.toNat + 1
def hCmp (v : Nat → Int) (o : Int) (g : Nat → Int) (a b : Int) : Int := v a.toNat * hDiv o g b - v b.toNat * hDiv o g a
def hOK (v g : Nat → Int) : Prop := ∀ p : Nat, p < 5 → (0 ≤ v p ∧ v p ≤ 100) ∧ 0 ≤ g p ∧ g p ≤ 30
theorem hDiv_rng {v g : Nat → Int} (h : hOK v g) (o : Int) {p : Int} (hp : 0 ≤ p ∧ p ≤ 4) : 1 ≤ hDiv o g p ∧ hDiv o g p ≤ 61 := by
  have := (h p.toNat (by omega)).2
  unfold hDiv
  split <;> omega
theorem hMul_rng {a b : Int} (ha : 0 ≤ a ∧ a ≤ 100) (hb : 1 ≤ b ∧ b ≤ 61) : 0 ≤ a * b ∧ a * b ≤ 6100 :=
  ⟨Int.mul_nonneg ha.1 (by omega), Int.le_trans (Int.mul_le_mul_of_nonneg_right ha.2 (by omega)) (Int.le_trans (Int.mul_le_mul_of_nonneg_left hb.2 (by decide)) (by decide))⟩
theorem hCmp_rng {v g : Nat → Int} (h : hOK v g) (o : Int) {a b : Int} (ha : 0 ≤ a ∧ a ≤ 4) (hb : 0 ≤ b ∧ b ≤ 4) : -6100 ≤ hCmp v o g a b ∧ hCmp v o g a b ≤ 6100 := by
  have h1 := hMul_rng (h a.toNat (by omega)).1 (hDiv_rng h o hb)
  have h2 := hMul_rng (h b.toNat (by omega)).1 (hDiv_rng h o ha)
  unfold hCmp
  omega
theorem hCmp_self (v : Nat → Int) (o : Int) (g : Nat → Int) (a : Int) : hCmp v o g a a = 0 := Int.sub_self _
/-- the best party among the first ones, and how many are like it -/
def hBT (v : Nat → Int) (o : Int) (g : Nat → Int) : Nat → Int × Int
  | 0 => (0, 0)
  | k + 1 => if 0 < hCmp v o g k (hBT v o g k).1 then ((k : Int), 1) else if hCmp v o g k (hBT v o g k).1 = 0 then ((hBT v o g k).1, (hBT v o g k).2 + 1) else hBT v o g k
/-- how many from the best one on are like it -/
def hLi (v : Nat → Int) (o : Int) (g : Nat → Int) (b : Int) : Nat → Int
  | 0 => 0
  | n + 1 => hLi v o g b n + (if b ≤ n ∧ hCmp v o g n b = 0 then 1 else 0)
theorem hLi_0 (v : Nat → Int) (o : Int) (g : Nat → Int) (b : Int) : ∀ n : Nat, (n : Int) ≤ b → hLi v o g b n = 0
  | 0, _ => rfl
  | n + 1, h => by unfold hLi; rw [hLi_0 v o g b n (by omega), if_neg (by omega)]; rfl
theorem hLi_le (v : Nat → Int) (o : Int) (g : Nat → Int) (b : Int) : ∀ n : Nat, 0 ≤ hLi v o g b n ∧ hLi v o g b n ≤ n
  | 0 => by unfold hLi; omega
  | n + 1 => by unfold hLi; have := hLi_le v o g b n; split <;> omega
theorem hBT_rng (v : Nat → Int) (o : Int) (g : Nat → Int) : ∀ k : Nat, 0 ≤ (hBT v o g k).1 ∧ ((hBT v o g k).1 < k ∨ (hBT v o g k).1 = 0) ∧ (hBT v o g k).2 = hLi v o g (hBT v o g k).1 k
  | 0 => by refine ⟨Int.le_refl _, Or.inr rfl, rfl⟩
  | k + 1 => by
    have ih := hBT_rng v o g k
    unfold hBT
    split
    · refine ⟨by show (0 : Int) ≤ (k : Int); omega, Or.inl (by show (k : Int) < _; omega), ?_⟩
      show (1 : Int) = hLi v o g (k : Int) k + (if (k : Int) ≤ (k : Int) ∧ hCmp v o g k k = 0 then 1 else 0)
      rw [hLi_0 v o g k k (Int.le_refl _), if_pos ⟨Int.le_refl _, hCmp_self _ _ _ _⟩]
      rfl
    · split
      · rename_i h1 h2
        refine ⟨ih.1, (by show (hBT v o g k).1 < _ ∨ (hBT v o g k).1 = 0; omega), ?_⟩
        show (hBT v o g k).2 + 1 = hLi v o g (hBT v o g k).1 k + (if (hBT v o g k).1 ≤ (k : Int) ∧ hCmp v o g k (hBT v o g k).1 = 0 then 1 else 0)
        rw [if_pos ⟨by omega, h2⟩, ih.2.2]
      · rename_i h1 h2
        refine ⟨ih.1, (by omega), ?_⟩
        show (hBT v o g k).2 = hLi v o g (hBT v o g k).1 k + (if (hBT v o g k).1 ≤ (k : Int) ∧ hCmp v o g k (hBT v o g k).1 = 0 then 1 else 0)
        rw [if_neg (fun z => h2 z.2), ih.2.2, Int.add_zero]
theorem hLi_pos (v : Nat → Int) (o : Int) (g : Nat → Int) {b : Nat} : ∀ n : Nat, b < n → 1 ≤ hLi v o g b n
  | 0, h => absurd h (Nat.not_lt_zero _)
  | n + 1, h => by
    unfold hLi
    by_cases e : b = n
    · subst e
      rw [if_pos ⟨Int.le_refl _, hCmp_self _ _ _ _⟩]
      have := hLi_le v o g b b
      omega
    · have := hLi_pos v o g n (b := b) (by omega)
      split <;> omega
/-- the one that the lot meets, of those from 5 - f on -/
def hPk (v : Nat → Int) (o : Int) (g : Nat → Int) (b : Int) : Nat → Int → Int
  | 0, _ => 5
  | f + 1, pl => if 0 < pl ∨ hCmp v o g (4 - f) b ≠ 0 then hPk v o g b f (pl - (if hCmp v o g (4 - f) b = 0 then 1 else 0)) else 4 - f
/-- given, in which order, lots, luck -/
abbrev HS := (Nat → Int) × (Nat → Int) × Int × Int
def hLk (v : Nat → Int) (o : Int) (h : HS) : Int := if 1 < (hBT v o h.1 5).2 then (h.2.2.2 * 1103 + 12345) % 65536 else h.2.2.2
def hPl (v : Nat → Int) (o : Int) (h : HS) : Int := if 1 < (hBT v o h.1 5).2 then hLk v o h % (hBT v o h.1 5).2 else 0
def hNx (v : Nat → Int) (o : Int) (h : HS) : Int := hPk v o h.1 (hBT v o h.1 5).1 (5 - (hBT v o h.1 5).1.toNat) (hPl v o h)
def hStep (v : Nat → Int) (o : Int) (h : HS) (n : Nat) : HS := (uA h.1 (hNx v o h).toNat (h.1 (hNx v o h).toNat + 1), uA h.2.1 n (hNx v o h), h.2.2.1 + (if 1 < (hBT v o h.1 5).2 then 1 else 0), hLk v o h)
def hN (v : Nat → Int) (o l : Int) : Nat → HS
  | 0 => (fun _ => 0, fun _ => 0, 0, l)
  | n + 1 => hStep v o (hN v o l n) n
theorem hCmp_ext {v v' g g' : Nat → Int} (h : ∀ p : Nat, p < 5 → v p = v' p ∧ g p = g' p) (o : Int) {a b : Int} (ha : 0 ≤ a ∧ a ≤ 4) (hb : 0 ≤ b ∧ b ≤ 4) : hCmp v o g a b = hCmp v' o g' a b := by
  unfold hCmp hDiv
  rw [(h a.toNat (by omega)).1, (h a.toNat (by omega)).2, (h b.toNat (by omega)).1, (h b.toNat (by omega)).2]
theorem hBT_5 (v : Nat → Int) (o : Int) (g : Nat → Int) : 0 ≤ (hBT v o g 5).1 ∧ (hBT v o g 5).1 ≤ 4 ∧ 1 ≤ (hBT v o g 5).2 ∧ (hBT v o g 5).2 ≤ 5 ∧ (hBT v o g 5).2 = hLi v o g (hBT v o g 5).1 5 := by
  have h := hBT_rng v o g 5
  have h1 := hLi_le v o g (hBT v o g 5).1 5
  have h2 := hLi_pos v o g (b := (hBT v o g 5).1.toNat) 5 (by omega)
  rw [show (((hBT v o g 5).1.toNat : Nat) : Int) = (hBT v o g 5).1 by omega] at h2
  omega
theorem hBT_ext {v v' g g' : Nat → Int} (h : ∀ p : Nat, p < 5 → v p = v' p ∧ g p = g' p) (o : Int) : ∀ k : Nat, k ≤ 5 → hBT v o g k = hBT v' o g' k
  | 0, _ => rfl
  | k + 1, hk => by
    have ih := hBT_ext h o k (by omega)
    have h1 := hBT_rng v' o g' k
    unfold hBT
    rw [ih, hCmp_ext h o (a := (k : Int)) (by omega) (by omega)]
theorem hPk_ext {v v' g g' : Nat → Int} (h : ∀ p : Nat, p < 5 → v p = v' p ∧ g p = g' p) (o : Int) {b : Int} (hb : 0 ≤ b ∧ b ≤ 4) : ∀ (f : Nat), f ≤ 5 → ∀ pl : Int, hPk v o g b f pl = hPk v' o g' b f pl
  | 0, _, _ => rfl
  | f + 1, hf, pl => by
    unfold hPk
    rw [hCmp_ext h o (a := 4 - (f : Int)) (by omega) hb, hPk_ext h o hb f (by omega)]
theorem hPk_rng {v g : Nat → Int} {o b : Int} (hb : 0 ≤ b ∧ b ≤ 4) : ∀ (f : Nat) (pl : Int), 0 ≤ pl → f ≤ 5 → (5 : Int) - f ≥ b → pl < hLi v o g b 5 - hLi v o g b (5 - f) → 0 ≤ hPk v o g b f pl ∧ hPk v o g b f pl ≤ 4
  | 0, pl, h0, _, _, h2 => by have h2 : pl < hLi v o g b 5 - hLi v o g b 5 := h2; omega
  | f + 1, pl, h0, hf, h1, h2 => by
    unfold hPk
    have e : 5 - f = (5 - (f + 1)) + 1 := by omega
    have e2 : (((5 - (f + 1) : Nat)) : Int) = 4 - f := by omega
    have ee : hLi v o g b (5 - f) = hLi v o g b (5 - (f + 1)) + (if b ≤ (4 - f : Int) ∧ hCmp v o g (4 - f) b = 0 then 1 else 0) := by rw [e]; show hLi v o g b _ + _ = _; rw [e2]
    split
    · by_cases hc : hCmp v o g (4 - f) b = 0
      · rw [if_pos hc]
        rw [if_pos ⟨by omega, hc⟩] at ee
        refine hPk_rng hb f _ (by omega) (by omega) (by omega) (by omega)
      · rw [if_neg hc]
        rw [if_neg (fun z => hc z.2)] at ee
        refine hPk_rng hb f _ (by omega) (by omega) (by omega) (by omega)
    · omega
theorem hNx_rng (v : Nat → Int) (o : Int) (h : HS) (hl : 0 ≤ h.2.2.2) : 0 ≤ hNx v o h ∧ hNx v o h ≤ 4 := by
  have h1 := hBT_5 v o h.1
  have e : ((5 - (hBT v o h.1 5).1.toNat : Nat) : Int) = 5 - (hBT v o h.1 5).1 := by omega
  refine hPk_rng ⟨h1.1, h1.2.1⟩ _ _ ?_ (by omega) (by omega) ?_
  · unfold hPl hLk
    split
    · exact Int.emod_nonneg _ (by omega)
    · omega
  · rw [hLi_0 v o h.1 _ (5 - (5 - (hBT v o h.1 5).1.toNat)) (by omega), ← h1.2.2.2.2]
    unfold hPl
    split
    · have := Int.emod_lt_of_pos (hLk v o h) (show 0 < (hBT v o h.1 5).2 by omega)
      omega
    · omega
theorem hLk_rng (v : Nat → Int) (o : Int) (h : HS) (hl : 0 ≤ h.2.2.2 ∧ h.2.2.2 ≤ 65535) : 0 ≤ hLk v o h ∧ hLk v o h ≤ 65535 := by
  unfold hLk
  split <;> omega
/-- what is given: five numbers of sum n -/
theorem hN_rng (v : Nat → Int) (o : Int) {l : Int} (hl : 0 ≤ l ∧ l ≤ 65535) : ∀ n : Nat, (∀ p : Nat, 0 ≤ (hN v o l n).1 p) ∧ sumN (hN v o l n).1 5 = n ∧ (0 ≤ (hN v o l n).2.2.1 ∧ (hN v o l n).2.2.1 ≤ n) ∧ (0 ≤ (hN v o l n).2.2.2 ∧ (hN v o l n).2.2.2 ≤ 65535) ∧ ∀ i : Nat, 0 ≤ (hN v o l n).2.1 i ∧ (hN v o l n).2.1 i ≤ 4
  | 0 => ⟨fun _ => Int.le_refl _, rfl, ⟨Int.le_refl _, Int.le_refl _⟩, hl, fun _ => (by decide : (0 : Int) ≤ 0 ∧ (0 : Int) ≤ 4)⟩
  | n + 1 => by
    obtain ⟨i1, i2, i3, i4, i5⟩ := hN_rng v o hl n
    have hp := hNx_rng v o (hN v o l n) i4.1
    refine ⟨fun p => ?_, ?_, ?_, hLk_rng v o _ i4, fun i => ?_⟩
    · show 0 ≤ uA (hN v o l n).1 _ _ p
      rw [uA_ap]
      have := i1 p
      have := i1 (hNx v o (hN v o l n)).toNat
      split <;> omega
    · show sumN (uA (hN v o l n).1 _ _) 5 = _
      rw [sumN_set 5 (by omega), i2]
      omega
    · show 0 ≤ (hN v o l n).2.2.1 + _ ∧ (hN v o l n).2.2.1 + _ ≤ _
      split <;> omega
    · show 0 ≤ uA (hN v o l n).2.1 _ _ i ∧ uA (hN v o l n).2.1 _ _ i ≤ 4
      rw [uA_ap]
      have := i5 i
      split <;> omega
/-- a party's votes: of the boxes, or of the counts that settle -/
def sVoN (σ : MM) (b : Int) (p : Nat) : Nat → Int
  | 0 => 0
  | k + 1 => sVoN σ b p k + (if b = 0 then σ.2 29 (6 * σ.2 32 k + p).toNat else sBoxed σ k p)
theorem sVoN_rng {σ : MM} (h : Bd σ) (b : Int) (p : Nat) : ∀ k : Nat, 0 ≤ sVoN σ b p k ∧ sVoN σ b p k ≤ 20 * k
  | 0 => by unfold sVoN; omega
  | k + 1 => by
    unfold sVoN
    have h1 := sVoN_rng h b p k
    have h2 : 0 ≤ σ.2 29 (6 * σ.2 32 k + p).toNat ∧ σ.2 29 (6 * σ.2 32 k + p).toNat ≤ 20 := h.2 29 _
    have h3 := sBoxed_rng h k p
    split <;> omega
def sVo (σ : MM) (b : Int) (p : Nat) : Int := sVoN σ b p (σ.1 19).toNat
def sHn (σ : MM) (b : Int) : Nat := if 0 < sVo σ b 0 + sVo σ b 1 + sVo σ b 2 + sVo σ b 3 + sVo σ b 4 then (σ.1 16).toNat else 0
def sHo (σ : MM) (b : Int) : HS := hN (sVo σ b) (σ.1 17) (sumN (σ.2 18) 5) (sHn σ b)
/-- what lies in the reference after n seats were given -/
def GH (σ : MM) (b : Int) (n : Nat) (s : MM) (l : Int) : Prop := GS σ s ∧ Bd s ∧ (∀ p : Nat, p < 5 → s.2 34 p = sVo σ b p) ∧ (∀ p : Nat, p < 5 → s.2 35 p = (hN (sVo σ b) (σ.1 17) (sumN (σ.2 18) 5) n).1 p) ∧ s.1 37 = n ∧ s.1 38 = (hN (sVo σ b) (σ.1 17) (sumN (σ.2 18) 5) n).2.2.1 ∧ (∀ i : Nat, i < n → s.2 36 i = (hN (sVo σ b) (σ.1 17) (sumN (σ.2 18) 5) n).2.1 i) ∧ l = (hN (sVo σ b) (σ.1 17) (sumN (σ.2 18) 5) n).2.2.2
def GP (σ : MM) (b : Int) (s : MM) : Prop := ∃ l : Int, GH σ b (sHn σ b) s l
theorem sVo_rng {σ : MM} (h : Bd σ) (b : Int) (p : Nat) : 0 ≤ sVo σ b p ∧ sVo σ b p ≤ 100 := by
  have h1 := sVoN_rng h b p (σ.1 19).toNat
  have h2 : 0 ≤ σ.1 19 ∧ σ.1 19 ≤ 5 := h.1 19
  unfold sVo
  omega
theorem seeds_rng {σ : MM} (h : Bd σ) : 0 ≤ sumN (σ.2 18) 5 ∧ sumN (σ.2 18) 5 ≤ 49995 := by
  have h1 : ∀ i : Nat, 0 ≤ σ.2 18 i ∧ σ.2 18 i ≤ 9999 := fun i => h.2 18 i
  have h2 := h1 0
  have h3 := h1 1
  have h4 := h1 2
  have h5 := h1 3
  have h6 := h1 4
  simp only [sumN]
  omega
theorem GH.ok {σ : MM} (hB : Bd σ) {b : Int} {n : Nat} {s : MM} {l : Int} (h : GH σ b n s l) (hn : n ≤ 30) : hOK (s.2 34) (s.2 35) := fun p hp => by
  obtain ⟨-, -, h3, h4, -⟩ := h
  have h5 := hN_rng (sVo σ b) (σ.1 17) (l := sumN (σ.2 18) 5) (by have := seeds_rng hB; omega) n
  have h6 := sumN_at h5.1 (j := p) 5 hp
  rw [h3 p hp, h4 p hp]
  exact ⟨sVo_rng hB b p, h5.1 p, by have := h5.2.1; omega⟩
/-- one seat more -/
theorem GH.step {σ : MM} (hB : Bd σ) {b : Int} {n : Nat} {s : MM} {l : Int} (h : GH σ b n s l) (hn : n < 30) {best ties l' pl P : Int} {L : Int} (hbt : (best, ties) = hBT (s.2 34) (s.1 17) (s.2 35) 5)
    (hl : l' = if 1 < ties then (l * 1103 + 12345) % 65536 else l) (hpl : pl = if 1 < ties then l' % ties else 0) (hP : P = hPk (s.2 34) (s.1 17) (s.2 35) best (5 - best.toNat) pl) (hL : L = if 1 < ties then s.1 38 + 1 else s.1 38) :
    GH σ b (n + 1) (setI (setA (setA (setI s 38 L) 35 P.toNat (s.2 35 P.toNat + 1)) 36 n P) 37 (n + 1)) l' := by
  have hk := h.ok hB (by omega)
  obtain ⟨h1, h2, h3, h4, h5, h6, h7, h8⟩ := h
  have hr := hN_rng (sVo σ b) (σ.1 17) (l := sumN (σ.2 18) 5) (by have := seeds_rng hB; omega) n
  have hx : ∀ p : Nat, p < 5 → s.2 34 p = sVo σ b p ∧ s.2 35 p = (hN (sVo σ b) (σ.1 17) (sumN (σ.2 18) 5) n).1 p := fun p hp => ⟨h3 p hp, h4 p hp⟩
  have e17 : s.1 17 = σ.1 17 := h1.1 17 (by decide) (by decide)
  rw [e17] at hbt hP
  rw [hBT_ext hx (σ.1 17) 5 (Nat.le_refl _)] at hbt
  have hb5 := hBT_5 (sVo σ b) (σ.1 17) (hN (sVo σ b) (σ.1 17) (sumN (σ.2 18) 5) n).1
  have eb : best = (hBT (sVo σ b) (σ.1 17) (hN (sVo σ b) (σ.1 17) (sumN (σ.2 18) 5) n).1 5).1 := by rw [← hbt]
  have et : ties = (hBT (sVo σ b) (σ.1 17) (hN (sVo σ b) (σ.1 17) (sumN (σ.2 18) 5) n).1 5).2 := by rw [← hbt]
  have hbr : 0 ≤ best ∧ best ≤ 4 := by rw [eb]; exact ⟨hb5.1, hb5.2.1⟩
  have el : l' = hLk (sVo σ b) (σ.1 17) (hN (sVo σ b) (σ.1 17) (sumN (σ.2 18) 5) n) := by rw [hl, et, h8]; rfl
  have ep : pl = hPl (sVo σ b) (σ.1 17) (hN (sVo σ b) (σ.1 17) (sumN (σ.2 18) 5) n) := by rw [hpl, et, el]; rfl
  have eP : P = hNx (sVo σ b) (σ.1 17) (hN (sVo σ b) (σ.1 17) (sumN (σ.2 18) 5) n) := by
    rw [hP, hPk_ext hx (σ.1 17) hbr _ (by omega), ep, eb]
    rfl
  have hPr := hNx_rng (sVo σ b) (σ.1 17) (hN (sVo σ b) (σ.1 17) (sumN (σ.2 18) 5) n) hr.2.2.2.1.1
  rw [← eP] at hPr
  have hg := hk P.toNat (by omega)
  have hs1 := hr.2.2.1
  have hgs : s.2 35 P.toNat ≤ n := by
    rw [h4 P.toNat (by omega)]
    have := sumN_at hr.1 (j := P.toNat) 5 (by omega)
    have := hr.2.1
    omega
  have e38 : L = (hN (sVo σ b) (σ.1 17) (sumN (σ.2 18) 5) (n + 1)).2.2.1 := by
    show L = (hN (sVo σ b) (σ.1 17) (sumN (σ.2 18) 5) n).2.2.1 + (if 1 < (hBT (sVo σ b) (σ.1 17) (hN (sVo σ b) (σ.1 17) (sumN (σ.2 18) 5) n).1 5).2 then 1 else 0)
    rw [hL, ← et, h6]
    split <;> omega
  have hLr : 0 ≤ L ∧ L ≤ 30 := by
    have := (hN_rng (sVo σ b) (σ.1 17) (l := sumN (σ.2 18) 5) (by have := seeds_rng hB; omega) (n + 1)).2.2.1
    rw [e38]
    omega
  refine ⟨(((h1.i (Or.inr rfl)).a (Or.inr (Or.inl rfl))).a (Or.inr (Or.inr rfl))).i (Or.inl rfl), (((h2.i (by show 0 ≤ L ∧ L ≤ (30 : Int); exact hLr)).a (by show (0 : Int) ≤ _ ∧ _ ≤ (30 : Int); omega)).a (by show (0 : Int) ≤ P ∧ P ≤ 4; exact hPr)).i (by show (0 : Int) ≤ (n : Int) + 1 ∧ (n : Int) + 1 ≤ 30; omega), h3, fun p hp => ?_, rfl, ?_, fun i hi => ?_, el⟩
  · show uA (s.2 35) P.toNat (s.2 35 P.toNat + 1) p = uA (hN (sVo σ b) (σ.1 17) (sumN (σ.2 18) 5) n).1 (hNx (sVo σ b) (σ.1 17) (hN (sVo σ b) (σ.1 17) (sumN (σ.2 18) 5) n)).toNat _ p
    rw [← eP, uA_ap, uA_ap, h4 p hp, h4 P.toNat (by omega)]
  · exact e38
  · show uA (s.2 36) n P i = uA (hN (sVo σ b) (σ.1 17) (sumN (σ.2 18) 5) n).2.1 n (hNx (sVo σ b) (σ.1 17) (hN (sVo σ b) (σ.1 17) (sumN (σ.2 18) 5) n)) i
    rw [← eP, uA_ap, uA_ap]
    split
    · rfl
    · exact h7 i (by omega)
theorem setI_self (σ : MM) (k : Nat) : setI σ k (σ.1 k) = σ := by
  refine Prod.ext (funext fun j => ?_) rfl
  rw [setI_1]
  split
  · rename_i e; rw [e]
  · rfl
theorem hPk_go {v g : Nat → Int} {o b : Int} {f q : Nat} {pl P : Int} (hP : hPk v o g b (f + 1) pl = P) (hq : q + (f + 1) = 5) (hb : b ≤ q) (hpl : 0 ≤ pl ∧ pl < hLi v o g b 5 - hLi v o g b q) {pl' : Int} (hc : (hCmp v o g q b = 0 ∧ 0 < pl ∧ pl' = pl - 1) ∨ (hCmp v o g q b ≠ 0 ∧ pl' = pl)) : hPk v o g b f pl' = P ∧ 0 ≤ pl' ∧ pl' < hLi v o g b 5 - hLi v o g b (q + 1) := by
  have e : (4 : Int) - f = q := by omega
  unfold hPk at hP
  rw [e] at hP
  have eL : hLi v o g b (q + 1) = hLi v o g b q + (if b ≤ (q : Int) ∧ hCmp v o g q b = 0 then 1 else 0) := rfl
  rw [eL]
  rcases hc with ⟨h1, h2, h3⟩ | ⟨h1, h3⟩
  · rw [if_pos (Or.inl h2), if_pos h1, ← h3] at hP
    rw [if_pos ⟨hb, h1⟩]
    exact ⟨hP, by omega, by omega⟩
  · rw [if_pos (Or.inr h1), if_neg h1, Int.sub_zero, ← h3] at hP
    rw [if_neg (fun z => h1 z.2)]
    exact ⟨hP, by omega, by omega⟩
theorem hPk_stop {v g : Nat → Int} {o b : Int} {f q : Nat} {pl P : Int} (hP : hPk v o g b (f + 1) pl = P) (hq : q + (f + 1) = 5) (h1 : pl ≤ 0) (h2 : hCmp v o g q b = 0) : P = q := by
  have e : (4 : Int) - f = q := by omega
  unfold hPk at hP
  rw [e, if_neg (fun z => z.elim (fun z => by omega) (fun z => z h2))] at hP
  exact hP.symm
/-! the book -/
/-- how many digits (of less than 10000) -/
def sDg (v : Int) : Int := if v < 10 then 1 else if v < 100 then 2 else if v < 1000 then 3 else 4
def sDAt (v p : Int) : Int := 48 + (if p < sDg v - 3 then v / 1000 else if p < sDg v - 2 then v / 100 else if p < sDg v - 1 then v / 10 else v) % 10
def sSign (σ : MM) (n : Nat) (p : Int) : Int := if p < sDg (σ.2 39 n) then sDAt (σ.2 39 n) p else if p = sDg (σ.2 39 n) then σ.2 40 n else if p - sDg (σ.2 39 n) - 1 < sDg (σ.2 41 n) then sDAt (σ.2 41 n) (p - sDg (σ.2 39 n) - 1) else -1
/-- the end of an operation that works the seats out -/
def oEndG (σ : MM) (t r : Int) : Int → MM → Prop := fun x s => (t = 0 ∧ x = r ∧ GS (σ0 σ) s ∧ Bd s) ∨ (t ≠ 0 ∧ x = 0 ∧ s = setI σ 43 t)
theorem GP.v {σ : MM} {b : Int} {s : MM} (h : GP σ b s) {p : Int} (hp : 0 ≤ p ∧ p ≤ 4) : s.2 34 p.toNat = sVo σ b p.toNat := by obtain ⟨l, h⟩ := h; exact h.2.2.1 _ (by omega)
theorem GP.g {σ : MM} {b : Int} {s : MM} (h : GP σ b s) {p : Int} (hp : 0 ≤ p ∧ p ≤ 4) : s.2 35 p.toNat = (sHo σ b).1 p.toNat := by obtain ⟨l, h⟩ := h; exact h.2.2.2.1 _ (by omega)
theorem GP.n {σ : MM} {b : Int} {s : MM} (h : GP σ b s) : s.1 37 = sHn σ b := by obtain ⟨l, h⟩ := h; exact h.2.2.2.2.1
theorem GP.l {σ : MM} {b : Int} {s : MM} (h : GP σ b s) : s.1 38 = (sHo σ b).2.2.1 := by obtain ⟨l, h⟩ := h; exact h.2.2.2.2.2.1
theorem GP.o {σ : MM} {b : Int} {s : MM} (h : GP σ b s) {i : Int} (hi : 0 ≤ i ∧ i < sHn σ b) : s.2 36 i.toNat = (sHo σ b).2.1 i.toNat := by obtain ⟨l, h⟩ := h; exact h.2.2.2.2.2.2.1 _ (by omega)
theorem GP.s {σ : MM} {b : Int} {s : MM} (h : GP σ b s) : GS σ s ∧ Bd s := by obtain ⟨l, h⟩ := h; exact ⟨h.1, h.2.1⟩
theorem sHn_le {σ : MM} (h : Bd σ) (b : Int) : sHn σ b ≤ 30 := by
  have : 0 ≤ σ.1 16 ∧ σ.1 16 ≤ 30 := h.1 16
  unfold sHn
  split <;> omega
end MSP5
