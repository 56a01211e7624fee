/-! THE COMPONENT'S OBJECTS: days, stages, the roll -/
set_option maxRecDepth 100000
section REL9
theorem setI_comm {σ : MM} {k k2 : Nat} {v v2 : Int} (h : k ≠ k2) : setI (setI σ k v) k2 v2 = setI (setI σ k2 v2) k v := by
  refine Prod.ext (funext fun j => ?_) rfl
  show (if j = k2 then v2 else if j = k then v else σ.1 j) = (if j = k then v else if j = k2 then v2 else σ.1 j)
  by_cases e : j = k
  · rw [if_neg (fun z => h (e.symm.trans z)), if_pos e, if_pos e]
  · rw [if_neg e, if_neg e]
theorem setI_setI (σ : MM) (k : Nat) (v v2 : Int) : setI (setI σ k v) k v2 = setI σ k v2 := by
  refine Prod.ext (funext fun j => ?_) rfl
  show (if j = k then v2 else if j = k then v else σ.1 j) = (if j = k then v2 else σ.1 j)
  by_cases e : j = k
  · rw [if_pos e, if_pos e]
  · rw [if_neg e, if_neg e, if_neg e]
/-! what the stage doesn't matter to -/
theorem sFi_setI (σ : MM) (k : Nat) (v : Int) : ∀ n : Nat, sFi (setI σ k v) n = setI (sFi σ n) k v
  | 0 => rfl
  | n + 1 => by unfold sFi; rw [sFi_setI σ k v n]; rfl
theorem sFs_setI (σ : MM) (k : Nat) (v m : Int) (a : Nat) : ∀ n : Nat, sFs (setI σ k v) m a n = (setI (sFs σ m a n).1 k v, (sFs σ m a n).2)
  | 0 => rfl
  | n + 1 => by
    unfold sFs
    rw [sFs_setI σ k v m a n]
    show (if sStreet ((sFs σ m a n).1.2 3 a) n ≠ -1 ∧ (sFs σ m a n).1.2 1 (sStreet ((sFs σ m a n).1.2 3 a) n).toNat = 0 ∧ (sFs σ m a n).1.2 2 n = -1 then _ else _) = _
    by_cases h : sStreet ((sFs σ m a n).1.2 3 a) n ≠ -1 ∧ (sFs σ m a n).1.2 1 (sStreet ((sFs σ m a n).1.2 3 a) n).toNat = 0 ∧ (sFs σ m a n).1.2 2 n = -1
    · rw [if_pos h, if_pos h]; rfl
    · rw [if_neg h, if_neg h]
theorem sFo_setI (σ : MM) (k : Nat) (v m : Int) : ∀ n : Nat, sFo (setI σ k v) m n = (setI (sFo σ m n).1 k v, (sFo σ m n).2)
  | 0 => rfl
  | n + 1 => by
    unfold sFo
    rw [sFo_setI σ k v m n]
    by_cases h : (n : Int) < (sFo σ m n).2
    · rw [if_pos h, if_pos h]; exact sFs_setI _ _ _ _ _ _
    · rw [if_neg h, if_neg h]
theorem sFinds_setI (σ : MM) (k : Nat) (v c : Int) : sFinds (setI σ k v) c = setI (sFinds σ c) k v := by
  unfold sFinds
  rw [sFi_setI]
  show (sFo (setI (setA (setA (sFi σ 36) 2 c.toNat 0) 3 0 c) k v) 1 36).1 = _
  rw [sFo_setI]
theorem sBest1_setI (σ : MM) (k : Nat) (v : Int) : ∀ n : Nat, sBest1 (setI σ k v) n = sBest1 σ n
  | 0 => rfl
  | n + 1 => by unfold sBest1; rw [sBest1_setI σ k v n]; rfl
theorem sBest2_setI (σ : MM) (k : Nat) (v : Int) : ∀ n : Nat, sBest2 (setI σ k v) n = sBest2 σ n
  | 0 => rfl
  | n + 1 => by unfold sBest2; rw [sBest2_setI σ k v n]; rfl
theorem sFor_setI (σ : MM) (v : Int) : sFor (setI σ 14 v) = sFor σ := by
  unfold sFor
  rw [show (setI σ 14 v).1 19 = σ.1 19 from rfl, sBest1_setI, sBest2_setI]
theorem sRollStep_setI (s : MM) (v : Int) (n : Nat) : sRollStep (setI s 14 v) n = setI (sRollStep s n) 14 v := by
  have e1 : sRollC (setI s 14 v) n = sRollC s n := by
    unfold sRollC
    exact sDwelt_ext (σ := s) (s := setI s 14 v) rfl rfl rfl n (s.1 15 - 7) (s.1 13).toNat
  have e2 : sRollF (setI s 14 v) n = setI (sRollF s n) 14 v := by unfold sRollF; rw [e1, sFinds_setI]
  unfold sRollStep
  show (if s.2 8 n = 0 ∧ s.2 7 n ≤ s.1 15 then _ else _) = _
  by_cases h : s.2 8 n = 0 ∧ s.2 7 n ≤ s.1 15
  · rw [if_pos h, if_pos h, e2, sFor_setI]; rfl
  · rw [if_neg h, if_neg h]
theorem sCasts_setI (s : MM) (k : Nat) (v p w : Int) : sCasts (setI s k v) p w = setI (sCasts s p w) k v := rfl
theorem sNote_setI (s : MM) (v t g p : Int) : sNote (setI s 14 v) t g p = setI (sNote s t g p) 14 v := by
  show setI (setI (setA (setA (setA s 39 (s.1 42).toNat t) 40 (s.1 42).toNat g) 41 (s.1 42).toNat p) 14 v) 42 (s.1 42 + 1) = _
  rw [setI_comm (by decide)]
  rfl
theorem sClStep_setI (s : MM) (v : Int) (k : Nat) : sClStep (setI s 14 v) k = setI (sClStep s k) 14 v := by
  unfold sClStep
  show (if s.2 25 k = 0 then sNote (setI (sCasts (setA s 25 k 2) (s.2 23 k) (s.2 24 k)) 14 v) (s.1 15) 115 (s.2 23 k) else setI s 14 v) = _
  by_cases h : s.2 25 k = 0
  · rw [if_pos h, if_pos h, sNote_setI]
  · rw [if_neg h, if_neg h]
/-- what a day begins with -/
def sBegin (σ : MM) : MM :=
  if σ.1 14 = 1 ∧ σ.1 0 = σ.1 15 - 6 then sRoll σ
  else if σ.1 14 = 2 ∧ σ.1 0 = σ.1 15 then setI σ 14 3
  else if σ.1 14 = 3 then sCloses σ else σ
theorem sDay_begin (σ : MM) : sDay σ = sBegin (setI σ 0 (σ.1 0 + 1)) := rfl
variable {K : KK} {h h' : AL2} {o : Nat} {ad : AD} {σ : MM}
theorem Rel.today (R : Rel K h o ad σ) {v : Int} (hh : h' = upH h o (pO 0 [.ref (ad 1 0 0), .ref (ad 2 0 0), .ref (ad 3 0 0), .ref (ad 4 0 0), va_rf (if σ.1 14 = 0 then none else some (ad 12 0 0)), IV v, .ref (ad 5 0 0), .ref (ad 6 0 0)])) : Rel K h' o ad (setI σ 0 v) := by
  refine R.put 0 0 0 ⟨rfl, rfl⟩ (by rw [R.1]; exact hh) (fun _ => rfl) (fun k i j hl => hl) (fun k i j hl hn => ?_)
  unfold cel
  split <;> first | rfl | exact absurd ⟨rfl, hl⟩ hn
theorem Rel.stage (R : Rel K h o ad σ) (hz : σ.1 14 ≠ 0) {v : Int} (hv : v ≠ 0) (hh : h' = upH h (ad 12 0 0) (pO 7 [IV (σ.1 15), IV (σ.1 16), IV (σ.1 17), .ref (ad 13 0 0), .ref (ad 14 0 0), .ref (ad 15 0 0), .ref (ad 16 0 0), .ref (ad 17 0 0), .ref (ad 18 0 0), IV v])) : Rel K h' o ad (setI σ 14 v) := by
  have hv2 : ¬ (setI σ 14 v).1 14 = 0 := hv
  refine R.put 12 0 0 ⟨hz, rfl, rfl⟩ hh (fun _ => rfl) (fun k i j hl => ?_) (fun k i j hl hn => ?_)
  · revert hl
    unfold live
    split <;> first | exact id | exact fun z => ⟨hz, z.2⟩ | exact fun z => z.elim
  · by_cases g : k = 0
    · subst g
      show pO 0 [.ref (ad 1 0 0), .ref (ad 2 0 0), .ref (ad 3 0 0), .ref (ad 4 0 0), va_rf (if (setI σ 14 v).1 14 = 0 then none else some (ad 12 0 0)), IV (σ.1 0), .ref (ad 5 0 0), .ref (ad 6 0 0)] = pO 0 [.ref (ad 1 0 0), .ref (ad 2 0 0), .ref (ad 3 0 0), .ref (ad 4 0 0), va_rf (if σ.1 14 = 0 then none else some (ad 12 0 0)), IV (σ.1 0), .ref (ad 5 0 0), .ref (ad 6 0 0)]
      rw [if_neg hv2, if_neg hz]
    · by_cases g2 : k = 12
      · subst g2
        exact absurd ⟨rfl, hl.2⟩ hn
      · unfold cel
        split <;> first | exact absurd rfl g | exact absurd rfl g2 | rfl
/-- how many people a box has -/
theorem Rel.people (R : Rel K h o ad σ) (hz : σ.1 14 ≠ 0) {y : Nat} (hy : (y : Int) < σ.1 19) {v : Int} (hh : h' = upH h (ad 19 y 0) (pO 8 [.ref (ad 20 y 0), .ref (ad 21 y 0), va_rf (if σ.2 32 y = -1 then none else some (ad 24 y 0)), IV v])) : Rel K h' o ad (setA σ 21 y v) := by
  refine R.put 19 y 0 ⟨hz, hy, rfl⟩ hh (fun _ => ?_) (fun k i j hl => hl) (fun k i j hl hn => ?_)
  · show pO 8 [.ref (ad 20 y 0), .ref (ad 21 y 0), va_rf (if σ.2 32 y = -1 then none else some (ad 24 y 0)), IV (uA (σ.2 21) y v y)] = _
    rw [uA_self]
  · by_cases g : k = 19
    · subst g
      have h9 : σ.1 14 ≠ 0 ∧ (i : Int) < σ.1 19 ∧ j = 0 := hl
      show pO 8 [.ref (ad 20 i 0), .ref (ad 21 i 0), va_rf (if σ.2 32 i = -1 then none else some (ad 24 i 0)), IV (uA (σ.2 21) y v i)] = _
      rw [uA_ne (fun e => hn ⟨rfl, e, h9.2.2⟩)]
      rfl
    · unfold cel
      split <;> first | exact absurd rfl g | rfl
abbrev adB (ad : AD) (n q b1 b2 : Nat) : AD := fun k i j => if k = 19 ∧ i = n ∧ j = 0 then q else if k = 20 ∧ i = n ∧ j = 0 then b1 else if k = 21 ∧ i = n ∧ j = 0 then b2 else ad k i j
/-- a new box -/
theorem Rel.box (R : Rel K h o ad σ) (hz : σ.1 14 ≠ 0) {n : Nat} (hn : σ.1 19 = (n : Int)) (h3 : σ.2 21 n = 0 ∧ σ.2 28 n = 0 ∧ σ.2 31 n = 0 ∧ σ.2 32 n = -1) {q b1 b2 : Nat} (hq : ∀ k i j, live σ k i j → ad k i j ≠ q) (hb1 : ∀ k i j, live σ k i j → ad k i j ≠ b1) (hb2 : ∀ k i j, live σ k i j → ad k i j ≠ b2) (n1 : q ≠ b1) (n2 : q ≠ b2) (n3 : b1 ≠ b2)
    (h1 : h' q = some (pO 8 [.ref b1, .ref b2, .null, IV 0])) (h2 : h' b1 = some (pL [])) (h2b : h' b2 = some (pL [])) (h4 : h' (ad 16 0 0) = some (pL (rg (σ.1 19) (fun s => ad 19 s 0) ++ [q]))) (h5 : ∀ k i j, live σ k i j → ¬ (k = 16 ∧ i = 0 ∧ j = 0) → h' (ad k i j) = h (ad k i j)) :
    Rel K h' o (adB ad n q b1 b2) (setI σ 19 (σ.1 19 + 1)) := by
  have key : ∀ k i j, live (setI σ 19 (σ.1 19 + 1)) k i j → ((k = 19 ∧ i = n ∧ j = 0) ∨ (k = 20 ∧ i = n ∧ j = 0) ∨ (k = 21 ∧ i = n ∧ j = 0)) ∨ (live σ k i j ∧ (19 ≤ k → k ≤ 24 → i ≠ n) ∧ (k = 27 → i ≠ n)) := fun k i j hl => by
    have c : ∀ i : Nat, (i : Int) < (setI σ 19 (σ.1 19 + 1)).1 19 → i = n ∨ ((i : Int) < σ.1 19 ∧ i ≠ n) := fun i hi => by
      have h9 : (i : Int) < σ.1 19 + 1 := hi
      omega
    revert hl
    unfold live
    split <;> first | exact fun z => z.elim | exact fun z => Or.inr ⟨z, fun h9 _ => absurd h9 (by decide), fun h9 => absurd h9 (by decide)⟩ | exact fun z => Or.inr ⟨z, fun _ h9 => absurd h9 (by decide), fun h9 => absurd h9 (by decide)⟩ | skip
    · intro z; rcases c _ z.2.1 with e | e
      · exact Or.inl (Or.inl ⟨rfl, e, z.2.2⟩)
      · exact Or.inr ⟨⟨z.1, e.1, z.2.2⟩, fun _ _ => e.2, fun _ => e.2⟩
    · intro z; rcases c _ z.2.1 with e | e
      · exact Or.inl (Or.inr (Or.inl ⟨rfl, e, z.2.2⟩))
      · exact Or.inr ⟨⟨z.1, e.1, z.2.2⟩, fun _ _ => e.2, fun _ => e.2⟩
    · intro z; rcases c _ z.2.1 with e | e
      · exact Or.inl (Or.inr (Or.inr ⟨rfl, e, z.2.2⟩))
      · exact Or.inr ⟨⟨z.1, e.1, z.2.2⟩, fun _ _ => e.2, fun _ => e.2⟩
    · intro z; rcases c _ z.2.1 with e | e
      · have h9 : _ < σ.2 31 _ := z.2.2
        rw [e, h3.2.2.1] at h9
        omega
      · exact Or.inr ⟨⟨z.1, e.1, z.2.2⟩, fun _ _ => e.2, fun _ => e.2⟩
    · intro z; rcases c _ z.2.1 with e | e
      · have h9 : _ < σ.2 31 _ := z.2.2
        rw [e, h3.2.2.1] at h9
        omega
      · exact Or.inr ⟨⟨z.1, e.1, z.2.2⟩, fun _ _ => e.2, fun _ => e.2⟩
    · intro z; rcases c _ z.2.1 with e | e
      · have h9 : σ.2 32 _ ≠ -1 := z.2.2.1
        rw [e, h3.2.2.2] at h9
        exact absurd rfl h9
      · exact Or.inr ⟨⟨z.1, e.1, z.2.2⟩, fun _ _ => e.2, fun _ => e.2⟩
    · intro z; rcases c _ z.2.1 with e | e
      · have h9 : σ.2 32 _ ≠ -1 := z.2.2.1
        rw [e, h3.2.2.2] at h9
        exact absurd rfl h9
      · exact Or.inr ⟨⟨z.1, e.1, z.2.2⟩, fun _ _ => e.2, fun _ => e.2⟩
  have a19 : adB ad n q b1 b2 19 n 0 = q := by simp [adB]
  have a20 : adB ad n q b1 b2 20 n 0 = b1 := by simp [adB]
  have a21 : adB ad n q b1 b2 21 n 0 = b2 := by simp [adB]
  have ai : ∀ k i j, i ≠ n → adB ad n q b1 b2 k i j = ad k i j := fun k i j hi => by simp [adB, hi]
  have ak : ∀ k i j, k ≠ 19 → k ≠ 20 → k ≠ 21 → adB ad n q b1 b2 k i j = ad k i j := fun k i j g1 g2 g3 => by simp [adB, g1, g2, g3]
  have aold : ∀ k i j, ¬ ((k = 19 ∧ i = n ∧ j = 0) ∨ (k = 20 ∧ i = n ∧ j = 0) ∨ (k = 21 ∧ i = n ∧ j = 0)) → adB ad n q b1 b2 k i j = ad k i j := fun k i j hN => by
    show (if _ then _ else _) = _
    rw [if_neg (fun z => hN (Or.inl z)), if_neg (fun z => hN (Or.inr (Or.inl z))), if_neg (fun z => hN (Or.inr (Or.inr z)))]
  refine R.grow _ (fun k i j => (k = 19 ∧ i = n ∧ j = 0) ∨ (k = 20 ∧ i = n ∧ j = 0) ∨ (k = 21 ∧ i = n ∧ j = 0)) (by rw [ak 0 0 0 (by decide) (by decide) (by decide)]; exact R.1) (fun k i j hl hN => ?_) (fun k i j hN => ?_) (fun k i j k2 i2 j2 hN hN2 e => ?_) (fun k i j hl => ?_)
  · rcases key k i j hl with z | z
    · exact absurd z hN
    · exact ⟨z.1, aold _ _ _ hN⟩
  · rcases hN with ⟨e1, e2, e3⟩ | ⟨e1, e2, e3⟩ | ⟨e1, e2, e3⟩ <;> rw [e1, e2, e3]
    · rw [a19]; exact hq
    · rw [a20]; exact hb1
    · rw [a21]; exact hb2
  · have f : ∀ k i j, ((k = 19 ∧ i = n ∧ j = 0) ∨ (k = 20 ∧ i = n ∧ j = 0) ∨ (k = 21 ∧ i = n ∧ j = 0)) → (k = 19 ∨ k = 20 ∨ k = 21) ∧ i = n ∧ j = 0 ∧ adB ad n q b1 b2 k i j = (if k = 19 then q else if k = 20 then b1 else b2) := fun k i j z => by
      rcases z with ⟨e1, e2, e3⟩ | ⟨e1, e2, e3⟩ | ⟨e1, e2, e3⟩ <;> rw [e1, e2, e3]
      · exact ⟨Or.inl rfl, rfl, rfl, a19⟩
      · exact ⟨Or.inr (Or.inl rfl), rfl, rfl, a20⟩
      · exact ⟨Or.inr (Or.inr rfl), rfl, rfl, a21⟩
    obtain ⟨p1, p2, p3, p4⟩ := f _ _ _ hN
    obtain ⟨q1, q2, q3, q4⟩ := f _ _ _ hN2
    rw [p4, q4] at e
    refine ⟨?_, p2.trans q2.symm, p3.trans q3.symm⟩
    rcases p1 with p1 | p1 | p1 <;> rcases q1 with q1 | q1 | q1 <;> rw [p1, q1] at e ⊢ <;> first | exact absurd (show q = b1 from e) n1 | exact absurd (show q = b2 from e) n2 | exact absurd (show b1 = b2 from e) n3 | exact absurd (show b1 = q from e) (Ne.symm n1) | exact absurd (show b2 = q from e) (Ne.symm n2) | exact absurd (show b2 = b1 from e) (Ne.symm n3)
  · rcases key k i j hl with z | ⟨z, zi, zi7⟩
    · rcases z with ⟨e1, e2, e3⟩ | ⟨e1, e2, e3⟩ | ⟨e1, e2, e3⟩ <;> rw [e1, e2, e3]
      · rw [a19, h1]
        show _ = some (pO 8 [.ref (adB ad n q b1 b2 20 n 0), .ref (adB ad n q b1 b2 21 n 0), va_rf (if σ.2 32 n = -1 then none else some (adB ad n q b1 b2 24 n 0)), IV (σ.2 21 n)])
        rw [a20, a21, if_pos h3.2.2.2, h3.1]; rfl
      · rw [a20, h2]
        show _ = some (cL (rg (σ.2 28 n) _))
        rw [h3.2.1]; rfl
      · rw [a21, h2b]
        show _ = some (cL (rg (σ.2 31 n) _))
        rw [h3.2.2.1]; rfl
    · have hN : ¬ ((k = 19 ∧ i = n ∧ j = 0) ∨ (k = 20 ∧ i = n ∧ j = 0) ∨ (k = 21 ∧ i = n ∧ j = 0)) := fun y => by
        rcases y with ⟨e1, e, _⟩ | ⟨e1, e, _⟩ | ⟨e1, e, _⟩ <;> exact zi (by omega) (by omega) e
      rw [aold _ _ _ hN]
      by_cases g : k = 16
      · subst g
        obtain ⟨-, e2, e3⟩ : σ.1 14 ≠ 0 ∧ i = 0 ∧ j = 0 := z
        rw [e2, e3, h4]
        show _ = some (cL (rg (σ.1 19 + 1) (fun s => adB ad n q b1 b2 19 s 0)))
        rw [rg_succ (by omega), show (σ.1 19).toNat = n by omega, a19, rg_ext (f := fun s => adB ad n q b1 b2 19 s 0) (g := fun s => ad 19 s 0) (fun s hs => ai 19 s 0 (by omega))]
      · rw [h5 k i j z (fun y => g y.1), R.at k i j z]
        congr 1
        by_cases g19 : k = 19
        · subst g19
          have e := zi (by decide) (by decide)
          show _ = pO 8 [.ref (adB ad n q b1 b2 20 i 0), .ref (adB ad n q b1 b2 21 i 0), va_rf (if σ.2 32 i = -1 then none else some (adB ad n q b1 b2 24 i 0)), IV (σ.2 21 i)]
          rw [ai 20 i 0 e, ai 21 i 0 e, ai 24 i 0 e]
          rfl
        · revert z zi zi7
          unfold cel live
          split <;> first | exact absurd rfl g | exact absurd rfl g19 | exact fun z _ _ => z.elim | (intro _ _ _; simp only [ak _ _ _ (show (0 : Nat) ≠ 19 by decide) (show (0 : Nat) ≠ 20 by decide) (show (0 : Nat) ≠ 21 by decide)]; first | rfl | skip) | skip
          all_goals first | rfl | (intro _ zi _; have e := zi (by decide) (by decide); simp only [ai _ _ _ e]; rfl) | (intro _ _ e; have e := e rfl; simp only [ai _ _ _ e]; rfl) | skip
end REL9
