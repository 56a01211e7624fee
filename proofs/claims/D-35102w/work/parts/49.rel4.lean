/-! THE COMPONENT'S OBJECTS: notes -/
set_option maxRecDepth 100000
section REL5
variable {K : KK} {h h' : AL2} {o : Nat} {ad : AD} {σ : MM}
/-- a new note -/
theorem Rel.note (R : Rel K h o ad σ) (hz : σ.1 14 ≠ 0) (n42 : 0 ≤ σ.1 42) {q : Nat} {t g p : Int} (hq : ∀ k i j, live σ k i j → ad k i j ≠ q) (h1 : h q = some (pO 6 [IV t, IV g, IV p])) (hh : h' = upH h (ad 18 0 0) (pL (rg (σ.1 42) (fun n => ad 26 n 0) ++ [q]))) : Rel K h' o (adU ad 26 (σ.1 42).toNat 0 q) (sNote σ t g p) := by
  refine R.link 26 (σ.1 42).toNat 0 q hq 18 0 0 (by decide) (by decide) ⟨hz, rfl, rfl⟩ h1 hh (fun k i j hl hn => ?_) (fun z => by have := z.2.1; omega) ?_ ?_ (fun k i j hl g1 g0 => ?_)
  · by_cases g : k = 26
    · subst g
      have h9 : σ.1 14 ≠ 0 ∧ (i : Int) < σ.1 42 + 1 ∧ j = 0 := hl
      exact ⟨hz, by have : i ≠ (σ.1 42).toNat := fun e => hn ⟨rfl, e, h9.2.2⟩; omega, h9.2.2⟩
    · revert hl
      unfold live
      split <;> first | exact id | exact absurd rfl g | exact fun z => z.elim
  · show pO 6 [IV (uA (σ.2 39) (σ.1 42).toNat t (σ.1 42).toNat), IV (uA (σ.2 40) (σ.1 42).toNat g (σ.1 42).toNat), IV (uA (σ.2 41) (σ.1 42).toNat p (σ.1 42).toNat)] = _
    rw [uA_self, uA_self, uA_self]
  · show cL (rg (σ.1 42 + 1) (fun s => adU ad 26 (σ.1 42).toNat 0 q 26 s 0)) = _
    rw [rg_succ n42, adU_self]
    have : rg (σ.1 42) (fun s => adU ad 26 (σ.1 42).toNat 0 q 26 s 0) = rg (σ.1 42) (fun s => ad 26 s 0) := rg_ext fun i hi => adU_i (by omega)
    rw [this]
  · by_cases g : k = 26
    · subst g
      have h9 : σ.1 14 ≠ 0 ∧ (i : Int) < σ.1 42 + 1 ∧ j = 0 := hl
      have h8 : i ≠ (σ.1 42).toNat := fun e => g1 ⟨rfl, e, h9.2.2⟩
      show pO 6 [IV (uA (σ.2 39) (σ.1 42).toNat t i), IV (uA (σ.2 40) (σ.1 42).toNat _ i), IV (uA (σ.2 41) (σ.1 42).toNat p i)] = pO 6 [IV (σ.2 39 i), IV (σ.2 40 i), IV (σ.2 41 i)]
      rw [uA_ne h8, uA_ne h8, uA_ne h8]
    · by_cases g18 : k = 18
      · subst g18
        exact absurd ⟨rfl, hl.2⟩ g0
      · unfold cel
        split <;> first | exact absurd rfl g | exact absurd rfl g18 | rfl
/-- a person dies -/
theorem Rel.died (R : Rel K h o ad σ) {p : Nat} (hp : (p : Int) < σ.1 9) {v : Int} (hh : h' = upH h (ad 7 p 0) (pO 4 [IV p, IV (σ.2 7 p), .ref (ad 9 p 0), IV v])) : Rel K h' o ad (setA σ 8 p v) := by
  refine R.put 7 p 0 ⟨hp, rfl⟩ hh (fun _ => ?_) (fun k i j hl => hl) (fun k i j2 hl hn => ?_)
  · show pO 4 [IV p, IV (σ.2 7 p), .ref (ad 9 p 0), IV (uA (σ.2 8) p v p)] = _
    rw [uA_self]
  · by_cases g : k = 7
    · subst g
      show pO 4 [IV i, IV (σ.2 7 i), .ref (ad 9 i 0), IV (uA (σ.2 8) p v i)] = pO 4 [IV i, IV (σ.2 7 i), .ref (ad 9 i 0), IV (σ.2 8 i)]
      rw [uA_ne (fun e => hn ⟨rfl, e, hl.2⟩)]
    · unfold cel
      split <;> first | exact absurd rfl g | rfl
/-- an envelope's state -/
theorem Rel.env (R : Rel K h o ad σ) (hz : σ.1 14 ≠ 0) {j : Nat} (hj : (j : Int) < σ.1 26) {v : Int} (hh : h' = upH h (ad 25 j 0) (pO 9 [.ref (ad 7 (σ.2 23 j).toNat 0), IV (σ.2 24 j), IV v])) : Rel K h' o ad (setA σ 25 j v) := by
  refine R.put 25 j 0 ⟨hz, hj, rfl⟩ hh (fun _ => ?_) (fun k i j hl => hl) (fun k i j2 hl hn => ?_)
  · show pO 9 [.ref (ad 7 (σ.2 23 j).toNat 0), IV (σ.2 24 j), IV (uA (σ.2 25) j v j)] = _
    rw [uA_self]
  · by_cases g : k = 25
    · subst g
      show pO 9 [.ref (ad 7 (σ.2 23 i).toNat 0), IV (σ.2 24 i), IV (uA (σ.2 25) j v i)] = pO 9 [.ref (ad 7 (σ.2 23 i).toNat 0), IV (σ.2 24 i), IV (σ.2 25 i)]
      rw [uA_ne (fun e => hn ⟨rfl, e, hl.2.2⟩)]
    · unfold cel
      split <;> first | exact absurd rfl g | rfl
end REL5
