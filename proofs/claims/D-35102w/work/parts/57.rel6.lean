/-! THE COMPONENT'S OBJECTS: ballots, envelopes -/
set_option maxRecDepth 100000
section REL7
theorem setA_comm {σ : MM} {k i k2 i2 : Nat} {v v2 : Int} (h : k ≠ k2) : setA (setA σ k i v) k2 i2 v2 = setA (setA σ k2 i2 v2) k i v := by
  refine Prod.ext rfl (funext fun j => ?_)
  show (if j = k2 then uA (if k2 = k then uA (σ.2 k) i v else σ.2 k2) i2 v2 else if j = k then uA (σ.2 k) i v else σ.2 j) = (if j = k then uA (if k = k2 then uA (σ.2 k2) i2 v2 else σ.2 k) i v else if j = k2 then uA (σ.2 k2) i2 v2 else σ.2 j)
  rw [if_neg (Ne.symm h), if_neg h]
  by_cases e : j = k
  · rw [if_neg (fun z => h (e.symm.trans z)), if_pos e, if_pos e]
  · rw [if_neg e, if_neg e]
theorem sCasts_eq {σ : MM} {x y : Nat} {v : Int} (hy : σ.2 20 x = (y : Int)) : sCasts σ (x : Int) v = setA (setA (setA σ 22 x 1) 27 (20 * (y : Int) + σ.2 28 y).toNat v) 28 y (σ.2 28 y + 1) := by
  unfold sCasts
  rw [Int.toNat_natCast, hy, Int.toNat_natCast, setA_comm (k := 28) (k2 := 22) (by decide), setA_comm (k := 27) (k2 := 22) (by decide)]
theorem sNote_setA {σ : MM} {t g p : Int} {k i : Nat} {v : Int} (h : k ≠ 39 ∧ k ≠ 40 ∧ k ≠ 41) : setA (sNote σ t g p) k i v = sNote (setA σ k i v) t g p := by
  unfold sNote
  show setI (setA (setA (setA (setA σ 39 _ t) 40 _ g) 41 _ p) k i v) 42 _ = setI (setA (setA (setA (setA σ k i v) 39 _ t) 40 _ g) 41 _ p) 42 _
  rw [setA_comm (k := 41) (k2 := k) (Ne.symm h.2.2), setA_comm (k := 40) (k2 := k) (Ne.symm h.2.1), setA_comm (k := 39) (k2 := k) (Ne.symm h.1)]
  rfl
variable {K : KK} {h h' : AL2} {o : Nat} {ad : AD} {σ : MM}
/-- a ballot falls into a box -/
theorem Rel.ballot (R : Rel K h o ad σ) (hB : Bd σ) (hz : σ.1 14 ≠ 0) {y : Nat} (hy : (y : Int) < σ.1 19) {v : Int} (h28 : σ.2 28 y ≤ 19) (hh : h' = upH h (ad 20 y 0) (pL (rg (σ.2 28 y) (fun n => bx K (σ.2 27 (20 * y + n))) ++ [bx K v]))) : Rel K h' o ad (setA (setA σ 27 (20 * (y : Int) + σ.2 28 y).toNat v) 28 y (σ.2 28 y + 1)) := by
  have b0 : ∀ i, 0 ≤ σ.2 28 i ∧ σ.2 28 i ≤ 20 := fun i => hB.2 28 i
  have by0 := b0 y
  have e20 : ∀ i, cel K (setA (setA σ 27 (20 * (y : Int) + σ.2 28 y).toNat v) 28 y (σ.2 28 y + 1)) ad 20 i 0 = cL (rg (uA (σ.2 28) y (σ.2 28 y + 1) i) (fun n => bx K (uA (σ.2 27) (20 * (y : Int) + σ.2 28 y).toNat v (20 * i + n)))) := fun i => rfl
  refine R.put 20 y 0 ⟨hz, hy, rfl⟩ hh (fun _ => ?_) (fun k i j hl => hl) (fun k i j hl hn => ?_)
  · rw [e20, uA_self, rg_succ by0.1]
    have e1 : rg (σ.2 28 y) (fun n => bx K (uA (σ.2 27) (20 * (y : Int) + σ.2 28 y).toNat v (20 * y + n))) = rg (σ.2 28 y) (fun n => bx K (σ.2 27 (20 * y + n))) := rg_ext fun n hn => by rw [uA_ne (by omega)]
    have e2 : 20 * y + (σ.2 28 y).toNat = (20 * (y : Int) + σ.2 28 y).toNat := by omega
    rw [e1, e2, uA_self]
  · by_cases g : k = 20
    · subst g
      have hj : j = 0 := hl.2.2
      subst hj
      have hi : i ≠ y := fun e => hn ⟨rfl, e, rfl⟩
      rw [e20, uA_ne hi]
      have bi := b0 i
      have e1 : rg (σ.2 28 i) (fun n => bx K (uA (σ.2 27) (20 * (y : Int) + σ.2 28 y).toNat v (20 * i + n))) = rg (σ.2 28 i) (fun n => bx K (σ.2 27 (20 * i + n))) := rg_ext fun n hn => by rw [uA_ne (by omega)]
      rw [e1]
      rfl
    · unfold cel
      split <;> first | exact absurd rfl g | rfl
/-- a new envelope -/
theorem Rel.envel (R : Rel K h o ad σ) (hz : σ.1 14 ≠ 0) (n26 : 0 ≤ σ.1 26) {q p : Nat} {v : Int} (hq : ∀ k i j, live σ k i j → ad k i j ≠ q) (h1 : h q = some (pO 9 [.ref (ad 7 p 0), IV v, IV 0])) (hh : h' = upH h (ad 17 0 0) (pL (rg (σ.1 26) (fun e => ad 25 e 0) ++ [q]))) : Rel K h' o (adU ad 25 (σ.1 26).toNat 0 q) (setI (setA (setA (setA σ 23 (σ.1 26).toNat p) 24 (σ.1 26).toNat v) 25 (σ.1 26).toNat 0) 26 (σ.1 26 + 1)) := by
  refine R.link 25 (σ.1 26).toNat 0 q hq 17 0 0 (by decide) (by decide) ⟨hz, rfl, rfl⟩ h1 hh (fun k i j hl hn => ?_) (fun z => by have := z.2.1; omega) ?_ ?_ (fun k i j hl g1 g0 => ?_)
  · by_cases g : k = 25
    · subst g
      have h9 : σ.1 14 ≠ 0 ∧ (i : Int) < σ.1 26 + 1 ∧ j = 0 := hl
      exact ⟨hz, by have : i ≠ (σ.1 26).toNat := fun e => hn ⟨rfl, e, h9.2.2⟩; omega, h9.2.2⟩
    · revert hl
      unfold live
      split <;> first | exact id | exact absurd rfl g | exact fun z => z.elim
  · show pO 9 [.ref (adU ad 25 (σ.1 26).toNat 0 q 7 (uA (σ.2 23) (σ.1 26).toNat (p : Int) (σ.1 26).toNat).toNat 0), IV (uA (σ.2 24) (σ.1 26).toNat v (σ.1 26).toNat), IV (uA (σ.2 25) (σ.1 26).toNat 0 (σ.1 26).toNat)] = _
    rw [uA_self, uA_self, uA_self, Int.toNat_natCast, adU_k (by decide)]
  · show cL (rg (σ.1 26 + 1) (fun s => adU ad 25 (σ.1 26).toNat 0 q 25 s 0)) = _
    rw [rg_succ n26, adU_self]
    have : rg (σ.1 26) (fun s => adU ad 25 (σ.1 26).toNat 0 q 25 s 0) = rg (σ.1 26) (fun s => ad 25 s 0) := rg_ext fun i hi => adU_i (by omega)
    rw [this]
  · by_cases g : k = 25
    · subst g
      have h9 : σ.1 14 ≠ 0 ∧ (i : Int) < σ.1 26 + 1 ∧ j = 0 := hl
      have h8 : i ≠ (σ.1 26).toNat := fun e => g1 ⟨rfl, e, h9.2.2⟩
      show pO 9 [.ref (adU ad 25 (σ.1 26).toNat 0 q 7 (uA (σ.2 23) (σ.1 26).toNat (p : Int) i).toNat 0), IV (uA (σ.2 24) (σ.1 26).toNat v i), IV (uA (σ.2 25) (σ.1 26).toNat 0 i)] = pO 9 [.ref (ad 7 (σ.2 23 i).toNat 0), IV (σ.2 24 i), IV (σ.2 25 i)]
      rw [uA_ne h8, uA_ne h8, uA_ne h8, adU_k (by decide)]
    · by_cases g17 : k = 17
      · subst g17
        exact absurd ⟨rfl, hl.2⟩ g0
      · unfold cel
        split <;> first | exact absurd rfl g | exact absurd rfl g17 | rfl
end REL7
