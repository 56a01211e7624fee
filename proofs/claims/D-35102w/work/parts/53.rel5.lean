/-! THE COMPONENT'S OBJECTS: boxes -/
set_option maxRecDepth 100000
section REL6
variable {K : KK} {h h' : AL2} {o : Nat} {ad : AD} {σ : MM}
/-- a box, with its lists -/
def BoxAt (K : KK) (h : AL2) (ad : AD) (σ : MM) (r b1 b2 s : Nat) : Prop := h r = some (pO 8 [.ref b1, .ref b2, va_rf (if σ.2 32 s = -1 then none else some (ad 24 s 0)), IV (σ.2 21 s)]) ∧ h b1 = some (pL (rg (σ.2 28 s) (fun n => bx K (σ.2 27 (20 * s + n))))) ∧ h b2 = some (pL (rg (σ.2 31 s) (fun n => ad 22 s n)))
/-- it is the station's box, or an empty one of its own -/
def BoxIs (ad : AD) (σ : MM) (r b1 b2 s : Nat) : Prop := (σ.1 14 ≠ 0 ∧ (s : Int) < σ.1 19 ∧ r = ad 19 s 0 ∧ b1 = ad 20 s 0 ∧ b2 = ad 21 s 0) ∨ (σ.1 19 ≤ s ∧ (r ≠ b1 ∧ r ≠ b2 ∧ b1 ≠ b2) ∧ ∀ k i j, live σ k i j → ad k i j ≠ r ∧ ad k i j ≠ b1 ∧ ad k i j ≠ b2)
theorem BoxAt.own (R : Rel K h o ad σ) (hz : σ.1 14 ≠ 0) {s : Nat} (hs : (s : Int) < σ.1 19) : BoxAt K h ad σ (ad 19 s 0) (ad 20 s 0) (ad 21 s 0) s := ⟨R.at 19 s 0 ⟨hz, hs, rfl⟩, R.at 20 s 0 ⟨hz, hs, rfl⟩, R.at 21 s 0 ⟨hz, hs, rfl⟩⟩
theorem BoxAt.none {s : Nat} {r b1 b2 : Nat} (h3 : σ.2 21 s = 0 ∧ σ.2 28 s = 0 ∧ σ.2 31 s = 0 ∧ σ.2 32 s = -1) (g1 : h r = some (pO 8 [.ref b1, .ref b2, .null, IV 0])) (g2 : h b1 = some (pL [])) (g3 : h b2 = some (pL [])) : BoxAt K h ad σ r b1 b2 s := by
  refine ⟨?_, ?_, ?_⟩
  · rw [g1, if_pos h3.2.2.2, h3.1]; rfl
  · rw [g2, h3.2.1]; rfl
  · rw [g3, h3.2.2.1]; rfl
/-- a station without a box has none that is settled -/
theorem In.boxed (hI : In σ) {s : Nat} (hs : s < 5) (hn : σ.2 32 s ≠ -1) : σ.1 14 ≠ 0 ∧ (s : Int) < σ.1 19 := by
  have h1 : (s : Int) < σ.1 19 := by
    rcases Int.lt_or_le (s : Int) (σ.1 19) with g | g
    · exact g
    · exact absurd (hI.2.2.2.2.1 s hs g).2.2.2 hn
  exact ⟨fun z => by have := (hI.s1 (by omega)).1; omega, h1⟩
theorem setA_self (σ : MM) (k i : Nat) : setA σ k i (σ.2 k i) = σ := by
  refine Prod.ext rfl (funext fun j => funext fun n => ?_)
  rw [setA_2]
  split
  · rename_i e; subst e; rw [uA_ap]; split
    · rename_i e; rw [e]
    · rfl
  · rfl
/-- the counts are cleared -/
theorem Rel.clearC (R : Rel K h o ad σ) (hz : σ.1 14 ≠ 0) {s : Nat} (hs : (s : Int) < σ.1 19) (hh : h' = upH h (ad 21 s 0) (pL [])) (h31 : 0 ≤ σ.2 31 s) : Rel K h' o ad (setA σ 31 s 0) := by
  have e31 : ∀ i, (setA σ 31 s 0).2 31 i = if i = s then 0 else σ.2 31 i := fun i => rfl
  refine R.put 21 s 0 ⟨hz, hs, rfl⟩ hh (fun _ => ?_) (fun k i j hl => ?_) (fun k i j hl hn => ?_)
  · show cL (rg ((setA σ 31 s 0).2 31 s) (fun n => ad 22 s n)) = _
    rw [e31, if_pos rfl]; rfl
  · by_cases g : k = 22
    · subst g
      have h9 : σ.1 14 ≠ 0 ∧ (i : Int) < σ.1 19 ∧ (j : Int) < (setA σ 31 s 0).2 31 i := hl
      rw [e31] at h9
      refine ⟨h9.1, h9.2.1, ?_⟩
      have := h9.2.2
      split at this
      · omega
      · exact this
    · by_cases g2 : k = 23
      · subst g2
        have h9 : σ.1 14 ≠ 0 ∧ (i : Int) < σ.1 19 ∧ (j : Int) < (setA σ 31 s 0).2 31 i := hl
        rw [e31] at h9
        refine ⟨h9.1, h9.2.1, ?_⟩
        have := h9.2.2
        split at this
        · omega
        · exact this
      · revert hl
        unfold live
        split <;> first | exact id | exact absurd rfl g | exact absurd rfl g2 | exact fun z => z.elim
  · by_cases g : k = 21
    · subst g
      have h9 : σ.1 14 ≠ 0 ∧ (i : Int) < σ.1 19 ∧ j = 0 := hl
      show cL (rg ((setA σ 31 s 0).2 31 i) (fun n => ad 22 i n)) = cL (rg (σ.2 31 i) (fun n => ad 22 i n))
      rw [e31, if_neg (fun e => hn ⟨rfl, e, h9.2.2⟩)]
    · unfold cel
      split <;> first | exact absurd rfl g | rfl
/-- nothing is settled any more -/
theorem Rel.unset (R : Rel K h o ad σ) (hz : σ.1 14 ≠ 0) {s : Nat} (hs : (s : Int) < σ.1 19) (hh : h' = upH h (ad 19 s 0) (pO 8 [.ref (ad 20 s 0), .ref (ad 21 s 0), .null, IV (σ.2 21 s)])) : Rel K h' o ad (setA σ 32 s (-1)) := by
  have e32 : ∀ i, (setA σ 32 s (-1)).2 32 i = if i = s then -1 else σ.2 32 i := fun i => rfl
  refine R.put 19 s 0 ⟨hz, hs, rfl⟩ hh (fun _ => ?_) (fun k i j hl => ?_) (fun k i j hl hn => ?_)
  · show pO 8 [.ref (ad 20 s 0), .ref (ad 21 s 0), va_rf (if (setA σ 32 s (-1)).2 32 s = -1 then none else some (ad 24 s 0)), IV (σ.2 21 s)] = _
    rw [e32, if_pos rfl, if_pos rfl]; rfl
  · by_cases g : k = 24
    · subst g
      have h9 : σ.1 14 ≠ 0 ∧ (i : Int) < σ.1 19 ∧ (setA σ 32 s (-1)).2 32 i ≠ -1 ∧ j = 0 := hl
      rw [e32] at h9
      refine ⟨h9.1, h9.2.1, fun z => h9.2.2.1 ?_, h9.2.2.2⟩
      split
      · rfl
      · exact z
    · by_cases g2 : k = 27
      · subst g2
        have h9 : σ.1 14 ≠ 0 ∧ (i : Int) < σ.1 19 ∧ (setA σ 32 s (-1)).2 32 i ≠ -1 ∧ j = 0 := hl
        rw [e32] at h9
        refine ⟨h9.1, h9.2.1, fun z => h9.2.2.1 ?_, h9.2.2.2⟩
        split
        · rfl
        · exact z
      · revert hl
        unfold live
        split <;> first | exact id | exact absurd rfl g | exact absurd rfl g2 | exact fun z => z.elim
  · by_cases g : k = 19
    · subst g
      have h9 : σ.1 14 ≠ 0 ∧ (i : Int) < σ.1 19 ∧ j = 0 := hl
      show pO 8 [.ref (ad 20 i 0), .ref (ad 21 i 0), va_rf (if (setA σ 32 s (-1)).2 32 i = -1 then none else some (ad 24 i 0)), IV (σ.2 21 i)] = _
      rw [e32, if_neg (fun e => hn ⟨rfl, e, h9.2.2⟩)]; rfl
    · by_cases g4 : k = 24
      · subst g4
        have h9 : (setA σ 32 s (-1)).2 32 i ≠ -1 := hl.2.2.1
        rw [e32] at h9
        have hi : ¬ i = s := fun e => h9 (if_pos e)
        show pO 10 [IV (σ.2 30 ((setA σ 32 s (-1)).2 32 i).toNat), .ref (ad 27 i 0)] = _
        rw [e32, if_neg hi]; rfl
      · by_cases g7 : k = 27
        · subst g7
          have h9 : (setA σ 32 s (-1)).2 32 i ≠ -1 := hl.2.2.1
          rw [e32] at h9
          have hi : ¬ i = s := fun e => h9 (if_pos e)
          show pA 0 6 (c6 (fun q => σ.2 29 (6 * ((setA σ 32 s (-1)).2 32 i).toNat + q))) = _
          rw [e32, if_neg hi]; rfl
        · revert hl
          unfold live cel
          split <;> first | exact absurd rfl g | exact absurd rfl g4 | exact absurd rfl g7 | exact fun z => z.elim | exact fun _ => rfl | skip
end REL6
