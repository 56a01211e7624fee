/-! THE COMPONENT'S OBJECTS: a new election -/
set_option maxRecDepth 100000
section REL8
theorem sCl1_1 (σ : MM) : ∀ n : Nat, (sCl1 σ n).1 = σ.1
  | 0 => rfl
  | n + 1 => sCl1_1 σ n
theorem sCl2_1 (σ : MM) : ∀ n : Nat, (sCl2 σ n).1 = σ.1
  | 0 => rfl
  | n + 1 => sCl2_1 σ n
theorem sCl1_o (σ : MM) {k : Nat} (h : k ≠ 20 ∧ k ≠ 22) : ∀ n : Nat, (sCl1 σ n).2 k = σ.2 k
  | 0 => rfl
  | n + 1 => by unfold sCl1; rw [setA_2, if_neg h.2, setA_2, if_neg h.1]; exact sCl1_o σ h n
theorem sCl2_o (σ : MM) {k : Nat} (h : k ≠ 18 ∧ k ≠ 21 ∧ k ≠ 28 ∧ k ≠ 31 ∧ k ≠ 32) : ∀ n : Nat, (sCl2 σ n).2 k = σ.2 k
  | 0 => rfl
  | n + 1 => by unfold sCl2; rw [setA_2, if_neg h.2.2.2.2, setA_2, if_neg h.2.2.2.1, setA_2, if_neg h.2.2.1, setA_2, if_neg h.2.1, setA_2, if_neg h.1]; exact sCl2_o σ h n
theorem sCl1_w (σ : MM) : ∀ n j : Nat, j < n → (sCl1 σ n).2 20 j = -1 ∧ (sCl1 σ n).2 22 j = 0
  | 0, j, h => absurd h (Nat.not_lt_zero _)
  | n + 1, j, h => by
    show uA ((sCl1 σ n).2 20) n (-1) j = -1 ∧ uA ((sCl1 σ n).2 22) n 0 j = 0
    rw [uA_ap, uA_ap]
    by_cases e : j = n
    · rw [if_pos e, if_pos e]; exact ⟨rfl, rfl⟩
    · rw [if_neg e, if_neg e]; exact sCl1_w σ n j (by omega)
theorem sCl2_w (σ : MM) : ∀ n j : Nat, j < n → (sCl2 σ n).2 18 j = 0 ∧ (sCl2 σ n).2 21 j = 0 ∧ (sCl2 σ n).2 28 j = 0 ∧ (sCl2 σ n).2 31 j = 0 ∧ (sCl2 σ n).2 32 j = -1
  | 0, j, h => absurd h (Nat.not_lt_zero _)
  | n + 1, j, h => by
    show uA ((sCl2 σ n).2 18) n 0 j = 0 ∧ uA ((sCl2 σ n).2 21) n 0 j = 0 ∧ uA ((sCl2 σ n).2 28) n 0 j = 0 ∧ uA ((sCl2 σ n).2 31) n 0 j = 0 ∧ uA ((sCl2 σ n).2 32) n (-1) j = -1
    rw [uA_ap, uA_ap, uA_ap, uA_ap, uA_ap]
    by_cases e : j = n
    · rw [if_pos e, if_pos e, if_pos e, if_pos e, if_pos e]; exact ⟨rfl, rfl, rfl, rfl, rfl⟩
    · rw [if_neg e, if_neg e, if_neg e, if_neg e, if_neg e]; exact sCl2_w σ n j (by omega)
theorem sClears_1 (σ : MM) : (sClears σ).1 = (setI (setI (setI σ 19 0) 26 0) 42 0).1 := by unfold sClears; rw [sCl2_1, sCl1_1]
theorem sClears_2 (σ : MM) {k : Nat} (h : k ≠ 18 ∧ k ≠ 20 ∧ k ≠ 21 ∧ k ≠ 22 ∧ k ≠ 28 ∧ k ≠ 31 ∧ k ≠ 32) : (sClears σ).2 k = σ.2 k := by unfold sClears; rw [sCl2_o _ ⟨h.1, h.2.2.1, h.2.2.2.2.1, h.2.2.2.2.2.1, h.2.2.2.2.2.2⟩, sCl1_o _ ⟨h.2.1, h.2.2.2.1⟩]; rfl
theorem sClears_p (σ : MM) {j : Nat} (hj : j < 20) : (sClears σ).2 20 j = -1 ∧ (sClears σ).2 22 j = 0 := by
  unfold sClears
  rw [sCl2_o _ (by decide), sCl2_o _ (by decide)]
  exact sCl1_w _ 20 j hj
theorem sClears_s (σ : MM) {j : Nat} (hj : j < 5) : (sClears σ).2 18 j = 0 ∧ (sClears σ).2 21 j = 0 ∧ (sClears σ).2 28 j = 0 ∧ (sClears σ).2 31 j = 0 ∧ (sClears σ).2 32 j = -1 := sCl2_w _ 5 j hj
abbrev sCall (σ : MM) (d m v : Int) : MM := setI (setI (setI (setI (sClears σ) 14 1) 15 d) 16 m) 17 v
theorem sCall_1 (σ : MM) (d m v : Int) {k : Nat} (h : k ≠ 14 ∧ k ≠ 15 ∧ k ≠ 16 ∧ k ≠ 17 ∧ k ≠ 19 ∧ k ≠ 26 ∧ k ≠ 42) : (sCall σ d m v).1 k = σ.1 k := by
  show (if k = 17 then v else if k = 16 then m else if k = 15 then d else if k = 14 then 1 else (sClears σ).1 k) = _
  rw [if_neg h.2.2.2.1, if_neg h.2.2.1, if_neg h.2.1, if_neg h.1, sClears_1, setI_1, if_neg h.2.2.2.2.2.2, setI_1, if_neg h.2.2.2.2.2.1, setI_1, if_neg h.2.2.2.2.1]
theorem sCall_19 (σ : MM) (d m v : Int) : (sCall σ d m v).1 19 = 0 ∧ (sCall σ d m v).1 26 = 0 ∧ (sCall σ d m v).1 42 = 0 := by
  have e : ∀ k, k ≠ 14 → k ≠ 15 → k ≠ 16 → k ≠ 17 → (sCall σ d m v).1 k = (setI (setI (setI σ 19 0) 26 0) 42 0).1 k := fun k h1 h2 h3 h4 => by
    show (if k = 17 then v else if k = 16 then m else if k = 15 then d else if k = 14 then 1 else (sClears σ).1 k) = _
    rw [if_neg h4, if_neg h3, if_neg h2, if_neg h1, sClears_1]
  exact ⟨e 19 (by decide) (by decide) (by decide) (by decide), e 26 (by decide) (by decide) (by decide) (by decide), e 42 (by decide) (by decide) (by decide) (by decide)⟩
variable {K : KK} {h h' : AL2} {o : Nat} {ad : AD} {σ : MM}
abbrev adE (ad : AD) (F : Nat → Nat) : AD := fun k i j => if 12 ≤ k ∧ k ≤ 18 ∧ i = 0 ∧ j = 0 then F k else ad k i j
/-- a new election -/
theorem Rel.elect (R : Rel K h o ad σ) {F : Nat → Nat} {d m v : Int} (hf : ∀ x, 12 ≤ x → x ≤ 18 → ∀ k i j, live σ k i j → ad k i j ≠ F x) (hF : ∀ x y, 12 ≤ x → x < y → y ≤ 18 → F x ≠ F y)
    (ht : h' o = some (pO 0 [.ref (ad 1 0 0), .ref (ad 2 0 0), .ref (ad 3 0 0), .ref (ad 4 0 0), .ref (F 12), IV (σ.1 0), .ref (ad 5 0 0), .ref (ad 6 0 0)]))
    (h12 : h' (F 12) = some (pO 7 [IV d, IV m, IV v, .ref (F 13), .ref (F 14), .ref (F 15), .ref (F 16), .ref (F 17), .ref (F 18), IV 1])) (h13 : h' (F 13) = some (pA 0 5 ((sClears σ).2 18))) (h14 : h' (F 14) = some (pA 0 20 ((sClears σ).2 20))) (h15 : h' (F 15) = some (pA 1 20 ((sClears σ).2 22)))
    (h16 : h' (F 16) = some (pL [])) (h17 : h' (F 17) = some (pL [])) (h18 : h' (F 18) = some (pL [])) (ho : ∀ a c, h a = some c → a ≠ o → h' a = some c) : Rel K h' o (adE ad F) (sCall σ d m v) := by
  have aF : ∀ x, 12 ≤ x → x ≤ 18 → adE ad F x 0 0 = F x := fun x h1 h2 => if_pos ⟨h1, h2, rfl, rfl⟩
  have aO : ∀ k i j, k < 12 → adE ad F k i j = ad k i j := fun k i j hk => if_neg (fun z => by omega)
  have g19 := sCall_19 σ d m v
  have hl19 : ∀ i : Nat, ¬ (i : Int) < (sCall σ d m v).1 19 := fun i z => by rw [g19.1] at z; omega
  have hl26 : ∀ i : Nat, ¬ (i : Int) < (sCall σ d m v).1 26 := fun i z => by rw [g19.2.1] at z; omega
  have hl42 : ∀ i : Nat, ¬ (i : Int) < (sCall σ d m v).1 42 := fun i z => by rw [g19.2.2] at z; omega
  have key : ∀ k i j, live (sCall σ d m v) k i j → (12 ≤ k ∧ k ≤ 18 ∧ i = 0 ∧ j = 0) ∨ (k < 12 ∧ live σ k i j) := fun k i j hl => by
    have c9 := sCall_1 σ d m v (k := 9) (by decide)
    have c6 := sCall_1 σ d m v (k := 6) (by decide)
    have c13 := sCall_1 σ d m v (k := 13) (by decide)
    revert hl
    unfold live
    rw [c9, c6, c13]
    split <;> first | exact fun z => Or.inr ⟨by decide, z⟩ | exact fun z => Or.inl ⟨by decide, by decide, z.2⟩ | exact fun z => absurd z.2.1 (hl19 _) | exact fun z => absurd z.2.1 (hl26 _) | exact fun z => absurd z.2.1 (hl42 _) | exact fun z => z.elim
  refine R.grow _ (fun k i j => 12 ≤ k ∧ k ≤ 18 ∧ i = 0 ∧ j = 0) ?_ (fun k i j hl hN => ?_) (fun k i j hN => ?_) (fun k i j k2 i2 j2 hN hN2 e => ?_) (fun k i j hl => ?_)
  · rw [aO 0 0 0 (by decide)]; exact R.1
  · rcases key k i j hl with z | z
    · exact absurd z hN
    · exact ⟨z.2, aO _ _ _ z.1⟩
  · obtain ⟨h1, h2, rfl, rfl⟩ := hN
    rw [aF k h1 h2]
    exact hf k h1 h2
  · obtain ⟨h1, h2, rfl, rfl⟩ := hN
    obtain ⟨h3, h4, rfl, rfl⟩ := hN2
    rw [aF k h1 h2, aF k2 h3 h4] at e
    refine ⟨?_, rfl, rfl⟩
    rcases Nat.lt_trichotomy k k2 with z | z | z
    · exact absurd e (hF _ _ h1 z h4)
    · exact z
    · exact absurd e.symm (hF _ _ h3 z h2)
  · rcases key k i j hl with z | z
    · obtain ⟨h1, h2, rfl, rfl⟩ := z
      rw [aF k h1 h2]
      rcases (show k = 12 ∨ k = 13 ∨ k = 14 ∨ k = 15 ∨ k = 16 ∨ k = 17 ∨ k = 18 by omega) with rfl | rfl | rfl | rfl | rfl | rfl | rfl
      · rw [h12]
        show _ = some (pO 7 [IV d, IV m, IV v, .ref (adE ad F 13 0 0), .ref (adE ad F 14 0 0), .ref (adE ad F 15 0 0), .ref (adE ad F 16 0 0), .ref (adE ad F 17 0 0), .ref (adE ad F 18 0 0), IV 1])
        rw [aF 13 (by decide) (by decide), aF 14 (by decide) (by decide), aF 15 (by decide) (by decide), aF 16 (by decide) (by decide), aF 17 (by decide) (by decide), aF 18 (by decide) (by decide)]
      · exact h13
      · exact h14
      · exact h15
      · rw [h16]
        show _ = some (cL (rg ((sCall σ d m v).1 19) _))
        rw [g19.1]; rfl
      · rw [h17]
        show _ = some (cL (rg ((sCall σ d m v).1 26) _))
        rw [g19.2.1]; rfl
      · rw [h18]
        show _ = some (cL (rg ((sCall σ d m v).1 42) _))
        rw [g19.2.2]; rfl
    · obtain ⟨z1, z2⟩ := z
      rw [aO _ _ _ z1]
      by_cases g : k = 0
      · subst g
        obtain ⟨rfl, rfl⟩ : i = 0 ∧ j = 0 := z2
        rw [R.1, ht]
        show _ = some (pO 0 [.ref (adE ad F 1 0 0), .ref (adE ad F 2 0 0), .ref (adE ad F 3 0 0), .ref (adE ad F 4 0 0), va_rf (if (sCall σ d m v).1 14 = 0 then none else some (adE ad F 12 0 0)), IV ((sCall σ d m v).1 0), .ref (adE ad F 5 0 0), .ref (adE ad F 6 0 0)])
        rw [if_neg (show ¬ (sCall σ d m v).1 14 = 0 by show ¬ (1 : Int) = 0; decide), aF 12 (by decide) (by decide), sCall_1 σ d m v (k := 0) (by decide)]
        rfl
      · have h9 := R.at k i j z2
        rw [ho _ _ h9 (by rw [← R.1]; exact R.ne z2 ⟨rfl, rfl⟩ (fun z => g z.1))]
        congr 1
        have c9 := sCall_1 σ d m v (k := 9) (by decide)
        have c6 := sCall_1 σ d m v (k := 6) (by decide)
        have c13 := sCall_1 σ d m v (k := 13) (by decide)
        have d1 : ∀ x, x ≠ 18 ∧ x ≠ 20 ∧ x ≠ 21 ∧ x ≠ 22 ∧ x ≠ 28 ∧ x ≠ 31 ∧ x ≠ 32 → (sCall σ d m v).2 x = σ.2 x := fun x hx => sClears_2 σ hx
        have hm : ∀ q, mvs (sCall σ d m v) q = mvs σ q := fun q => by unfold mvs; rw [c13, d1 10 (by decide)]
        revert z1 z2
        unfold cel live
        rw [c9, c6, d1 1 (by decide), d1 33 (by decide), d1 2 (by decide), d1 3 (by decide), d1 7 (by decide), d1 8 (by decide), d1 4 (by decide), d1 5 (by decide), d1 11 (by decide), d1 12 (by decide)]
        split <;> first | exact absurd rfl g | exact fun _ z => z.elim | exact fun z _ => absurd z (by decide) | exact fun _ _ => rfl
end REL8
