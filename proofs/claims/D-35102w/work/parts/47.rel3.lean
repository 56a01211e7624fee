/-! THE COMPONENT'S OBJECTS: several made at once -/
set_option maxRecDepth 100000
section REL4
variable {K : KK} {h h' : AL2} {o : Nat} {ad : AD} {σ σ' : MM}
theorem Rel.grow (R : Rel K h o ad σ) (ad' : AD) (N : Nat → Nat → Nat → Prop) (h00 : ad' 0 0 0 = o) (hold : ∀ k i j, live σ' k i j → ¬ N k i j → live σ k i j ∧ ad' k i j = ad k i j)
    (hnew : ∀ k i j, N k i j → ∀ k2 i2 j2, live σ k2 i2 j2 → ad k2 i2 j2 ≠ ad' k i j) (hinj : ∀ k i j k2 i2 j2, N k i j → N k2 i2 j2 → ad' k i j = ad' k2 i2 j2 → k = k2 ∧ i = i2 ∧ j = j2)
    (hc : ∀ k i j, live σ' k i j → h' (ad' k i j) = some (cel K σ' ad' k i j)) : Rel K h' o ad' σ' := by
  refine ⟨h00, hc, fun k i j k2 i2 j2 l1 l2 e => ?_⟩
  by_cases n1 : N k i j
  · by_cases n2 : N k2 i2 j2
    · exact hinj _ _ _ _ _ _ n1 n2 e
    · obtain ⟨g1, g2⟩ := hold _ _ _ l2 n2
      rw [g2] at e
      exact absurd e.symm (hnew _ _ _ n1 _ _ _ g1)
  · obtain ⟨g1, g2⟩ := hold _ _ _ l1 n1
    by_cases n2 : N k2 i2 j2
    · rw [g2] at e
      exact absurd e (hnew _ _ _ n2 _ _ _ g1)
    · obtain ⟨g3, g4⟩ := hold _ _ _ l2 n2
      rw [g2, g4] at e
      exact R.2.2 _ _ _ _ _ _ g1 g3 e
abbrev adP (ad : AD) (n m q dl dw : Nat) : AD := fun k i j => if k = 7 ∧ i = n ∧ j = 0 then q else if k = 9 ∧ i = n ∧ j = 0 then dl else if k = 10 ∧ i = m ∧ j = 0 then dw else ad k i j
abbrev sPers (σ : MM) (age c : Int) : MM := sComes (setI (setA σ 7 (σ.1 9).toNat age) 9 (σ.1 9 + 1)) (σ.1 9) c
theorem mvs_new (hW : IW σ) (n9 : 0 ≤ σ.1 9) (n13 : 0 ≤ σ.1 13) (age c : Int) (p : Nat) : mvs (sPers σ age c) p = if (p : Int) = σ.1 9 then [(σ.1 13).toNat] else mvs σ p := by
  have e1 : mvs (sPers σ age c) p = mvs (sComes (setI (setA σ 7 (σ.1 9).toNat age) 9 (σ.1 9 + 1)) ((σ.1 9).toNat : Int) c) p := by rw [show (((σ.1 9).toNat : Nat) : Int) = σ.1 9 by omega]
  have e2 : mvs (setI (setA σ 7 (σ.1 9).toNat age) 9 (σ.1 9 + 1)) p = mvs σ p := rfl
  rw [e1, mvs_comes (σ := setI (setA σ 7 (σ.1 9).toNat age) 9 (σ.1 9 + 1)) (show 0 ≤ σ.1 13 from n13), e2]
  by_cases e : (p : Int) = σ.1 9
  · rw [if_pos (show p = (σ.1 9).toNat by omega), if_pos e]
    have h0 : mvs σ p = [] := List.filter_eq_nil_iff.mpr fun x hx => by
      have h9 := (hW.1 x (by have := List.mem_range.mp hx; omega)).1
      have : ¬ σ.2 10 x = (p : Int) := by omega
      simp [this]
    rw [h0]
    rfl
  · rw [if_neg (show ¬ p = (σ.1 9).toNat by omega), if_neg e, List.append_nil]
/-- a new person -/
theorem Rel.person (R : Rel K h o ad σ) (hW : IW σ) (n9 : 0 ≤ σ.1 9) (n13 : 0 ≤ σ.1 13) (hd0 : σ.2 8 (σ.1 9).toNat = 0) (h23 : ∀ i : Nat, (i : Int) < σ.1 26 → 0 ≤ σ.2 23 i ∧ σ.2 23 i < σ.1 9) {q dl dw : Nat} {age c : Int} (hq : ∀ k i j, live σ k i j → ad k i j ≠ q) (hl : ∀ k i j, live σ k i j → ad k i j ≠ dl) (hw : ∀ k i j, live σ k i j → ad k i j ≠ dw) (n1 : q ≠ dl) (n2 : q ≠ dw) (n3 : dl ≠ dw)
    (h1 : h' q = some (pO 4 [IV (σ.1 9), IV age, .ref dl, IV 0])) (h2 : h' dl = some (pL [dw])) (h3 : h' dw = some (pO 5 [IV (σ.1 0), IV c])) (h4 : h' (ad 2 0 0) = some (pL (rg (σ.1 9) (fun p => ad 7 p 0) ++ [q]))) (h5 : ∀ k i j, live σ k i j → ¬ (k = 2 ∧ i = 0 ∧ j = 0) → h' (ad k i j) = h (ad k i j)) :
    Rel K h' o (adP ad (σ.1 9).toNat (σ.1 13).toNat q dl dw) (sPers σ age c) := by
  have hn : (((σ.1 9).toNat : Nat) : Int) = σ.1 9 := by omega
  have hmap : ∀ p' : Nat, (mvs σ p').map (fun m => adP ad (σ.1 9).toNat (σ.1 13).toNat q dl dw 10 m 0) = (mvs σ p').map (fun m => ad 10 m 0) := fun p' => List.map_congr_left fun m hm => by
    have := mvs_lt hm
    have h9 : ¬ m = (σ.1 13).toNat := by omega
    simp [adP, h9]
  refine R.grow _ (fun k i j => (k = 7 ∧ i = (σ.1 9).toNat ∧ j = 0) ∨ (k = 9 ∧ i = (σ.1 9).toNat ∧ j = 0) ∨ (k = 10 ∧ i = (σ.1 13).toNat ∧ j = 0)) (by simp [adP]; exact R.1) (fun k i j hl hN => ?_) (fun k i j hN => ?_) (fun k i j k2 i2 j2 hN hN2 e => ?_) (fun k i j hlv => ?_)
  · refine ⟨?_, ?_⟩
    · by_cases g7 : k = 7
      · subst g7
        have h9 : (i : Int) < σ.1 9 + 1 ∧ j = 0 := hl
        exact ⟨by have : i ≠ (σ.1 9).toNat := fun e => hN (Or.inl ⟨rfl, e, h9.2⟩); omega, h9.2⟩
      · by_cases g9 : k = 9
        · subst g9
          have h9 : (i : Int) < σ.1 9 + 1 ∧ j = 0 := hl
          exact ⟨by have : i ≠ (σ.1 9).toNat := fun e => hN (Or.inr (Or.inl ⟨rfl, e, h9.2⟩)); omega, h9.2⟩
        · by_cases g10 : k = 10
          · subst g10
            have h9 : (i : Int) < σ.1 13 + 1 ∧ j = 0 := hl
            exact ⟨by have : i ≠ (σ.1 13).toNat := fun e => hN (Or.inr (Or.inr ⟨rfl, e, h9.2⟩)); omega, h9.2⟩
          · revert hl
            unfold live
            split <;> first | exact id | exact absurd rfl g7 | exact absurd rfl g9 | exact absurd rfl g10 | exact fun z => z.elim
    · show (if _ then _ else _) = _
      rw [if_neg (fun z => hN (Or.inl z)), if_neg (fun z => hN (Or.inr (Or.inl z))), if_neg (fun z => hN (Or.inr (Or.inr z)))]
  · rcases hN with ⟨rfl, rfl, rfl⟩ | ⟨rfl, rfl, rfl⟩ | ⟨rfl, rfl, rfl⟩
    · simpa [adP] using hq
    · simpa [adP] using hl
    · simpa [adP] using hw
  · rcases hN with ⟨rfl, rfl, rfl⟩ | ⟨rfl, rfl, rfl⟩ | ⟨rfl, rfl, rfl⟩ <;> rcases hN2 with ⟨rfl, rfl, rfl⟩ | ⟨rfl, rfl, rfl⟩ | ⟨rfl, rfl, rfl⟩ <;> simp_all [adP]
  · have p7 : adP ad (σ.1 9).toNat (σ.1 13).toNat q dl dw 7 (σ.1 9).toNat 0 = q := by simp [adP]
    have p9 : adP ad (σ.1 9).toNat (σ.1 13).toNat q dl dw 9 (σ.1 9).toNat 0 = dl := by simp [adP]
    have p10 : adP ad (σ.1 9).toNat (σ.1 13).toNat q dl dw 10 (σ.1 13).toNat 0 = dw := by simp [adP]
    by_cases g7 : k = 7
    · subst g7
      have h9 : (i : Int) < σ.1 9 + 1 ∧ j = 0 := hlv
      obtain ⟨h9, rfl⟩ := h9
      by_cases e : i = (σ.1 9).toNat
      · subst e
        rw [p7, h1]
        show _ = some (pO 4 [IV ((σ.1 9).toNat : Int), IV (uA (σ.2 7) (σ.1 9).toNat age (σ.1 9).toNat), .ref (adP ad (σ.1 9).toNat (σ.1 13).toNat q dl dw 9 (σ.1 9).toNat 0), IV (σ.2 8 (σ.1 9).toNat)])
        rw [p9, uA_self, hd0, hn]
      · have q7 : adP ad (σ.1 9).toNat (σ.1 13).toNat q dl dw 7 i 0 = ad 7 i 0 := by simp [adP, e]
        have q9 : adP ad (σ.1 9).toNat (σ.1 13).toNat q dl dw 9 i 0 = ad 9 i 0 := by simp [adP, e]
        rw [q7, h5 7 i 0 ⟨by omega, rfl⟩ (by simp), R.at 7 i 0 ⟨by omega, rfl⟩]
        show some (pO 4 [IV i, IV (σ.2 7 i), .ref (ad 9 i 0), IV (σ.2 8 i)]) = some (pO 4 [IV i, IV (uA (σ.2 7) (σ.1 9).toNat age i), .ref (adP ad (σ.1 9).toNat (σ.1 13).toNat q dl dw 9 i 0), IV (σ.2 8 i)])
        rw [q9, uA_ne e]
    · by_cases g9 : k = 9
      · subst g9
        have h9 : (i : Int) < σ.1 9 + 1 ∧ j = 0 := hlv
        obtain ⟨h9, rfl⟩ := h9
        by_cases e : i = (σ.1 9).toNat
        · subst e
          rw [p9, h2]
          show _ = some (cL ((mvs (sPers σ age c) (σ.1 9).toNat).map (fun m => adP ad (σ.1 9).toNat (σ.1 13).toNat q dl dw 10 m 0)))
          rw [mvs_new hW n9 n13, if_pos hn]
          show _ = some (cL [adP ad (σ.1 9).toNat (σ.1 13).toNat q dl dw 10 (σ.1 13).toNat 0])
          rw [p10]
        · have q9 : adP ad (σ.1 9).toNat (σ.1 13).toNat q dl dw 9 i 0 = ad 9 i 0 := by simp [adP, e]
          rw [q9, h5 9 i 0 ⟨by omega, rfl⟩ (by simp), R.at 9 i 0 ⟨by omega, rfl⟩]
          show some (cL ((mvs σ i).map (fun m => ad 10 m 0))) = some (cL ((mvs (sPers σ age c) i).map (fun m => adP ad (σ.1 9).toNat (σ.1 13).toNat q dl dw 10 m 0)))
          rw [mvs_new hW n9 n13, if_neg (by omega), hmap]
      · by_cases g10 : k = 10
        · subst g10
          have h9 : (i : Int) < σ.1 13 + 1 ∧ j = 0 := hlv
          obtain ⟨h9, rfl⟩ := h9
          by_cases e : i = (σ.1 13).toNat
          · subst e
            rw [p10, h3]
            show _ = some (pO 5 [IV (uA (σ.2 11) (σ.1 13).toNat (σ.1 0) (σ.1 13).toNat), IV (uA (σ.2 12) (σ.1 13).toNat c (σ.1 13).toNat)])
            rw [uA_self, uA_self]
          · have q10 : adP ad (σ.1 9).toNat (σ.1 13).toNat q dl dw 10 i 0 = ad 10 i 0 := by simp [adP, e]
            rw [q10, h5 10 i 0 ⟨by omega, rfl⟩ (by simp), R.at 10 i 0 ⟨by omega, rfl⟩]
            show some (pO 5 [IV (σ.2 11 i), IV (σ.2 12 i)]) = some (pO 5 [IV (uA (σ.2 11) (σ.1 13).toNat (σ.1 0) i), IV (uA (σ.2 12) (σ.1 13).toNat c i)])
            rw [uA_ne e, uA_ne e]
        · have qk : ∀ i2 j2, adP ad (σ.1 9).toNat (σ.1 13).toNat q dl dw k i2 j2 = ad k i2 j2 := fun i2 j2 => by simp [adP, g7, g9, g10]
          have l0 : live σ k i j := by
            revert hlv
            unfold live
            split <;> first | exact id | exact absurd rfl g7 | exact absurd rfl g9 | exact absurd rfl g10 | exact fun z => z.elim
          rw [qk]
          by_cases g2 : k = 2
          · subst g2
            obtain ⟨rfl, rfl⟩ : i = 0 ∧ j = 0 := l0
            rw [h4]
            show _ = some (cL (rg (σ.1 9 + 1) (fun p => adP ad (σ.1 9).toNat (σ.1 13).toNat q dl dw 7 p 0)))
            rw [rg_succ n9, p7]
            have e9 : rg (σ.1 9) (fun p => adP ad (σ.1 9).toNat (σ.1 13).toNat q dl dw 7 p 0) = rg (σ.1 9) (fun p => ad 7 p 0) := rg_ext fun x hx => by
              have : ¬ x = (σ.1 9).toNat := by omega
              simp [adP, this]
            rw [e9]
          · rw [h5 k i j l0 (fun z => g2 z.1), R.at k i j l0]
            congr 1
            by_cases g25 : k = 25
            · subst g25
              have h9 := h23 i l0.2.1
              have q7 : adP ad (σ.1 9).toNat (σ.1 13).toNat q dl dw 7 (σ.2 23 i).toNat 0 = ad 7 (σ.2 23 i).toNat 0 := by
                have : ¬ (σ.2 23 i).toNat = (σ.1 9).toNat := by omega
                simp [adP, this]
              show pO 9 [.ref (ad 7 (σ.2 23 i).toNat 0), IV (σ.2 24 i), IV (σ.2 25 i)] = pO 9 [.ref (adP ad (σ.1 9).toNat (σ.1 13).toNat q dl dw 7 (σ.2 23 i).toNat 0), IV (σ.2 24 i), IV (σ.2 25 i)]
              rw [q7]
            · unfold cel
              split <;> first | exact absurd rfl g2 | exact absurd rfl g7 | exact absurd rfl g9 | exact absurd rfl g10 | exact absurd rfl g25 | rfl
end REL4
