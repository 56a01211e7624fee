/-! THE COMPONENT'S OBJECTS: what is made and linked -/
set_option maxRecDepth 100000
section REL2
def adU (ad : AD) (k i j q : Nat) : AD := fun k' i' j' => if k' = k ∧ i' = i ∧ j' = j then q else ad k' i' j'
theorem adU_self (ad : AD) (k i j q : Nat) : adU ad k i j q k i j = q := if_pos ⟨rfl, rfl, rfl⟩
theorem adU_ne {ad : AD} {k i j q k' i' j' : Nat} (h : ¬ (k' = k ∧ i' = i ∧ j' = j)) : adU ad k i j q k' i' j' = ad k' i' j' := if_neg h
theorem adU_k {ad : AD} {k i j q k' i' j' : Nat} (h : k' ≠ k) : adU ad k i j q k' i' j' = ad k' i' j' := if_neg (fun z => h z.1)
theorem adU_i {ad : AD} {k i j q k' i' j' : Nat} (h : i' ≠ i) : adU ad k i j q k' i' j' = ad k' i' j' := if_neg (fun z => h z.2.1)
theorem rg_succ {n : Int} (hn : 0 ≤ n) (f : Nat → Nat) : rg (n + 1) f = rg n f ++ [f n.toNat] := by
  unfold rg
  rw [show (n + 1).toNat = n.toNat + 1 by omega, List.range_succ, List.map_append]
  rfl
theorem rg_ext {n : Int} {f g : Nat → Nat} (h : ∀ i : Nat, (i : Int) < n → f i = g i) : rg n f = rg n g := by
  unfold rg
  exact List.map_congr_left fun i hi => h i (by have := List.mem_range.mp hi; omega)
variable {K : KK} {h h' : AL2} {o : Nat} {ad : AD} {σ σ' : MM}
/-- one new cell, and one cell written that now names it -/
theorem Rel.link (R : Rel K h o ad σ) (k1 i1 j1 q : Nat) (hq : ∀ k i j, live σ k i j → ad k i j ≠ q) (k0 i0 j0 : Nat) (h01 : k0 ≠ k1) (hk1 : k1 ≠ 0) (hl0 : live σ k0 i0 j0) {c1 c0 : AC ⊕ List Nat} (h1 : h q = some c1) (hh : h' = upH h (ad k0 i0 j0) c0)
    (hs : ∀ k i j, live σ' k i j → ¬ (k = k1 ∧ i = i1 ∧ j = j1) → live σ k i j) (hn : ¬ live σ k1 i1 j1) (e1 : cel K σ' (adU ad k1 i1 j1 q) k1 i1 j1 = c1) (e0 : cel K σ' (adU ad k1 i1 j1 q) k0 i0 j0 = c0)
    (he : ∀ k i j, live σ' k i j → ¬ (k = k1 ∧ i = i1 ∧ j = j1) → ¬ (k = k0 ∧ i = i0 ∧ j = j0) → cel K σ' (adU ad k1 i1 j1 q) k i j = cel K σ ad k i j) : Rel K h' o (adU ad k1 i1 j1 q) σ' := by
  refine ⟨by rw [adU_k (Ne.symm hk1)]; exact R.1, fun k i j hl => ?_, fun k i j k' i' j' l1 l2 e => ?_⟩
  · by_cases g1 : k = k1 ∧ i = i1 ∧ j = j1
    · obtain ⟨rfl, rfl, rfl⟩ := g1
      rw [adU_self, hh, upH_ne (Ne.symm (hq _ _ _ hl0)), h1, e1]
    · have l0 := hs k i j hl g1
      rw [adU_ne g1, hh]
      by_cases g0 : k = k0 ∧ i = i0 ∧ j = j0
      · obtain ⟨rfl, rfl, rfl⟩ := g0
        rw [upH_self, e0]
      · rw [upH_ne (R.ne l0 hl0 g0), he k i j hl g1 g0]
        exact R.at k i j l0
  · by_cases g1 : k = k1 ∧ i = i1 ∧ j = j1
    · by_cases g2 : k' = k1 ∧ i' = i1 ∧ j' = j1
      · obtain ⟨rfl, rfl, rfl⟩ := g1
        obtain ⟨rfl, rfl, rfl⟩ := g2
        exact ⟨rfl, rfl, rfl⟩
      · obtain ⟨rfl, rfl, rfl⟩ := g1
        rw [adU_self, adU_ne g2] at e
        exact absurd e.symm (hq _ _ _ (hs _ _ _ l2 g2))
    · by_cases g2 : k' = k1 ∧ i' = i1 ∧ j' = j1
      · obtain ⟨rfl, rfl, rfl⟩ := g2
        rw [adU_self, adU_ne g1] at e
        exact absurd e (hq _ _ _ (hs _ _ _ l1 g1))
      · rw [adU_ne g1, adU_ne g2] at e
        exact R.2.2 k i j k' i' j' (hs _ _ _ l1 g1) (hs _ _ _ l2 g2) e
/-- a new station -/
theorem Rel.station (R : Rel K h o ad σ) (n6 : 0 ≤ σ.1 6) {q : Nat} {c v : Int} (hq : ∀ k i j, live σ k i j → ad k i j ≠ q) (h1 : h q = some (pO 3 [IV c, IV v])) (hh : h' = upH h (ad 3 0 0) (pL (rg (σ.1 6) (fun s => ad 8 s 0) ++ [q]))) : Rel K h' o (adU ad 8 (σ.1 6).toNat 0 q) (setI (setA (setA σ 4 (σ.1 6).toNat c) 5 (σ.1 6).toNat v) 6 (σ.1 6 + 1)) := by
  refine R.link 8 (σ.1 6).toNat 0 q hq 3 0 0 (by decide) (by decide) ⟨rfl, rfl⟩ h1 hh (fun k i j hl hn => ?_) (fun z => by have := z.1; omega) ?_ ?_ (fun k i j hl g1 g0 => ?_)
  · by_cases g : k = 8
    · subst g
      have h9 : (i : Int) < σ.1 6 + 1 ∧ j = 0 := hl
      exact ⟨by have : i ≠ (σ.1 6).toNat := fun e => hn ⟨rfl, e, h9.2⟩; omega, h9.2⟩
    · revert hl
      unfold live
      split <;> first | exact id | exact absurd rfl g | exact fun z => z.elim
  · show pO 3 [IV (uA (σ.2 4) (σ.1 6).toNat c (σ.1 6).toNat), IV (uA (σ.2 5) (σ.1 6).toNat v (σ.1 6).toNat)] = _
    rw [uA_self, uA_self]
  · show cL (rg (σ.1 6 + 1) (fun s => adU ad 8 (σ.1 6).toNat 0 q 8 s 0)) = _
    rw [rg_succ n6, adU_self]
    have : rg (σ.1 6) (fun s => adU ad 8 (σ.1 6).toNat 0 q 8 s 0) = rg (σ.1 6) (fun s => ad 8 s 0) := rg_ext fun i hi => adU_i (by omega)
    rw [this]
  · by_cases g : k = 8
    · subst g
      have h9 : (i : Int) < σ.1 6 + 1 ∧ j = 0 := hl
      have h8 : i ≠ (σ.1 6).toNat := fun e => g1 ⟨rfl, e, h9.2⟩
      show pO 3 [IV (uA (σ.2 4) (σ.1 6).toNat c i), IV (uA (σ.2 5) (σ.1 6).toNat v i)] = pO 3 [IV (σ.2 4 i), IV (σ.2 5 i)]
      rw [uA_ne h8, uA_ne h8]
    · unfold cel
      split <;> first | exact absurd ⟨rfl, hl⟩ g0 | exact absurd rfl g | rfl
end REL2
section REL3
variable {K : KK} {h h' : AL2} {o : Nat} {ad : AD} {σ : MM}
theorem filter_ext {f g : Nat → Bool} : ∀ (l : List Nat), (∀ x ∈ l, f x = g x) → l.filter f = l.filter g
  | [], _ => rfl
  | x :: l, h => by
    rw [List.filter_cons, List.filter_cons, h x List.mem_cons_self, filter_ext l (fun y hy => h y (List.mem_cons_of_mem _ hy))]
theorem mvs_comes (h13 : 0 ≤ σ.1 13) (p p' : Nat) (c : Int) : mvs (sComes σ p c) p' = mvs σ p' ++ (if p' = p then [(σ.1 13).toNat] else []) := by
  have e13 : (sComes σ p c).1 13 = σ.1 13 + 1 := rfl
  have e10 : (sComes σ p c).2 10 = uA (σ.2 10) (σ.1 13).toNat p := rfl
  unfold mvs
  rw [e13, e10, show (σ.1 13 + 1).toNat = (σ.1 13).toNat + 1 by omega, List.range_succ, List.filter_append]
  congr 1
  · exact filter_ext _ fun x hx => by rw [uA_ne (by have := List.mem_range.mp hx; omega)]
  · by_cases e : p' = p
    · subst e; simp [uA_self]
    · rw [if_neg e]
      have : ¬ (p : Int) = (p' : Int) := fun z => e (by omega)
      simp [uA_self, this]
/-- a person moves -/
theorem Rel.move (R : Rel K h o ad σ) (h13 : 0 ≤ σ.1 13) {p : Nat} (hp : (p : Int) < σ.1 9) {q : Nat} {c : Int} (hq : ∀ k i j, live σ k i j → ad k i j ≠ q) (h1 : h q = some (pO 5 [IV (σ.1 0), IV c])) (hh : h' = upH h (ad 9 p 0) (pL ((mvs σ p).map (fun m => ad 10 m 0) ++ [q]))) : Rel K h' o (adU ad 10 (σ.1 13).toNat 0 q) (sComes σ p c) := by
  have hmap : ∀ p' : Nat, (mvs σ p').map (fun m => adU ad 10 (σ.1 13).toNat 0 q 10 m 0) = (mvs σ p').map (fun m => ad 10 m 0) := fun p' => List.map_congr_left fun m hm => adU_i (by have := mvs_lt hm; omega)
  refine R.link 10 (σ.1 13).toNat 0 q hq 9 p 0 (by decide) (by decide) ⟨hp, rfl⟩ h1 hh (fun k i j hl hn => ?_) (fun z => by have := z.1; omega) ?_ ?_ (fun k i j hl g1 g0 => ?_)
  · by_cases g : k = 10
    · subst g
      have h9 : (i : Int) < σ.1 13 + 1 ∧ j = 0 := hl
      exact ⟨by have : i ≠ (σ.1 13).toNat := fun e => hn ⟨rfl, e, h9.2⟩; omega, h9.2⟩
    · revert hl
      unfold live
      split <;> first | exact id | exact absurd rfl g | exact fun z => z.elim
  · show pO 5 [IV (uA (σ.2 11) (σ.1 13).toNat (σ.1 0) (σ.1 13).toNat), IV (uA (σ.2 12) (σ.1 13).toNat c (σ.1 13).toNat)] = _
    rw [uA_self, uA_self]
  · show cL ((mvs (sComes σ p c) p).map (fun m => adU ad 10 (σ.1 13).toNat 0 q 10 m 0)) = _
    rw [mvs_comes h13, if_pos rfl, List.map_append, hmap]
    show cL (_ ++ [adU ad 10 (σ.1 13).toNat 0 q 10 (σ.1 13).toNat 0]) = _
    rw [adU_self]
  · by_cases g : k = 10
    · subst g
      have h9 : (i : Int) < σ.1 13 + 1 ∧ j = 0 := hl
      have h8 : i ≠ (σ.1 13).toNat := fun e => g1 ⟨rfl, e, h9.2⟩
      show pO 5 [IV (uA (σ.2 11) (σ.1 13).toNat (σ.1 0) i), IV (uA (σ.2 12) (σ.1 13).toNat c i)] = pO 5 [IV (σ.2 11 i), IV (σ.2 12 i)]
      rw [uA_ne h8, uA_ne h8]
    · by_cases g9 : k = 9
      · subst g9
        have h9 : (i : Int) < σ.1 9 ∧ j = 0 := hl
        show cL ((mvs (sComes σ p c) i).map (fun m => adU ad 10 (σ.1 13).toNat 0 q 10 m 0)) = cL ((mvs σ i).map (fun m => ad 10 m 0))
        rw [mvs_comes h13, if_neg (fun e => g0 ⟨rfl, e, h9.2⟩), List.append_nil, hmap]
      · unfold cel
        split <;> first | exact absurd rfl g | exact absurd rfl g9 | rfl
/-- the last move tells where a person dwells today -/
theorem mvs_last {p : Nat} (hW : IW σ) (hp : (p : Int) < σ.1 9) : ∃ m : Nat, (mvs σ p)[(mvs σ p).length - 1]? = some m ∧ 0 < (mvs σ p).length ∧ σ.2 12 m = sDwelt σ p (σ.1 0) (σ.1 13).toNat := by
  obtain ⟨j, hj, ej⟩ := hW.2 p hp
  have hm : j ∈ mvs σ p := List.mem_filter.mpr ⟨List.mem_range.mpr (by omega), by simp [ej]⟩
  have hne : mvs σ p ≠ [] := fun e => by rw [e] at hm; cases hm
  have hl := List.length_pos_iff.mpr hne
  refine ⟨(mvs σ p).getLast hne, ?_, hl, ?_⟩
  · rw [List.getElem?_eq_getElem (by omega), List.getLast_eq_getElem]
  · have e9 := dwL_mvs σ p (σ.1 0) (σ.1 13).toNat
    rw [← e9]
    show _ = dwL σ (σ.1 0) (mvs σ p)
    have h8 := List.dropLast_concat_getLast hne
    have h7 : dwL σ (σ.1 0) (mvs σ p) = dwL σ (σ.1 0) ((mvs σ p).dropLast ++ [(mvs σ p).getLast hne]) := by rw [h8]
    rw [h7, dwL_snoc, if_pos]
    exact (hW.1 _ (mvs_lt (List.getLast_mem hne))).2
end REL3
