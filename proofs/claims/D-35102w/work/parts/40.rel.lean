/-! THE COMPONENT'S OBJECTS, and the reference's state: one picture for both -/
set_option maxRecDepth 100000
section REL
/-- addresses by kind and numbers -/
abbrev AD : Type := Nat → Nat → Nat → Nat
abbrev rg (n : Int) (f : Nat → Nat) : List Nat := (List.range n.toNat).map f
abbrev cL (xs : List Nat) : AC ⊕ List Nat := .inr xs
/-- the moves of a person -/
def mvs (σ : MM) (p : Nat) : List Nat := (List.range (σ.1 13).toNat).filter (fun m => σ.2 10 m == (p : Int))
/-- six numbers -/
def c6 (f : Nat → Int) : Nat → Int := fun q => if q < 6 then f q else 0
theorem c6_at {f : Nat → Int} {k : Nat} (h : k < 6) : c6 f k = f k := if_pos h
theorem c6_ext {f g : Nat → Int} (h : ∀ q, q < 6 → f q = g q) : c6 f = c6 g := funext fun q => by
  unfold c6
  by_cases e : q < 6
  · rw [if_pos e, if_pos e, h q e]
  · rw [if_neg e, if_neg e]
def live (σ : MM) : Nat → Nat → Nat → Prop := fun k i j => match k with
  | 0 => i = 0 ∧ j = 0
  | 1 => i = 0 ∧ j = 0
  | 2 => i = 0 ∧ j = 0
  | 3 => i = 0 ∧ j = 0
  | 4 => i = 0 ∧ j = 0
  | 5 => i = 0 ∧ j = 0
  | 6 => i = 0 ∧ j = 0
  | 7 => (i : Int) < σ.1 9 ∧ j = 0
  | 8 => (i : Int) < σ.1 6 ∧ j = 0
  | 9 => (i : Int) < σ.1 9 ∧ j = 0
  | 10 => (i : Int) < σ.1 13 ∧ j = 0
  | 12 => σ.1 14 ≠ 0 ∧ i = 0 ∧ j = 0
  | 13 => σ.1 14 ≠ 0 ∧ i = 0 ∧ j = 0
  | 14 => σ.1 14 ≠ 0 ∧ i = 0 ∧ j = 0
  | 15 => σ.1 14 ≠ 0 ∧ i = 0 ∧ j = 0
  | 16 => σ.1 14 ≠ 0 ∧ i = 0 ∧ j = 0
  | 17 => σ.1 14 ≠ 0 ∧ i = 0 ∧ j = 0
  | 18 => σ.1 14 ≠ 0 ∧ i = 0 ∧ j = 0
  | 19 => σ.1 14 ≠ 0 ∧ (i : Int) < σ.1 19 ∧ j = 0
  | 20 => σ.1 14 ≠ 0 ∧ (i : Int) < σ.1 19 ∧ j = 0
  | 21 => σ.1 14 ≠ 0 ∧ (i : Int) < σ.1 19 ∧ j = 0
  | 22 => σ.1 14 ≠ 0 ∧ (i : Int) < σ.1 19 ∧ (j : Int) < σ.2 31 i
  | 23 => σ.1 14 ≠ 0 ∧ (i : Int) < σ.1 19 ∧ (j : Int) < σ.2 31 i
  | 24 => σ.1 14 ≠ 0 ∧ (i : Int) < σ.1 19 ∧ σ.2 32 i ≠ -1 ∧ j = 0
  | 25 => σ.1 14 ≠ 0 ∧ (i : Int) < σ.1 26 ∧ j = 0
  | 26 => σ.1 14 ≠ 0 ∧ (i : Int) < σ.1 42 ∧ j = 0
  | 27 => σ.1 14 ≠ 0 ∧ (i : Int) < σ.1 19 ∧ σ.2 32 i ≠ -1 ∧ j = 0
  | _ => False
def cel (K : KK) (σ : MM) (ad : AD) : Nat → Nat → Nat → AC ⊕ List Nat := fun k i j => match k with
  | 0 => pO 0 [.ref (ad 1 0 0), .ref (ad 2 0 0), .ref (ad 3 0 0), .ref (ad 4 0 0), va_rf (if σ.1 14 = 0 then none else some (ad 12 0 0)), IV (σ.1 0), .ref (ad 5 0 0), .ref (ad 6 0 0)]
  | 1 => pA 1 72 (σ.2 1)
  | 2 => cL (rg (σ.1 9) (fun p => ad 7 p 0))
  | 3 => cL (rg (σ.1 6) (fun p => ad 8 p 0))
  | 4 => pA 0 4 (σ.2 33)
  | 5 => pA 0 36 (σ.2 2)
  | 6 => pA 0 36 (σ.2 3)
  | 7 => pO 4 [IV i, IV (σ.2 7 i), .ref (ad 9 i 0), IV (σ.2 8 i)]
  | 8 => pO 3 [IV (σ.2 4 i), IV (σ.2 5 i)]
  | 9 => cL ((mvs σ i).map (fun m => ad 10 m 0))
  | 10 => pO 5 [IV (σ.2 11 i), IV (σ.2 12 i)]
  | 12 => pO 7 [IV (σ.1 15), IV (σ.1 16), IV (σ.1 17), .ref (ad 13 0 0), .ref (ad 14 0 0), .ref (ad 15 0 0), .ref (ad 16 0 0), .ref (ad 17 0 0), .ref (ad 18 0 0), IV (σ.1 14)]
  | 13 => pA 0 5 (σ.2 18)
  | 14 => pA 0 20 (σ.2 20)
  | 15 => pA 1 20 (σ.2 22)
  | 16 => cL (rg (σ.1 19) (fun s => ad 19 s 0))
  | 17 => cL (rg (σ.1 26) (fun e => ad 25 e 0))
  | 18 => cL (rg (σ.1 42) (fun n => ad 26 n 0))
  | 19 => pO 8 [.ref (ad 20 i 0), .ref (ad 21 i 0), va_rf (if σ.2 32 i = -1 then none else some (ad 24 i 0)), IV (σ.2 21 i)]
  | 20 => cL (rg (σ.2 28 i) (fun n => bx K (σ.2 27 (20 * i + n))))
  | 21 => cL (rg (σ.2 31 i) (fun n => ad 22 i n))
  | 22 => pO 10 [IV (σ.2 30 (8 * i + j)), .ref (ad 23 i j)]
  | 23 => pA 0 6 (c6 (fun q => σ.2 29 (6 * (8 * i + j) + q)))
  | 24 => pO 10 [IV (σ.2 30 (σ.2 32 i).toNat), .ref (ad 27 i 0)]
  | 25 => pO 9 [.ref (ad 7 (σ.2 23 i).toNat 0), IV (σ.2 24 i), IV (σ.2 25 i)]
  | 26 => pO 6 [IV (σ.2 39 i), IV (σ.2 40 i), IV (σ.2 41 i)]
  | _ => pA 0 6 (c6 (fun q => σ.2 29 (6 * (σ.2 32 i).toNat + q)))
/-- the picture: each live cell is there, all are apart -/
def Rel (K : KK) (h : AL2) (o : Nat) (ad : AD) (σ : MM) : Prop := ad 0 0 0 = o ∧ (∀ k i j, live σ k i j → h (ad k i j) = some (cel K σ ad k i j)) ∧ ∀ k i j k' i' j', live σ k i j → live σ k' i' j' → ad k i j = ad k' i' j' → k = k' ∧ i = i' ∧ j = j'
theorem Rel.at {K : KK} {h : AL2} {o : Nat} {ad : AD} {σ : MM} (R : Rel K h o ad σ) (k i j : Nat) (hl : live σ k i j) : h (ad k i j) = some (cel K σ ad k i j) := R.2.1 k i j hl
theorem Rel.ne {K : KK} {h : AL2} {o : Nat} {ad : AD} {σ : MM} (R : Rel K h o ad σ) {k i j k' i' j' : Nat} (hl : live σ k i j) (hl' : live σ k' i' j') (hn : ¬ (k = k' ∧ i = i' ∧ j = j')) : ad k i j ≠ ad k' i' j' := fun e => hn (R.2.2 k i j k' i' j' hl hl' e)
/-- one cell is written -/
theorem Rel.put {K : KK} {h h' : AL2} {o : Nat} {ad : AD} {σ σ' : MM} (R : Rel K h o ad σ) (k0 i0 j0 : Nat) (hl0 : live σ k0 i0 j0) {c : AC ⊕ List Nat} (hh : h' = upH h (ad k0 i0 j0) c) (hc : live σ' k0 i0 j0 → cel K σ' ad k0 i0 j0 = c)
    (hs : ∀ k i j, live σ' k i j → live σ k i j) (he : ∀ k i j, live σ' k i j → ¬ (k = k0 ∧ i = i0 ∧ j = j0) → cel K σ' ad k i j = cel K σ ad k i j) : Rel K h' o ad σ' := by
  refine ⟨R.1, fun k i j hl => ?_, fun k i j k' i' j' h1 h2 => R.2.2 k i j k' i' j' (hs _ _ _ h1) (hs _ _ _ h2)⟩
  rw [hh]
  by_cases e : k = k0 ∧ i = i0 ∧ j = j0
  · obtain ⟨rfl, rfl, rfl⟩ := e
    rw [upH_self, hc hl]
  · rw [upH_ne (R.ne (hs _ _ _ hl) hl0 e), he k i j hl e]
    exact R.at k i j (hs _ _ _ hl)
/-- what isn't ours is written -/
theorem Rel.other {K : KK} {h h' : AL2} {o : Nat} {ad : AD} {σ : MM} (R : Rel K h o ad σ) (hs : ∀ a c, h a = some c → h' a = some c) : Rel K h' o ad σ := ⟨R.1, fun k i j hl => hs _ _ (R.at k i j hl), R.2.2⟩
theorem Rel.fresh {K : KK} {h : AL2} {o : Nat} {ad : AD} {σ : MM} (R : Rel K h o ad σ) {a : Nat} (ha : h a = none) {k i j : Nat} (hl : live σ k i j) : ad k i j ≠ a := fun e => by
  have := R.at k i j hl
  rw [e, ha] at this
  cases this
/-- the state without what the pictures don't share -/
theorem Rel.gs {K : KK} {h : AL2} {o : Nat} {ad : AD} {σ σ' : MM} (R : Rel K h o ad σ) (h1 : ∀ k, k ≠ 37 → k ≠ 38 → k ≠ 43 → σ'.1 k = σ.1 k) (h2 : ∀ k, k ≠ 34 → k ≠ 35 → k ≠ 36 → σ'.2 k = σ.2 k) : Rel K h o ad σ' := by
  have e1 : ∀ k i j, live σ' k i j = live σ k i j := fun k i j => by
    unfold live
    rw [h1 9 (by decide) (by decide) (by decide), h1 6 (by decide) (by decide) (by decide), h1 13 (by decide) (by decide) (by decide), h1 14 (by decide) (by decide) (by decide), h1 19 (by decide) (by decide) (by decide), h1 26 (by decide) (by decide) (by decide), h1 42 (by decide) (by decide) (by decide), h2 31 (by decide) (by decide) (by decide), h2 32 (by decide) (by decide) (by decide)]
  have e2 : ∀ k i j, cel K σ' ad k i j = cel K σ ad k i j := fun k i j => by
    unfold cel mvs
    rw [h1 14 (by decide) (by decide) (by decide), h1 0 (by decide) (by decide) (by decide), h1 9 (by decide) (by decide) (by decide), h1 6 (by decide) (by decide) (by decide), h1 13 (by decide) (by decide) (by decide), h1 15 (by decide) (by decide) (by decide), h1 16 (by decide) (by decide) (by decide), h1 17 (by decide) (by decide) (by decide), h1 19 (by decide) (by decide) (by decide), h1 26 (by decide) (by decide) (by decide), h1 42 (by decide) (by decide) (by decide),
      h2 1 (by decide) (by decide) (by decide), h2 2 (by decide) (by decide) (by decide), h2 3 (by decide) (by decide) (by decide), h2 4 (by decide) (by decide) (by decide), h2 5 (by decide) (by decide) (by decide), h2 7 (by decide) (by decide) (by decide), h2 8 (by decide) (by decide) (by decide), h2 10 (by decide) (by decide) (by decide), h2 11 (by decide) (by decide) (by decide), h2 12 (by decide) (by decide) (by decide), h2 18 (by decide) (by decide) (by decide), h2 20 (by decide) (by decide) (by decide), h2 21 (by decide) (by decide) (by decide), h2 22 (by decide) (by decide) (by decide), h2 23 (by decide) (by decide) (by decide), h2 24 (by decide) (by decide) (by decide), h2 25 (by decide) (by decide) (by decide), h2 27 (by decide) (by decide) (by decide), h2 28 (by decide) (by decide) (by decide), h2 29 (by decide) (by decide) (by decide), h2 30 (by decide) (by decide) (by decide), h2 31 (by decide) (by decide) (by decide), h2 32 (by decide) (by decide) (by decide), h2 33 (by decide) (by decide) (by decide), h2 39 (by decide) (by decide) (by decide), h2 40 (by decide) (by decide) (by decide), h2 41 (by decide) (by decide) (by decide)]
  exact ⟨R.1, fun k i j hl => by rw [e2]; exact R.at k i j (by rw [← e1]; exact hl), fun k i j k' i' j' q1 q2 => R.2.2 k i j k' i' j' (by rw [← e1]; exact q1) (by rw [← e1]; exact q2)⟩
theorem Rel.top {K : KK} {h : AL2} {o : Nat} {ad : AD} {σ : MM} (R : Rel K h o ad σ) : h o = some (cel K σ ad 0 0 0) := by
  have h9 := R.at 0 0 0 ⟨rfl, rfl⟩
  rw [R.1] at h9
  exact h9
/-- what isn't ours is written -/
theorem Rel.off {K : KK} {h h' : AL2} {o : Nat} {ad : AD} {σ : MM} (R : Rel K h o ad σ) {a : Nat} {c : AC ⊕ List Nat} (hh : h' = upH h a c) (ha : ∀ k i j, live σ k i j → ad k i j ≠ a) : Rel K h' o ad σ := ⟨R.1, fun k i j hl => by rw [hh, upH_ne (ha k i j hl)]; exact R.at k i j hl, R.2.2⟩
/-! writes of one cell -/
section PUT
variable {K : KK} {h h' : AL2} {o : Nat} {ad : AD} {σ : MM}
theorem Rel.bar (R : Rel K h o ad σ) {i : Nat} {v : Int} (hh : h' = upH h (ad 1 0 0) (pA 1 72 (uA (σ.2 1) i v))) : Rel K h' o ad (setA σ 1 i v) := by
  refine R.put 1 0 0 ⟨rfl, rfl⟩ hh (fun _ => rfl) (fun k i j hl => hl) (fun k i j hl hn => ?_)
  unfold cel
  split <;> first | rfl | exact absurd ⟨rfl, hl⟩ hn
theorem Rel.slip (R : Rel K h o ad σ) {i : Nat} {v : Int} (hh : h' = upH h (ad 4 0 0) (pA 0 4 (uA (σ.2 33) i v))) : Rel K h' o ad (setA σ 33 i v) := by
  refine R.put 4 0 0 ⟨rfl, rfl⟩ hh (fun _ => rfl) (fun k i j hl => hl) (fun k i j hl hn => ?_)
  unfold cel
  split <;> first | rfl | exact absurd ⟨rfl, hl⟩ hn
theorem Rel.ways (R : Rel K h o ad σ) {i : Nat} {v : Int} (hh : h' = upH h (ad 5 0 0) (pA 0 36 (uA (σ.2 2) i v))) : Rel K h' o ad (setA σ 2 i v) := by
  refine R.put 5 0 0 ⟨rfl, rfl⟩ hh (fun _ => rfl) (fun k i j hl => hl) (fun k i j hl hn => ?_)
  unfold cel
  split <;> first | rfl | exact absurd ⟨rfl, hl⟩ hn
theorem Rel.reached (R : Rel K h o ad σ) {i : Nat} {v : Int} (hh : h' = upH h (ad 6 0 0) (pA 0 36 (uA (σ.2 3) i v))) : Rel K h' o ad (setA σ 3 i v) := by
  refine R.put 6 0 0 ⟨rfl, rfl⟩ hh (fun _ => rfl) (fun k i j hl => hl) (fun k i j hl hn => ?_)
  unfold cel
  split <;> first | rfl | exact absurd ⟨rfl, hl⟩ hn
theorem Rel.seats (R : Rel K h o ad σ) {s : Nat} {v : Int} (hs : (s : Int) < σ.1 6) (hh : h' = upH h (ad 8 s 0) (pO 3 [IV (σ.2 4 s), IV v])) : Rel K h' o ad (setA σ 5 s v) := by
  refine R.put 8 s 0 ⟨hs, rfl⟩ hh (fun _ => ?_) (fun k i j hl => hl) (fun k i j hl hn => ?_)
  · show pO 3 [IV (σ.2 4 s), IV (uA (σ.2 5) s v s)] = _
    rw [uA_self]
  · unfold cel
    split <;> first | rfl | skip
    show pO 3 [IV (σ.2 4 _), IV (uA (σ.2 5) s v _)] = pO 3 [IV (σ.2 4 _), IV (σ.2 5 _)]
    rw [uA_ne (fun e => hn ⟨rfl, e, hl.2⟩)]
theorem Rel.seed (R : Rel K h o ad σ) (hz : σ.1 14 ≠ 0) {i : Nat} {v : Int} (hh : h' = upH h (ad 13 0 0) (pA 0 5 (uA (σ.2 18) i v))) : Rel K h' o ad (setA σ 18 i v) := by
  refine R.put 13 0 0 ⟨hz, rfl, rfl⟩ hh (fun _ => rfl) (fun k i j hl => hl) (fun k i j hl hn => ?_)
  unfold cel
  split <;> first | rfl | exact absurd ⟨rfl, hl.2⟩ hn
theorem Rel.own (R : Rel K h o ad σ) (hz : σ.1 14 ≠ 0) {i : Nat} {v : Int} (hh : h' = upH h (ad 14 0 0) (pA 0 20 (uA (σ.2 20) i v))) : Rel K h' o ad (setA σ 20 i v) := by
  refine R.put 14 0 0 ⟨hz, rfl, rfl⟩ hh (fun _ => rfl) (fun k i j hl => hl) (fun k i j hl hn => ?_)
  unfold cel
  split <;> first | rfl | exact absurd ⟨rfl, hl.2⟩ hn
theorem Rel.voted (R : Rel K h o ad σ) (hz : σ.1 14 ≠ 0) {i : Nat} {v : Int} (hh : h' = upH h (ad 15 0 0) (pA 1 20 (uA (σ.2 22) i v))) : Rel K h' o ad (setA σ 22 i v) := by
  refine R.put 15 0 0 ⟨hz, rfl, rfl⟩ hh (fun _ => rfl) (fun k i j hl => hl) (fun k i j hl hn => ?_)
  unfold cel
  split <;> first | rfl | exact absurd ⟨rfl, hl.2⟩ hn
end PUT
theorem rg_len {n : Int} (hn : 0 ≤ n) (f : Nat → Nat) : ((rg n f).length : Int) = n := by
  unfold rg
  rw [List.length_map, List.length_range]
  omega
theorem rg_at {n : Int} {f : Nat → Nat} {i : Int} (h0 : 0 ≤ i) (h : i < n) : (rg n f)[i.toNat]? = some (f i.toNat) := by
  unfold rg
  rw [List.getElem?_map, List.getElem?_range (by omega)]
  rfl
theorem Rel.top0 {K : KK} {h : AL2} {o : Nat} {ad : AD} {σ : MM} (R : Rel K h o ad σ) (hz : σ.1 14 = 0) : h o = some (pO 0 [.ref (ad 1 0 0), .ref (ad 2 0 0), .ref (ad 3 0 0), .ref (ad 4 0 0), .null, IV (σ.1 0), .ref (ad 5 0 0), .ref (ad 6 0 0)]) := by
  rw [R.top]
  unfold cel
  simp only [if_pos hz]
  rfl
theorem Rel.top1 {K : KK} {h : AL2} {o : Nat} {ad : AD} {σ : MM} (R : Rel K h o ad σ) (hz : σ.1 14 ≠ 0) : h o = some (pO 0 [.ref (ad 1 0 0), .ref (ad 2 0 0), .ref (ad 3 0 0), .ref (ad 4 0 0), .ref (ad 12 0 0), IV (σ.1 0), .ref (ad 5 0 0), .ref (ad 6 0 0)]) := by
  rw [R.top]
  unfold cel
  simp only [if_neg hz]
  rfl
/-- where a person dwelt, by the person's own moves -/
def dwL (σ : MM) (t : Int) (l : List Nat) : Int := l.foldl (fun a m => if σ.2 11 m ≤ t then σ.2 12 m else a) (-1)
theorem dwL_snoc (σ : MM) (t : Int) (l : List Nat) (m : Nat) : dwL σ t (l ++ [m]) = if σ.2 11 m ≤ t then σ.2 12 m else dwL σ t l := by
  unfold dwL
  rw [List.foldl_append]
  rfl
theorem dwL_take {σ : MM} {t : Int} {l : List Nat} {k m : Nat} (h : l[k]? = some m) : dwL σ t (l.take (k + 1)) = if σ.2 11 m ≤ t then σ.2 12 m else dwL σ t (l.take k) := by
  rw [List.take_succ, h]
  exact dwL_snoc σ t _ m
theorem dwL_mvs (σ : MM) (p : Nat) (t : Int) : ∀ n : Nat, dwL σ t ((List.range n).filter (fun m => σ.2 10 m == (p : Int))) = sDwelt σ p t n
  | 0 => rfl
  | n + 1 => by
    rw [List.range_succ, List.filter_append]
    unfold sDwelt
    by_cases h : σ.2 10 n = (p : Int)
    · rw [show [n].filter (fun m => σ.2 10 m == (p : Int)) = [n] by simp [h], dwL_snoc, dwL_mvs σ p t n]
      by_cases h2 : σ.2 11 n ≤ t
      · rw [if_pos h2, if_pos ⟨h, h2⟩]
      · rw [if_neg h2, if_neg (fun z => h2 z.2)]
    · rw [show [n].filter (fun m => σ.2 10 m == (p : Int)) = [] by simp [h], List.append_nil, dwL_mvs σ p t n, if_neg (fun z => h z.1)]
theorem mvs_lt {σ : MM} {p m : Nat} (h : m ∈ mvs σ p) : (m : Int) < σ.1 13 := by
  unfold mvs at h
  have := List.mem_range.mp (List.mem_filter.mp h).1
  omega
theorem mvs_len {σ : MM} (hB : Bd σ) (p : Nat) : (mvs σ p).length ≤ 540 := by
  have h1 : 0 ≤ σ.1 13 ∧ σ.1 13 ≤ 540 := hB.1 13
  have h2 := List.length_filter_le (fun m => σ.2 10 m == (p : Int)) (List.range (σ.1 13).toNat)
  rw [List.length_range] at h2
  unfold mvs
  omega
/-- lists' members through the interface -/
def FE (Γ : GG) : Prop := (∀ (s : State) (H : Heap), Γ.2.2 s H → va_Fw RJ2 ⟨"java/util/List", "size", "()I"⟩ yJ2_size s) ∧ (∀ (s : State) (H : Heap), Γ.2.2 s H → va_Fw RJ2 ⟨"java/util/List", "isEmpty", "()Z"⟩ yJ2_isEmpty s) ∧ (∀ (s : State) (H : Heap), Γ.2.2 s H → va_Fw RJ2 ⟨"java/util/List", "get", "(I)Ljava/lang/Object;"⟩ yJ2_get s) ∧ (∀ (s : State) (H : Heap), Γ.2.2 s H → va_Fw RJ2 ⟨"java/util/List", "add", "(Ljava/lang/Object;)Z"⟩ yJ2_add s) ∧ (∀ (s : State) (H : Heap), Γ.2.2 s H → va_Fw RJ2 ⟨"java/util/List", "clear", "()V"⟩ yJ2_clear s) ∧ ∀ (s : State) (H : Heap), Γ.2.2 s H → va_Fw RJ2 ⟨"java/util/List", "indexOf", "(Ljava/lang/Object;)I"⟩ yJ2_indexOf s
end REL
