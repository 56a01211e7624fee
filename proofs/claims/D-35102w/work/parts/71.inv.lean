/-! THE INVARIANT IS KEPT by every operation -/
set_option maxRecDepth 100000
section INV
theorem In.of {σ s : MM} (h : In σ) (hB : Bd s) (h1 : ∀ k, k ∈ [0, 6, 9, 13, 14, 15, 19, 26] → s.1 k = σ.1 k) (h2 : ∀ k, k ∈ [10, 11, 20, 21, 22, 23, 25, 28, 31, 32] → s.2 k = σ.2 k) : In s := by
  obtain ⟨-, hW, g1, e2, e3, e4, e5, e6, e7, e8, s1, s2, s3, s4⟩ := h
  have a0 := h1 0 (by decide)
  have a6 := h1 6 (by decide)
  have a9 := h1 9 (by decide)
  have a13 := h1 13 (by decide)
  have a14 := h1 14 (by decide)
  have a15 := h1 15 (by decide)
  have a19 := h1 19 (by decide)
  have a26 := h1 26 (by decide)
  have b10 := h2 10 (by decide)
  have b11 := h2 11 (by decide)
  have b20 := h2 20 (by decide)
  have b21 := h2 21 (by decide)
  have b22 := h2 22 (by decide)
  have b23 := h2 23 (by decide)
  have b25 := h2 25 (by decide)
  have b28 := h2 28 (by decide)
  have b31 := h2 31 (by decide)
  have b32 := h2 32 (by decide)
  refine ⟨hB, ?_, by rw [a19, a6]; exact g1, ?_, ?_, ?_, ?_, ?_, ?_, ?_, ?_, ?_, ?_, ?_⟩
  · unfold IW; rw [a13, a9, a0, b10, b11]; exact hW
  · unfold E2; rw [a19, a9, b20]; exact e2
  · unfold E3; rw [a19, b21, b28, b31, b32]; exact e3
  · unfold E4; rw [a26, a9, b23, b20]; exact e4
  · unfold E5; rw [a26, b25, b22, b23]; exact e5
  · unfold E6; rw [a26, b25, b23]; exact e6
  · unfold E7; rw [b28, b22]; exact e7
  · unfold E8; rw [b32, b31]; exact e8
  · unfold S1; rw [a14, a19, a26, b20]; exact s1
  · unfold S2; rw [a14, a6, a19]; exact s2
  · unfold S3; rw [a14, a0, a15]; exact s3
  · unfold S4; rw [a14, a19, b32]; exact s4
theorem In.setA {σ : MM} (h : In σ) {k i : Nat} {v : Int} (hv : bLo k ≤ v ∧ v ≤ bHi k) (hk : k ∉ [10, 11, 20, 21, 22, 23, 25, 28, 31, 32]) : In (setA σ k i v) :=
  h.of (h.1.a hv) (fun _ _ => rfl) (fun j hj => by rw [setA_2, if_neg (fun e => hk (by rw [← e]; exact hj))])
/-- all that is kept: the invariant, how many notes and moves there are, and two facts of what isn't there yet -/
def Inv (σ : MM) (T : Nat) : Prop := In σ ∧ NB σ T ∧ (σ.1 14 = 0 → σ.1 42 = 0) ∧ (∀ p : Nat, σ.1 9 ≤ p → σ.2 8 p = 0) ∧ (σ.1 14 ≤ 2 → ∀ p : Nat, p < 20 → σ.2 22 p = 0)
theorem NB.mono {σ : MM} {T T' : Nat} (h : NB σ T) (hT : T ≤ T') : NB σ T' := ⟨by have := h.1; omega, by have := h.2; split at this <;> (rename_i q; first | rw [if_pos q] | rw [if_neg q]) <;> omega⟩
theorem NB.of {σ s : MM} {T : Nat} (h : NB σ T) (h1 : s.1 13 = σ.1 13) (h2 : s.1 42 = σ.1 42) (h3 : s.1 14 = σ.1 14) : NB s T := by unfold NB; rw [h1, h2, h3]; exact h
theorem Inv.fail {σ : MM} {T : Nat} (h : Inv σ T) {t : Int} (ht : 0 ≤ t ∧ t ≤ 3) : Inv (setI σ 43 t) (T + 1) := ⟨h.1.i43 ht, (h.2.1.of rfl rfl rfl).mono (by omega), h.2.2.1, h.2.2.2⟩
theorem Inv.of {σ s : MM} {T : Nat} (h : Inv σ T) (hI : In s) (h13 : s.1 13 = σ.1 13) (h42 : s.1 42 = σ.1 42) (h14 : s.1 14 = σ.1 14) (h9 : s.1 9 = σ.1 9) (h8 : s.2 8 = σ.2 8) (h22 : s.2 22 = σ.2 22) : Inv s (T + 1) := ⟨hI, (h.2.1.of h13 h42 h14).mono (by omega), by rw [h14, h42]; exact h.2.2.1, by rw [h9, h8]; exact h.2.2.2.1, by rw [h14, h22]; exact h.2.2.2.2⟩
theorem Inv.n42 {σ : MM} {T : Nat} (h : Inv σ T) (hT : T ≤ 64) : σ.1 42 ≤ 188 := by
  have := h.2.1.2
  split at this <;> omega
theorem Inv.bar {σ : MM} {T : Nat} (h : Inv σ T) {i : Nat} {v : Int} (hv : v = 0 ∨ v = 1) : Inv (setA (σ0 σ) 1 i v) (T + 1) := h.of ((h.1.i43 (by decide)).setA (by show (0 : Int) ≤ v ∧ v ≤ 1; omega) (by decide)) rfl rfl rfl rfl rfl rfl
theorem Inv.slip {σ : MM} {T : Nat} (h : Inv σ T) {i : Nat} {v : Int} (hv : 0 ≤ v ∧ v ≤ 20) : Inv (setA (σ0 σ) 33 i v) (T + 1) := h.of ((h.1.i43 (by decide)).setA (by show (0 : Int) ≤ v ∧ v ≤ 20; exact hv) (by decide)) rfl rfl rfl rfl rfl rfl
theorem Inv.seats {σ : MM} {T : Nat} (h : Inv σ T) {i : Nat} {v : Int} (hv : 0 ≤ v ∧ v ≤ 20) : Inv (setA (σ0 σ) 5 i v) (T + 1) := h.of ((h.1.i43 (by decide)).setA (by show (0 : Int) ≤ v ∧ v ≤ 20; exact hv) (by decide)) rfl rfl rfl rfl rfl rfl
theorem Inv.seed {σ : MM} {T : Nat} (h : Inv σ T) {i : Nat} {v : Int} (hv : 0 ≤ v ∧ v ≤ 9999) : Inv (setA (σ0 σ) 18 i v) (T + 1) := h.of ((h.1.i43 (by decide)).setA (by show (0 : Int) ≤ v ∧ v ≤ 9999; exact hv) (by decide)) rfl rfl rfl rfl rfl rfl
theorem Inv.same {σ : MM} {T : Nat} (h : Inv σ T) : Inv (σ0 σ) (T + 1) := h.fail (by decide)
theorem Inv.way {σ : MM} {T : Nat} (h : Inv σ T) {c : Int} (hc : isC c) : Inv (sFinds (σ0 σ) c) (T + 1) := by
  have h0 := h.1.i43 (v := 0) (by decide)
  have e1 := sFinds_1 (σ0 σ) c
  refine h.of (h0.of (sFinds_bd h0.1 hc) (fun k _ => by rw [e1]) (fun k hk => sFinds_2 _ _ ⟨fun e => by rw [e] at hk; exact absurd hk (by decide), fun e => by rw [e] at hk; exact absurd hk (by decide)⟩)) ?_ ?_ ?_ ?_ (sFinds_2 _ _ (by decide)) (sFinds_2 _ _ (by decide)) <;> rw [e1] <;> rfl
theorem Inv.gs {σ s : MM} {T : Nat} (h : Inv σ T) (g : GS (σ0 σ) s) (hB : Bd s) : Inv s (T + 1) := by
  have h0 := h.1.i43 (v := 0) (by decide)
  have n : ∀ k, k ∈ [0, 6, 9, 13, 14, 15, 19, 26] → s.1 k = (σ0 σ).1 k := fun k hk => g.1 k (fun e => by rw [e] at hk; exact absurd hk (by decide)) (fun e => by rw [e] at hk; exact absurd hk (by decide))
  refine h.of (h0.of hB n (fun k hk => g.2 k (fun e => by rw [e] at hk; exact absurd hk (by decide)) (fun e => by rw [e] at hk; exact absurd hk (by decide)) (fun e => by rw [e] at hk; exact absurd hk (by decide)))) ?_ ?_ ?_ ?_ ?_ ?_
  · exact g.1 13 (by decide) (by decide)
  · exact g.1 42 (by decide) (by decide)
  · exact g.1 14 (by decide) (by decide)
  · exact g.1 9 (by decide) (by decide)
  · exact g.2 8 (by decide) (by decide) (by decide)
  · exact g.2 22 (by decide) (by decide) (by decide)
theorem Inv.station {σ : MM} {T : Nat} (h : Inv σ T) {c v : Int} (hc : isC c) (hv : 0 ≤ v ∧ v ≤ 20) (h6 : σ.1 6 < 5) : Inv (setI (setA (setA (σ0 σ) 4 (σ.1 6).toNat c) 5 (σ.1 6).toNat v) 6 (σ.1 6 + 1)) (T + 1) := by
  have h0 := h.1.i43 (v := 0) (by decide)
  have n6 : 0 ≤ σ.1 6 := (h.1.1.1 6).1
  obtain ⟨hB, hW, g1, e2, e3, e4, e5, e6, e7, e8, s1, s2, s3, s4⟩ := h0
  have hB2 : Bd (setI (setA (setA (σ0 σ) 4 (σ.1 6).toNat c) 5 (σ.1 6).toNat v) 6 (σ.1 6 + 1)) := ((hB.a (by show (0 : Int) ≤ c ∧ c ≤ 35; exact hc)).a (by show (0 : Int) ≤ v ∧ v ≤ 20; exact hv)).i (by show 0 ≤ σ.1 6 + 1 ∧ σ.1 6 + 1 ≤ 5; omega)
  refine ⟨⟨hB2, hW, ?_, e2, e3, e4, e5, e6, e7, e8, s1, ⟨fun _ => ?_, s2.2⟩, s3, s4⟩, (h.2.1.of rfl rfl rfl).mono (by omega), h.2.2.1, h.2.2.2⟩
  · have g1 : σ.1 19 ≤ σ.1 6 := g1
    show σ.1 19 ≤ σ.1 6 + 1
    omega
  · show 1 ≤ σ.1 6 + 1
    omega
/-- a move more -/
theorem IW.comes {σ : MM} (h : IW σ) (n13 : 0 ≤ σ.1 13) {p c : Int} (hp : 0 ≤ p ∧ p < σ.1 9) : IW (sComes σ p c) := by
  have e10 : ∀ j, (sComes σ p c).2 10 j = if j = (σ.1 13).toNat then p else σ.2 10 j := fun j => rfl
  have e11 : ∀ j, (sComes σ p c).2 11 j = if j = (σ.1 13).toNat then σ.1 0 else σ.2 11 j := fun j => rfl
  refine ⟨fun j hj => ?_, fun q hq => ?_⟩
  · have hj : (j : Int) < σ.1 13 + 1 := hj
    rw [e10, e11]
    show _ < σ.1 9 ∧ _ ≤ σ.1 0
    by_cases e : j = (σ.1 13).toNat
    · rw [if_pos e, if_pos e]; exact ⟨hp.2, Int.le_refl _⟩
    · rw [if_neg e, if_neg e]; exact h.1 j (by omega)
  · obtain ⟨j, hj, ej⟩ := h.2 q hq
    exact ⟨j, by show (j : Int) < σ.1 13 + 1; omega, by rw [e10, if_neg (by omega)]; exact ej⟩
theorem Inv.move {σ : MM} {T : Nat} (h : Inv σ T) (hT : T < 64) {p c : Int} (hp : isP σ p) (hc : isC c) : Inv (sComes (σ0 σ) p c) (T + 1) := by
  have h0 := h.1.i43 (v := 0) (by decide)
  have n13 : 0 ≤ σ.1 13 ∧ σ.1 13 ≤ 540 := h.1.1.1 13
  have n9 : 0 ≤ σ.1 9 ∧ σ.1 9 ≤ 20 := h.1.1.1 9
  have n0 : 0 ≤ σ.1 0 ∧ σ.1 0 ≤ 2100 := h.1.1.1 0
  have nb := h.2.1
  obtain ⟨hB, hW, g1, e2, e3, e4, e5, e6, e7, e8, s1, s2, s3, s4⟩ := h0
  have hB2 : Bd (sComes (σ0 σ) p c) := (((hB.a (by show (0 : Int) ≤ p ∧ p ≤ 19; omega)).a (by show (0 : Int) ≤ σ.1 0 ∧ σ.1 0 ≤ 2100; exact n0)).a (by show (0 : Int) ≤ c ∧ c ≤ 35; exact hc)).i (by show 0 ≤ σ.1 13 + 1 ∧ σ.1 13 + 1 ≤ 540; have := nb.1; omega)
  refine ⟨⟨hB2, hW.comes n13.1 (p := p) (c := c) (by show 0 ≤ p ∧ p < σ.1 9; omega), g1, e2, e3, e4, e5, e6, e7, e8, s1, s2, s3, s4⟩, ⟨?_, ?_⟩, h.2.2.1, h.2.2.2⟩
  · show σ.1 13 + 1 ≤ ((T + 1 : Nat) : Int)
    have := nb.1
    omega
  · exact (nb.mono (T' := T + 1) (by omega)).2
theorem Inv.person {σ : MM} {T : Nat} (h : Inv σ T) (hT : T < 64) {c v : Int} (hc : isC c) (hv : 0 ≤ v ∧ v ≤ 2000) (h9 : σ.1 9 < 20) : Inv (sComes (setI (setA (σ0 σ) 7 (σ.1 9).toNat v) 9 (σ.1 9 + 1)) (σ.1 9) c) (T + 1) := by
  have h0 := h.1.i43 (v := 0) (by decide)
  have n13 : 0 ≤ σ.1 13 ∧ σ.1 13 ≤ 540 := h.1.1.1 13
  have n9 : 0 ≤ σ.1 9 ∧ σ.1 9 ≤ 20 := h.1.1.1 9
  have n0 : 0 ≤ σ.1 0 ∧ σ.1 0 ≤ 2100 := h.1.1.1 0
  have nb := h.2.1
  have hd := h.2.2.2.1
  obtain ⟨hB, hW, g1, e2, e3, e4, e5, e6, e7, e8, s1, s2, s3, s4⟩ := h0
  have hB1 : Bd (setI (setA (σ0 σ) 7 (σ.1 9).toNat v) 9 (σ.1 9 + 1)) := (hB.a (by show (0 : Int) ≤ v ∧ v ≤ 2000; exact hv)).i (by show 0 ≤ σ.1 9 + 1 ∧ σ.1 9 + 1 ≤ 20; omega)
  have hB2 : Bd (sComes (setI (setA (σ0 σ) 7 (σ.1 9).toNat v) 9 (σ.1 9 + 1)) (σ.1 9) c) := (((hB1.a (by show (0 : Int) ≤ σ.1 9 ∧ σ.1 9 ≤ 19; omega)).a (by show (0 : Int) ≤ σ.1 0 ∧ σ.1 0 ≤ 2100; exact n0)).a (by show (0 : Int) ≤ c ∧ c ≤ 35; exact hc)).i (by show 0 ≤ σ.1 13 + 1 ∧ σ.1 13 + 1 ≤ 540; have := nb.1; omega)
  have hW2 : IW (sComes (setI (setA (σ0 σ) 7 (σ.1 9).toNat v) 9 (σ.1 9 + 1)) (σ.1 9) c) := by
    have x10 : ∀ j, (sComes (setI (setA (σ0 σ) 7 (σ.1 9).toNat v) 9 (σ.1 9 + 1)) (σ.1 9) c).2 10 j = if j = (σ.1 13).toNat then σ.1 9 else σ.2 10 j := fun j => rfl
    have x11 : ∀ j, (sComes (setI (setA (σ0 σ) 7 (σ.1 9).toNat v) 9 (σ.1 9 + 1)) (σ.1 9) c).2 11 j = if j = (σ.1 13).toNat then σ.1 0 else σ.2 11 j := fun j => rfl
    refine ⟨fun j hj => ?_, fun q hq => ?_⟩
    · have hj : (j : Int) < σ.1 13 + 1 := hj
      rw [x10, x11]
      show _ < σ.1 9 + 1 ∧ _ ≤ σ.1 0
      by_cases e : j = (σ.1 13).toNat
      · rw [if_pos e, if_pos e]; exact ⟨by omega, Int.le_refl _⟩
      · rw [if_neg e, if_neg e]
        have h8 : σ.2 10 j < σ.1 9 ∧ σ.2 11 j ≤ σ.1 0 := hW.1 j (by show (j : Int) < σ.1 13; omega)
        exact ⟨by omega, h8.2⟩
    · have hq : (q : Int) < σ.1 9 + 1 := hq
      by_cases e : (q : Int) = σ.1 9
      · exact ⟨(σ.1 13).toNat, by show (((σ.1 13).toNat : Nat) : Int) < σ.1 13 + 1; omega, by rw [x10, if_pos rfl]; exact e.symm⟩
      · obtain ⟨j, hj, ej⟩ := hW.2 q (by show (q : Int) < σ.1 9; omega)
        have hj : (j : Int) < σ.1 13 := hj
        exact ⟨j, by show (j : Int) < σ.1 13 + 1; omega, by rw [x10, if_neg (by omega)]; exact ej⟩
  refine ⟨⟨hB2, hW2, g1, fun p hp hn => ?_, e3, fun i hi => ?_, e5, e6, e7, e8, s1, s2, s3, s4⟩, ⟨?_, ?_⟩, h.2.2.1, fun p hp => ?_, h.2.2.2.2⟩
  · have h8 : σ.2 20 p < σ.1 19 ∧ (p : Int) < σ.1 9 := e2 p hp hn
    exact ⟨h8.1, by show (p : Int) < σ.1 9 + 1; omega⟩
  · have h8 : σ.2 23 i < σ.1 9 ∧ σ.2 20 (σ.2 23 i).toNat ≠ -1 := e4 i hi
    exact ⟨by show σ.2 23 i < σ.1 9 + 1; omega, h8.2⟩
  · show σ.1 13 + 1 ≤ ((T + 1 : Nat) : Int)
    have := nb.1
    omega
  · exact (nb.mono (T' := T + 1) (by omega)).2
  · have hp : σ.1 9 + 1 ≤ (p : Int) := hp
    exact hd p (by omega)
theorem sVoids_n (σ : MM) (p : Int) : (sVoids σ p).1 42 ≤ σ.1 42 + 1 := (sVoids_42 σ p).2
theorem S26 {σ : MM} (hI : In σ) (hz : σ.1 14 = 0) : σ.1 26 = 0 := (hI.s1 (by omega)).2.1
theorem Inv.die {σ : MM} {T : Nat} (h : Inv σ T) (hT : T < 64) {p : Int} (hp : isP σ p) : Inv (sVoids (setA (σ0 σ) 8 p.toNat 1) p) (T + 1) := by
  have h0 := h.1.i43 (v := 0) (by decide)
  have n9 : 0 ≤ σ.1 9 ∧ σ.1 9 ≤ 20 := h.1.1.1 9
  have n42 := h.n42 (by omega)
  have h1 : In (setA (σ0 σ) 8 p.toNat 1) := h0.setA (by show (0 : Int) ≤ 1 ∧ (1 : Int) ≤ 1; decide) (by decide)
  have v1 : ∀ k, k ≠ 42 → (sVoids (setA (σ0 σ) 8 p.toNat 1) p).1 k = (σ0 σ).1 k := fun k hk => sVoids_1 _ p hk
  have nb := h.2.1
  refine ⟨h1.voids (by omega) (by show σ.1 42 < 1000; omega), ⟨?_, ?_⟩, fun hz => ?_, fun q hq => ?_, fun hz => ?_⟩
  · rw [v1 13 (by decide)]; show σ.1 13 ≤ _; have := nb.1; omega
  · rw [v1 14 (by decide)]
    have a1 : (sVoids (setA (σ0 σ) 8 p.toNat 1) p).1 42 ≤ σ.1 42 + 1 := sVoids_n _ p
    have a2 : σ.1 42 ≤ 2 * (T : Int) + (if 4 ≤ σ.1 14 then 60 else 0) := nb.2
    show _ ≤ 2 * ((T + 1 : Nat) : Int) + (if 4 ≤ σ.1 14 then 60 else 0)
    omega
  · rw [v1 14 (by decide)] at hz
    have hz : σ.1 14 = 0 := hz
    have e26 : (setA (σ0 σ) 8 p.toNat 1).1 26 = 0 := (show σ.1 26 = 0 from S26 h.1 hz)
    have e9 : sVoids (setA (σ0 σ) 8 p.toNat 1) p = setA (σ0 σ) 8 p.toNat 1 := if_pos (by rw [e26]; rfl)
    rw [e9]
    exact h.2.2.1 hz
  · rw [v1 9 (by decide)] at hq
    have hq : σ.1 9 ≤ (q : Int) := hq
    rw [sVoids_2 _ p (by decide)]
    show uA (σ.2 8) p.toNat 1 q = 0
    rw [uA_ne (by omega)]
    exact h.2.2.2.1 q hq
  · rw [v1 14 (by decide)] at hz
    rw [sVoids_2 _ p (by decide)]
    exact h.2.2.2.2 hz
theorem Inv.call {σ : MM} {T : Nat} (h : Inv σ T) {a m v : Int} (ha : 8 ≤ a ∧ a ≤ 100) (hm : 0 ≤ m ∧ m ≤ 30) (hv : v = 0 ∨ v = 1) (h6 : 0 < σ.1 6) (hd : σ.1 0 + a ≤ 2000) : Inv (sCall (σ0 σ) (σ.1 0 + a) m v) (T + 1) := by
  have h0 := h.1.i43 (v := 0) (by decide)
  have n0 : 0 ≤ σ.1 0 ∧ σ.1 0 ≤ 2100 := h.1.1.1 0
  have nb := h.2.1
  obtain ⟨hB, hW, g1, e2, e3, e4, e5, e6, e7, e8, s1, s2, s3, s4⟩ := h0
  have c19 := sCall_19 (σ0 σ) (σ.1 0 + a) m v
  have c1 : ∀ k, k ≠ 14 ∧ k ≠ 15 ∧ k ≠ 16 ∧ k ≠ 17 ∧ k ≠ 19 ∧ k ≠ 26 ∧ k ≠ 42 → (sCall (σ0 σ) (σ.1 0 + a) m v).1 k = (σ0 σ).1 k := fun k hk => sCall_1 _ _ _ _ hk
  have c2 : ∀ k, k ≠ 18 ∧ k ≠ 20 ∧ k ≠ 21 ∧ k ≠ 22 ∧ k ≠ 28 ∧ k ≠ 31 ∧ k ≠ 32 → (sCall (σ0 σ) (σ.1 0 + a) m v).2 k = (σ0 σ).2 k := fun k hk => sClears_2 (σ0 σ) hk
  have p2 : ∀ j, j < 20 → (sCall (σ0 σ) (σ.1 0 + a) m v).2 20 j = -1 ∧ (sCall (σ0 σ) (σ.1 0 + a) m v).2 22 j = 0 := fun j hj => sClears_p (σ0 σ) hj
  have q2 : ∀ j, j < 5 → _ := fun j hj => sClears_s (σ0 σ) (j := j) hj
  have e14 : (sCall (σ0 σ) (σ.1 0 + a) m v).1 14 = 1 := rfl
  have hBc : Bd (sClears (σ0 σ)) := by
    have b1 : ∀ n, Bd (sCl1 (setI (setI (setI (σ0 σ) 19 0) 26 0) 42 0) n) := fun n => by
      induction n with
      | zero => exact ((hB.i (by decide)).i (by decide)).i (by decide)
      | succ n ih => exact (ih.a (by show (-1 : Int) ≤ -1 ∧ (-1 : Int) ≤ 4; decide)).a (by show (0 : Int) ≤ 0 ∧ (0 : Int) ≤ 1; decide)
    have b2 : ∀ n, Bd (sCl2 (sCl1 (setI (setI (setI (σ0 σ) 19 0) 26 0) 42 0) 20) n) := fun n => by
      induction n with
      | zero => exact b1 20
      | succ n ih => exact ((((ih.a (by show (0 : Int) ≤ 0 ∧ (0 : Int) ≤ 9999; decide)).a (by show (0 : Int) ≤ 0 ∧ (0 : Int) ≤ 20; decide)).a (by show (0 : Int) ≤ 0 ∧ (0 : Int) ≤ 20; decide)).a (by show (0 : Int) ≤ 0 ∧ (0 : Int) ≤ 8; decide)).a (by show (-1 : Int) ≤ -1 ∧ (-1 : Int) ≤ 39; decide)
    exact b2 5
  have hB2 : Bd (sCall (σ0 σ) (σ.1 0 + a) m v) := (((hBc.i (by decide)).i (by show 0 ≤ σ.1 0 + a ∧ σ.1 0 + a ≤ 2000; omega)).i (by show 0 ≤ m ∧ m ≤ 30; exact hm)).i (by show 0 ≤ v ∧ v ≤ 1; omega)
  refine ⟨⟨hB2, ?_, ?_, fun p hp hn => absurd (p2 p hp).1 hn, fun s hs _ => ⟨(q2 s hs).2.1, (q2 s hs).2.2.1, (q2 s hs).2.2.2.1, (q2 s hs).2.2.2.2⟩, fun i hi => ?_, fun i hi => ?_, fun i j hij hj => ?_, ?_, fun s hs => Or.inl (q2 s hs).2.2.2.2, fun _ => ⟨c19.1, c19.2.1, fun p hp => (p2 p hp).1⟩, ⟨fun _ => ?_, fun z => ?_⟩, fun z => ?_, fun z => ?_⟩, ⟨?_, ?_⟩, fun z => ?_, ?_, fun _ p hp => (p2 p hp).2⟩
  · unfold IW
    rw [c1 13 (by decide), c1 9 (by decide), c1 0 (by decide), c2 10 (by decide), c2 11 (by decide)]
    exact hW
  · rw [c19.1, c1 6 (by decide)]
    show (0 : Int) ≤ σ.1 6
    omega
  · rw [c19.2.1] at hi; omega
  · rw [c19.2.1] at hi; omega
  · rw [c19.2.1] at hj; omega
  · unfold E7
    have w1 : sumN ((sCall (σ0 σ) (σ.1 0 + a) m v).2 28) 5 = 0 := sumN_0 5 (fun j hj => (q2 j hj).2.2.1)
    have w2 : sumN ((sCall (σ0 σ) (σ.1 0 + a) m v).2 22) 20 = 0 := sumN_0 20 (fun j hj => (p2 j hj).2)
    rw [w1, w2]
  · rw [c1 6 (by decide)]; show 1 ≤ σ.1 6; omega
  · rw [e14] at z; omega
  · rw [e14] at z; omega
  · rw [e14] at z; omega
  · rw [c1 13 (by decide)]; show σ.1 13 ≤ _; have := nb.1; omega
  · rw [c19.2.2]; split <;> omega
  · rw [e14] at z; omega
  · intro p hp
    rw [c1 9 (by decide)] at hp
    rw [c2 8 (by decide)]
    exact h.2.2.2.1 p hp
/-- a note, counted -/
theorem Inv.noted {σ s : MM} {T : Nat} (h : Inv σ T) (hI : In s) (h13 : s.1 13 = σ.1 13) (h42 : s.1 42 ≤ σ.1 42 + 2) (h14 : s.1 14 = σ.1 14 ∨ (4 ≤ s.1 14 ∧ 4 ≤ σ.1 14)) (hz : σ.1 14 ≠ 0) (h9 : s.1 9 = σ.1 9) (h8 : s.2 8 = σ.2 8) (h22 : s.1 14 ≤ 2 → s.2 22 = σ.2 22) : Inv s (T + 1) := by
  have nb := h.2.1
  refine ⟨hI, ⟨by rw [h13]; have := nb.1; omega, ?_⟩, fun z => ?_, by rw [h9, h8]; exact h.2.2.2.1, fun z => ?_⟩
  · have a2 := nb.2
    rcases h14 with e | ⟨e1, e2⟩
    · rw [e]; omega
    · rw [if_pos e1]; rw [if_pos e2] at a2; omega
  · rcases h14 with e | ⟨e1, e2⟩
    · rw [e] at z; exact absurd z hz
    · omega
  · rw [h22 z]
    rcases h14 with e | ⟨e1, e2⟩
    · rw [e] at z; exact h.2.2.2.2 z
    · omega
theorem Inv.early {σ : MM} {T : Nat} (h : Inv σ T) (hT : T < 64) {p v : Int} (hp : isP σ p) (hv : 0 ≤ v ∧ v ≤ 5) (h14 : σ.1 14 = 2) (hr : σ.2 20 p.toNat ≠ -1) (hn : σ.1 26 < 60) :
    Inv (sNote (setI (setA (setA (setA (sVoids (σ0 σ) p) 23 (σ.1 26).toNat p) 24 (σ.1 26).toNat v) 25 (σ.1 26).toNat 0) 26 (σ.1 26 + 1)) (σ.1 0) 101 p) (T + 1) := by
  have h0 := h.1.i43 (v := 0) (by decide)
  have n9 : 0 ≤ σ.1 9 ∧ σ.1 9 ≤ 20 := h.1.1.1 9
  have n26 : 0 ≤ σ.1 26 ∧ σ.1 26 ≤ 60 := h.1.1.1 26
  have n0 : 0 ≤ σ.1 0 ∧ σ.1 0 ≤ 2100 := h.1.1.1 0
  have hvo : σ.2 22 p.toNat = 0 := h.2.2.2.2 (by omega) p.toNat (by omega)
  have n42 := h.n42 (by omega)
  have hV := h0.voids (p := p) (by omega) (by show σ.1 42 < 1000; omega)
  have hvd := h0.voided p
  have v1 : ∀ k, k ≠ 42 → (sVoids (σ0 σ) p).1 k = (σ0 σ).1 k := fun k hk => sVoids_1 _ p hk
  have v2 : ∀ k, k ≠ 25 ∧ k ≠ 39 ∧ k ≠ 40 ∧ k ≠ 41 → (sVoids (σ0 σ) p).2 k = (σ0 σ).2 k := fun k hk => sVoids_2 _ p hk
  have v42 : (sVoids (σ0 σ) p).1 42 ≤ σ.1 42 + 1 := sVoids_n _ p
  generalize sVoids (σ0 σ) p = τ at *
  have t26 : τ.1 26 = σ.1 26 := v1 26 (by decide)
  have t14 : τ.1 14 = σ.1 14 := v1 14 (by decide)
  have t9 : τ.1 9 = σ.1 9 := v1 9 (by decide)
  have t20 : τ.2 20 = σ.2 20 := v2 20 (by decide)
  have t22 : τ.2 22 = σ.2 22 := v2 22 (by decide)
  have hs : In (setI (setA (setA (setA τ 23 (σ.1 26).toNat p) 24 (σ.1 26).toNat v) 25 (σ.1 26).toNat 0) 26 (σ.1 26 + 1)) := by
    obtain ⟨hB, hW, g1, e2, e3, e4, e5, e6, e7, e8, s1, s2, s3, s4⟩ := hV
    have x23 : ∀ i, (setI (setA (setA (setA τ 23 (σ.1 26).toNat p) 24 (σ.1 26).toNat v) 25 (σ.1 26).toNat 0) 26 (σ.1 26 + 1)).2 23 i = if i = (σ.1 26).toNat then p else τ.2 23 i := fun i => rfl
    have x25 : ∀ i, (setI (setA (setA (setA τ 23 (σ.1 26).toNat p) 24 (σ.1 26).toNat v) 25 (σ.1 26).toNat 0) 26 (σ.1 26 + 1)).2 25 i = if i = (σ.1 26).toNat then 0 else τ.2 25 i := fun i => rfl
    refine ⟨(((hB.a (by show (0 : Int) ≤ p ∧ p ≤ 19; omega)).a (by show (0 : Int) ≤ v ∧ v ≤ 5; exact hv)).a (by show (0 : Int) ≤ 0 ∧ (0 : Int) ≤ 2; decide)).i (by show 0 ≤ σ.1 26 + 1 ∧ σ.1 26 + 1 ≤ 60; omega), hW, g1, e2, e3, fun i hi => ?_, fun i hi hi0 => ?_, fun i j hij hj hi0 hj0 => ?_, e7, e8, fun z => ?_, s2, s3, s4⟩
    · have hi : (i : Int) < σ.1 26 + 1 := hi
      rw [x23]
      show (if i = (σ.1 26).toNat then p else τ.2 23 i) < τ.1 9 ∧ τ.2 20 (if i = (σ.1 26).toNat then p else τ.2 23 i).toNat ≠ -1
      by_cases e : i = (σ.1 26).toNat
      · rw [if_pos e, t9, t20]; exact ⟨by omega, hr⟩
      · rw [if_neg e]; exact e4 i (by omega)
    · have hi : (i : Int) < σ.1 26 + 1 := hi
      rw [x25] at hi0
      rw [x23]
      show τ.2 22 (if i = (σ.1 26).toNat then p else τ.2 23 i).toNat = 0
      by_cases e : i = (σ.1 26).toNat
      · rw [if_pos e, t22]; exact hvo
      · rw [if_neg e] at hi0 ⊢; exact e5 i (by omega) hi0
    · have hj : (j : Int) < σ.1 26 + 1 := hj
      rw [x25] at hi0 hj0
      rw [x23, x23]
      rw [if_neg (by omega)] at hi0
      rw [if_neg (show ¬ i = (σ.1 26).toNat by omega)]
      by_cases e : j = (σ.1 26).toNat
      · rw [if_pos e]
        exact hvd i (by omega) hi0
      · rw [if_neg e] at hj0 ⊢; exact e6 i j hij (by omega) hi0 hj0
    · have z : τ.1 14 ≤ 1 := z
      omega
  refine h.noted (In.note hs n0 (by decide) (by omega) (by show τ.1 42 < 1000; omega)) (v1 13 (by decide)) ?_ (Or.inl t14) (by omega) t9 (v2 8 (by decide)) (fun _ => t22)
  show τ.1 42 + 1 ≤ σ.1 42 + 2
  omega
theorem Inv.vote {σ : MM} {T : Nat} (h : Inv σ T) (hT : T < 64) {p v : Int} (hp : isP σ p) (hv : 0 ≤ v ∧ v ≤ 5) (h14 : σ.1 14 = 3) (hr : σ.2 20 p.toNat ≠ -1) (hvo : σ.2 22 p.toNat = 0) : Inv (sCasts (sNote (sVoids (σ0 σ) p) (σ.1 0) 118 p) p v) (T + 1) := by
  have h0 := h.1.i43 (v := 0) (by decide)
  have n9 : 0 ≤ σ.1 9 ∧ σ.1 9 ≤ 20 := h.1.1.1 9
  have n0 : 0 ≤ σ.1 0 ∧ σ.1 0 ≤ 2100 := h.1.1.1 0
  have n42 := h.n42 (by omega)
  have hV := h0.voids (p := p) (by omega) (by show σ.1 42 < 1000; omega)
  have hvd := h0.voided p
  have v1 : ∀ k, k ≠ 42 → (sVoids (σ0 σ) p).1 k = (σ0 σ).1 k := fun k hk => sVoids_1 _ p hk
  have v2 : ∀ k, k ≠ 25 ∧ k ≠ 39 ∧ k ≠ 40 ∧ k ≠ 41 → (sVoids (σ0 σ) p).2 k = (σ0 σ).2 k := fun k hk => sVoids_2 _ p hk
  have v42 : (sVoids (σ0 σ) p).1 42 ≤ σ.1 42 + 1 := sVoids_n _ p
  generalize sVoids (σ0 σ) p = τ at *
  have t20 : τ.2 20 = σ.2 20 := v2 20 (by decide)
  have t22 : τ.2 22 = σ.2 22 := v2 22 (by decide)
  have hN : In (sNote τ (σ.1 0) 118 p) := In.note hV n0 (by decide) (by omega) (by omega)
  refine h.noted (hN.casts (by omega) hv (by show τ.2 20 p.toNat ≠ -1; rw [t20]; exact hr) (by show τ.2 22 p.toNat = 0; rw [t22]; exact hvo) (fun i hi hi0 => hvd i hi hi0)) (v1 13 (by decide)) ?_ (Or.inl (v1 14 (by decide))) (by omega) (v1 9 (by decide)) (v2 8 (by decide)) (fun z => by have z : τ.1 14 ≤ 2 := z; have e9 : τ.1 14 = σ.1 14 := v1 14 (by decide); omega)
  show τ.1 42 + 1 ≤ σ.1 42 + 2
  omega
theorem Inv.openE {σ : MM} {T : Nat} (h : Inv σ T) (hT : T < 64) {p : Int} (hp : isP σ p) (h14 : σ.1 14 = 3) (hs : sSealed σ p (σ.1 26).toNat ≠ -1) : Inv (sNote (sCasts (setA (σ0 σ) 25 (sSealed σ p (σ.1 26).toNat).toNat 2) p (σ.2 24 (sSealed σ p (σ.1 26).toNat).toNat)) (σ.1 0) 111 p) (T + 1) := by
  have h0 := h.1.i43 (v := 0) (by decide)
  have n9 : 0 ≤ σ.1 9 ∧ σ.1 9 ≤ 20 := h.1.1.1 9
  have n26 : 0 ≤ σ.1 26 ∧ σ.1 26 ≤ 60 := h.1.1.1 26
  have n0 : 0 ≤ σ.1 0 ∧ σ.1 0 ≤ 2100 := h.1.1.1 0
  have n42 := h.n42 (by omega)
  have rz := sSealed_some _ hs
  have rr := sSealed_rng σ p (σ.1 26).toNat
  generalize sSealed σ p (σ.1 26).toNat = z at *
  have h24 : 0 ≤ σ.2 24 z.toNat ∧ σ.2 24 z.toNat ≤ 5 := h.1.1.2 24 _
  have e4 := h.1.2.2.2.2.2.1 z.toNat (by omega)
  have e5 := h.1.2.2.2.2.2.2.1 z.toNat (by omega) rz.2
  rw [rz.1] at e4 e5
  have hu := h0.unseal (k := z.toNat) (v := 2) (Or.inr rfl)
  have hso := h0.sealed_only (k := z.toNat) (p := p) (by show ((z.toNat : Nat) : Int) < σ.1 26; omega) rz.1 rz.2 (v := 2) (by decide)
  have hc := hu.casts (p := p) (v := σ.2 24 z.toNat) (by omega) h24 e4.2 e5 (fun i hi hi0 => hso i hi hi0)
  exact h.noted (In.note hc n0 (by decide) (by omega) (by show σ.1 42 < 1000; omega)) rfl (by show σ.1 42 + 1 ≤ σ.1 42 + 2; omega) (Or.inl rfl) (by omega) rfl rfl (fun z => by have z : σ.1 14 ≤ 2 := z; omega)
theorem Inv.recount {σ : MM} {T : Nat} (h : Inv σ T) {s : Int} (hs : isS σ s) (h14 : σ.1 14 = 4) : Inv (setA (setA (σ0 σ) 31 s.toNat 0) 32 s.toNat (-1)) (T + 1) := by
  have h0 := h.1.i43 (v := 0) (by decide)
  obtain ⟨hB, hW, g1, e2, e3, e4, e5, e6, e7, e8, s1, s2, s3, s4⟩ := h0
  have x31 : ∀ i, (setA (setA (σ0 σ) 31 s.toNat 0) 32 s.toNat (-1)).2 31 i = if i = s.toNat then 0 else σ.2 31 i := fun i => rfl
  have x32 : ∀ i, (setA (setA (σ0 σ) 31 s.toNat 0) 32 s.toNat (-1)).2 32 i = if i = s.toNat then -1 else σ.2 32 i := fun i => rfl
  refine h.of ⟨(hB.a (by show (0 : Int) ≤ 0 ∧ (0 : Int) ≤ 8; decide)).a (by show (-1 : Int) ≤ -1 ∧ (-1 : Int) ≤ 39; decide), hW, g1, e2, fun i hi hi9 => ?_, e4, e5, e6, e7, fun i hi => ?_, s1, s2, s3, fun z => ?_⟩ rfl rfl rfl rfl rfl rfl
  · obtain ⟨q1, q2, q3, q4⟩ := e3 i hi hi9
    refine ⟨q1, q2, ?_, ?_⟩
    · rw [x31]; split
      · rfl
      · exact q3
    · rw [x32]; split
      · rfl
      · exact q4
  · rw [x31, x32]
    by_cases e : i = s.toNat
    · rw [if_pos e]; exact Or.inl rfl
    · rw [if_neg e, if_neg e]; exact e8 i hi
  · have z : σ.1 14 = 5 := z
    omega
theorem sAll_all {σ : MM} : ∀ k : Nat, sAll σ k = 1 → ∀ i : Nat, i < k → σ.2 32 i ≠ -1
  | 0, _, i, hi => absurd hi (Nat.not_lt_zero _)
  | k + 1, h, i, hi => by
    unfold sAll at h
    by_cases c : sAll σ k = 1 ∧ σ.2 32 k ≠ -1
    · by_cases e : i = k
      · rw [e]; exact c.2
      · exact sAll_all k c.1 i (by omega)
    · rw [if_neg c] at h; exact absurd h (by decide)
theorem Inv.count {σ : MM} {T : Nat} (h : Inv σ T) (hT : T < 64) {s c : Int} (hs : isS σ s) (hc : 0 ≤ c ∧ c ≤ 3) (h14 : σ.1 14 = 4) (h19 : s < σ.1 19) (h32 : σ.2 32 s.toNat = -1) (h31 : σ.2 31 s.toNat < 8) : Inv (sCount (σ0 σ) s c) (T + 1) := by
  have h0 := h.1.i43 (v := 0) (by decide)
  have n6 : 0 ≤ σ.1 6 ∧ σ.1 6 ≤ 5 := h.1.1.1 6
  have n0 : 0 ≤ σ.1 0 ∧ σ.1 0 ≤ 2100 := h.1.1.1 0
  have n19 : 0 ≤ σ.1 19 ∧ σ.1 19 ≤ 5 := h.1.1.1 19
  have n42 := h.n42 (by omega)
  have n31 : 0 ≤ σ.2 31 s.toNat := (h.1.1.2 31 _).1
  obtain ⟨y, rfl⟩ : ∃ y : Nat, s = (y : Int) := ⟨s.toNat, by omega⟩
  rw [Int.toNat_natCast] at h32 h31 n31
  obtain ⟨m, hm⟩ : ∃ m : Nat, σ.2 31 y = (m : Int) := ⟨(σ.2 31 y).toNat, by omega⟩
  have hm0 : (σ0 σ).2 31 y = (m : Int) := hm
  have hB4 := sC4_bd h0.1 (c := c) hm0 (by omega) (by omega) hc
  obtain ⟨t1, to, t30, t31, t29, -⟩ := sC3_at h0.1 (c := c) hm0
  have hif := sC4_if h0.1 (c := c) hm0 (cc := fun j => (σ0 σ).2 30 (8 * y + j)) (ff := fun j => c6 (fun x => (σ0 σ).2 29 (6 * (8 * y + j) + x))) (F := rdN (fun q => (σ0 σ).2 27 (20 * y + q)) ((σ0 σ).2 33 c.toNat) ((σ0 σ).2 28 y).toNat) (fun _ _ => rfl) (fun _ _ => rfl) rfl
  have f1 : (sC4 (σ0 σ) y c).1 = (σ0 σ).1 := sC4_1 _ _ _
  have f2 : ∀ k, k ≠ 29 → k ≠ 30 → k ≠ 31 → k ≠ 32 → (sC4 (σ0 σ) y c).2 k = (σ0 σ).2 k := fun k a b d e => sC4_2 _ _ _ a b d e
  have f31 : (sC4 (σ0 σ) y c).2 31 = uA (σ.2 31) y (m + 1) := by
    rw [hif]; split
    · rw [setA_2, if_neg (by decide)]; exact t31
    · exact t31
  have f32 : ∀ i, (sC4 (σ0 σ) y c).2 32 i = σ.2 32 i ∨ (i = y ∧ (sC4 (σ0 σ) y c).2 32 i = ((8 * y + m : Nat) : Int)) := fun i => by
    rw [hif]; split
    · rw [setA_2, if_pos rfl, uA_ap]
      split
      · rename_i e; exact Or.inr ⟨e, rfl⟩
      · left; rw [to 32 (by decide) (by decide) (by decide)]; rfl
    · left; rw [to 32 (by decide) (by decide) (by decide)]; rfl
  have h4 : In (sC4 (σ0 σ) y c) := by
    obtain ⟨hB, hW, g1, e2, e3, e4, e5, e6, e7, e8, s1, s2, s3, s4⟩ := h0
    refine ⟨hB4, ?_, by rw [f1]; exact g1, ?_, fun i hi hi9 => ?_, ?_, ?_, ?_, ?_, fun i hi => ?_, ?_, ?_, ?_, fun z => ?_⟩
    · unfold IW; rw [f1, f2 10 (by decide) (by decide) (by decide) (by decide), f2 11 (by decide) (by decide) (by decide) (by decide)]; exact hW
    · unfold E2; rw [f1, f2 20 (by decide) (by decide) (by decide) (by decide)]; exact e2
    · rw [f1] at hi9
      have hi9 : σ.1 19 ≤ (i : Int) := hi9
      obtain ⟨q1, q2, q3, q4⟩ := e3 i hi hi9
      refine ⟨by rw [f2 21 (by decide) (by decide) (by decide) (by decide)]; exact q1, by rw [f2 28 (by decide) (by decide) (by decide) (by decide)]; exact q2, by rw [f31, uA_ne (by omega)]; exact q3, ?_⟩
      rcases f32 i with z | ⟨z, -⟩
      · rw [z]; exact q4
      · omega
    · unfold E4; rw [f1, f2 23 (by decide) (by decide) (by decide) (by decide), f2 20 (by decide) (by decide) (by decide) (by decide)]; exact e4
    · unfold E5; rw [f1, f2 25 (by decide) (by decide) (by decide) (by decide), f2 22 (by decide) (by decide) (by decide) (by decide), f2 23 (by decide) (by decide) (by decide) (by decide)]; exact e5
    · unfold E6; rw [f1, f2 25 (by decide) (by decide) (by decide) (by decide), f2 23 (by decide) (by decide) (by decide) (by decide)]; exact e6
    · unfold E7; rw [f2 28 (by decide) (by decide) (by decide) (by decide), f2 22 (by decide) (by decide) (by decide) (by decide)]; exact e7
    · rw [f31, uA_ap]
      rcases f32 i with z | ⟨z, z2⟩
      · rw [z]
        rcases e8 i hi with w | w
        · exact Or.inl w
        · have w : 8 * (i : Int) ≤ σ.2 32 i ∧ σ.2 32 i < 8 * i + σ.2 31 i := w
          refine Or.inr ⟨w.1, ?_⟩
          by_cases e : i = y
          · rw [if_pos e]
            have w2 := w.2
            rw [e, hm] at w2
            rw [e]
            omega
          · rw [if_neg e]; exact w.2
      · rw [z2, if_pos z, z]
        exact Or.inr ⟨by omega, by omega⟩
    · unfold S1; rw [f1, f2 20 (by decide) (by decide) (by decide) (by decide)]; exact s1
    · unfold S2; rw [f1]; exact s2
    · unfold S3; rw [f1]; exact s3
    · rw [f1] at z
      have z : σ.1 14 = 5 := z
      omega
  have e5 : sC5 (σ0 σ) y c = sNote (sC4 (σ0 σ) y c) (σ.1 0) 99 y := by unfold sC5; rw [f1]; rfl
  have h5 : In (sNote (sC4 (σ0 σ) y c) (σ.1 0) 99 y) := In.note h4 n0 (by decide) (by omega) (by rw [f1]; show σ.1 42 < 1000; omega)
  have g14 : (sNote (sC4 (σ0 σ) y c) (σ.1 0) 99 y).1 14 = 4 := by show (sC4 (σ0 σ) y c).1 14 = 4; rw [f1]; exact h14
  have g42 : (sNote (sC4 (σ0 σ) y c) (σ.1 0) 99 y).1 42 = σ.1 42 + 1 := by show (sC4 (σ0 σ) y c).1 42 + 1 = _; rw [f1]; rfl
  have g13 : (sNote (sC4 (σ0 σ) y c) (σ.1 0) 99 y).1 13 = σ.1 13 := by show (sC4 (σ0 σ) y c).1 13 = _; rw [f1]; rfl
  have g9 : (sNote (sC4 (σ0 σ) y c) (σ.1 0) 99 y).1 9 = σ.1 9 := by show (sC4 (σ0 σ) y c).1 9 = _; rw [f1]; rfl
  have g8 : (sNote (sC4 (σ0 σ) y c) (σ.1 0) 99 y).2 8 = σ.2 8 := f2 8 (by decide) (by decide) (by decide) (by decide)
  unfold sCount
  rw [e5, g14]
  generalize sNote (sC4 (σ0 σ) y c) (σ.1 0) 99 y = τ at *
  have n19t : 0 ≤ τ.1 19 := (h5.1.1 19).1
  by_cases ha : sAll τ (τ.1 19).toNat = 1
  · rw [if_pos ha]
    have hall := sAll_all _ ha
    obtain ⟨hB, hW, g1, e2, e3, e4, e5, e6, e7, e8, s1, s2, s3, s4⟩ := h5
    refine h.noted ⟨hB.i (by show (0 : Int) ≤ 5 ∧ (5 : Int) ≤ 5; decide), hW, g1, e2, e3, e4, e5, e6, e7, e8, fun z => absurd (show (5 : Int) ≤ 1 from z) (by decide), ⟨fun _ => s2.1 (by omega), fun _ => s2.2 (by omega)⟩, fun z => absurd (show (5 : Int) = 3 from z) (by decide), fun _ i hi => hall i (by have hi : (i : Int) < τ.1 19 := hi; omega)⟩ g13 ?_ (Or.inr ⟨?_, by omega⟩) (by omega) g9 g8 (fun z => absurd (show (5 : Int) ≤ 2 from z) (by decide))
    · show τ.1 42 ≤ σ.1 42 + 2; omega
    · show (4 : Int) ≤ 5; decide
  · rw [if_neg ha]
    rw [show setI τ 14 4 = τ by rw [← g14]; exact setI_self τ 14]
    exact h.noted h5 g13 (by omega) (Or.inl (by omega)) (by omega) g9 g8 (fun z => by omega)
theorem clStep_8 (s : MM) (k : Nat) : (sClStep s k).2 8 = s.2 8 := by
  unfold sClStep
  split <;> rfl
theorem sDay_8 (σ : MM) : (sDay σ).2 8 = σ.2 8 := by
  unfold sDay
  split
  · unfold sRoll
    exact (sRollN_fr _ 8 (by decide) _).2
  · split
    · rfl
    · split
      · have e : ∀ (s : MM) (k : Nat), (sClN s k).2 8 = s.2 8 := fun s k => by
          induction k with
          | zero => rfl
          | succ k ih => unfold sClN; rw [clStep_8]; exact ih
        exact e _ _
      · rfl
theorem sDay_k (σ : MM) : (sDay σ).1 9 = σ.1 9 ∧ ((sDay σ).1 14 = 0 → σ.1 14 = 0 ∧ (sDay σ).1 42 = σ.1 42) := by
  unfold sDay
  split
  · refine ⟨?_, fun z => ?_⟩
    · unfold sRoll; rw [(sRollN_fr _ 8 (by decide) _).1]; rfl
    · rw [sRoll_14] at z; omega
  · split
    · exact ⟨rfl, fun z => absurd (show (3 : Int) = 0 from z) (by decide)⟩
    · split
      · have e : ∀ (s : MM) (k : Nat), (sClN s k).1 9 = s.1 9 := fun s k => by
          induction k with
          | zero => rfl
          | succ k ih => unfold sClN; rw [clStep_1 _ _ _ (by decide)]; exact ih
        refine ⟨e _ _, fun z => ?_⟩
        have := sClN_14 (setI σ 0 (σ.1 0 + 1)) ((setI σ 0 (σ.1 0 + 1)).1 26).toNat
        have z : (sClN (setI σ 0 (σ.1 0 + 1)) ((setI σ 0 (σ.1 0 + 1)).1 26).toNat).1 14 = 0 := z
        omega
      · exact ⟨rfl, fun z => ⟨z, rfl⟩⟩
theorem sDay_22 (σ : MM) (hz : (sDay σ).1 14 ≤ 2) : σ.1 14 ≤ 2 ∧ (sDay σ).2 22 = σ.2 22 := by
  unfold sDay at hz ⊢
  split at hz
  · rename_i c
    rw [if_pos c]
    refine ⟨by omega, ?_⟩
    unfold sRoll
    exact (sRollN_fr _ 22 (by decide) _).2
  · rename_i c
    rw [if_neg c]
    split at hz
    · rename_i c2
      rw [if_pos c2]
      exact ⟨by omega, rfl⟩
    · rename_i c2
      rw [if_neg c2]
      split at hz
      · have := sClN_14 (setI σ 0 (σ.1 0 + 1)) ((setI σ 0 (σ.1 0 + 1)).1 26).toNat
        have hz : (sClN (setI σ 0 (σ.1 0 + 1)) ((setI σ 0 (σ.1 0 + 1)).1 26).toNat).1 14 ≤ 2 := hz
        omega
      · rename_i c3
        rw [if_neg c3]
        exact ⟨hz, rfl⟩
theorem Inv.adv {σ : MM} {T : Nat} (h : Inv σ T) (hT : T < 64) {n : Int} (hn : 1 ≤ n ∧ n ≤ 100) (hd : σ.1 0 + n ≤ 2100) : Inv (sAdv (σ0 σ) n.toNat) (T + 1) := by
  have h0 := h.1.i43 (v := 0) (by decide)
  have hN0 : NB (σ0 σ) T := h.2.1.of rfl rfl rfl
  have key : ∀ k : Nat, (sAdv (σ0 σ) k).1 9 = σ.1 9 ∧ (sAdv (σ0 σ) k).2 8 = σ.2 8 ∧ ((sAdv (σ0 σ) k).1 14 = 0 → (sAdv (σ0 σ) k).1 42 = 0) ∧ ((sAdv (σ0 σ) k).1 14 ≤ 2 → ∀ p : Nat, p < 20 → (sAdv (σ0 σ) k).2 22 p = 0) := fun k => by
    induction k with
    | zero => exact ⟨rfl, rfl, h.2.2.1, h.2.2.2.2⟩
    | succ k ih =>
      have e1 := sDay_k (sAdv (σ0 σ) k)
      refine ⟨e1.1.trans ih.1, (sDay_8 _).trans ih.2.1, fun z => ?_, fun z => ?_⟩
      · have e2 := e1.2 z
        exact e2.2.trans (ih.2.2.1 e2.1)
      · have e3 := sDay_22 _ z
        show ∀ p : Nat, p < 20 → (sDay (sAdv (σ0 σ) k)).2 22 p = 0
        rw [e3.2]
        exact ih.2.2.2 e3.1
  obtain ⟨i1, i2, i3⟩ := h0.adv (T := T) (by omega) hN0 n.toNat (by show σ.1 0 + ((n.toNat : Nat) : Int) ≤ 2100; omega)
  exact ⟨i1, i2.mono (by omega), (key _).2.2.1, by rw [(key _).1, (key _).2.1]; exact h.2.2.2.1, (key _).2.2.2⟩
theorem Inv.start : Inv sStart 0 := by
  have p2 : ∀ j, j < 20 → sStart.2 20 j = -1 ∧ sStart.2 22 j = 0 := fun j hj => sClears_p s00 hj
  have q2 : ∀ j, j < 5 → sStart.2 18 j = 0 ∧ sStart.2 21 j = 0 ∧ sStart.2 28 j = 0 ∧ sStart.2 31 j = 0 ∧ sStart.2 32 j = -1 := fun j hj => sClears_s s00 hj
  have z : ∀ k, sStart.1 k = 0 := sStart_1
  have hB : Bd sStart := by
    have b1 : ∀ n, Bd (sCl1 (setI (setI (setI s00 19 0) 26 0) 42 0) n) := fun n => by
      induction n with
      | zero => exact ((bd00.i (by decide)).i (by decide)).i (by decide)
      | succ n ih => exact (ih.a (by show (-1 : Int) ≤ -1 ∧ (-1 : Int) ≤ 4; decide)).a (by show (0 : Int) ≤ 0 ∧ (0 : Int) ≤ 1; decide)
    have b2 : ∀ n, Bd (sCl2 (sCl1 (setI (setI (setI s00 19 0) 26 0) 42 0) 20) n) := fun n => by
      induction n with
      | zero => exact b1 20
      | succ n ih => exact ((((ih.a (by show (0 : Int) ≤ 0 ∧ (0 : Int) ≤ 9999; decide)).a (by show (0 : Int) ≤ 0 ∧ (0 : Int) ≤ 20; decide)).a (by show (0 : Int) ≤ 0 ∧ (0 : Int) ≤ 20; decide)).a (by show (0 : Int) ≤ 0 ∧ (0 : Int) ≤ 8; decide)).a (by show (-1 : Int) ≤ -1 ∧ (-1 : Int) ≤ 39; decide)
    exact b2 5
  refine ⟨⟨hB, ⟨fun j hj => ?_, fun p hp => ?_⟩, by rw [z, z]; decide, fun p hp hn => absurd (p2 p hp).1 hn, fun s hs _ => ⟨(q2 s hs).2.1, (q2 s hs).2.2.1, (q2 s hs).2.2.2.1, (q2 s hs).2.2.2.2⟩, fun i hi => ?_, fun i hi => ?_, fun i j _ hj => ?_, ?_, fun s hs => Or.inl (q2 s hs).2.2.2.2, fun _ => ⟨z _, z _, fun p hp => (p2 p hp).1⟩, ⟨fun y => absurd (z 14) y, fun y => ?_⟩, fun y => ?_, fun y => ?_⟩, ⟨?_, ?_⟩, fun _ => z _, fun p _ => ?_, fun _ p hp => (p2 p hp).2⟩
  · rw [z] at hj; omega
  · rw [z] at hp; omega
  · rw [z] at hi; omega
  · rw [z] at hi; omega
  · rw [z] at hj; omega
  · unfold E7
    rw [sumN_0 5 (fun j hj => (q2 j hj).2.2.1), sumN_0 20 (fun j hj => (p2 j hj).2)]
  · rw [z] at y; omega
  · rw [z] at y; omega
  · rw [z] at y; omega
  · rw [z]; decide
  · rw [z, z]; decide
  · show (sClears s00).2 8 p = 0
    rw [sClears_2 s00 (by decide)]
end INV
