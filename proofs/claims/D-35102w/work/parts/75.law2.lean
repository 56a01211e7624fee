set_option maxRecDepth 100000
section LW2
/-! the law's world: the component at o, the reference at mm, the answer's array at ou, each in its own part of the heap -/
def GE (Γ : GG) (N : Nat) : GG := (Γ.1, Γ.2.1, fun s H => Γ.2.2 s H ∧ N ≤ H.size)
abbrev Af (N0 : Nat) : Nat → Prop := fun q => N0 ≤ q
abbrev ACo (N0 N1 N3 : Nat) : Nat → Prop := fun q => (N0 ≤ q ∧ q < N1) ∨ N3 ≤ q
theorem GE.ec {Γ : GG} {N N0 : Nat} {A : Nat → Prop} (hA : ∀ q, A q → N0 ≤ q) (h : EC Γ.2.2 (Af N0)) : EC (GE Γ N).2.2 A :=
  ⟨fun s U H hw hE => ⟨h.1 s U H hw hE.1, hE.2⟩, fun s H H1 z1 z2 hE => ⟨h.2 s H H1 z1 (fun q h1 h2 => z2 q h1 (fun w => h2 (hA q w))) hE.1, Nat.le_trans hE.2 z1⟩⟩
/-- where things lie -/
def Lie (N0 N1 N3 o mm ou : Nat) (adm : Nat → Nat) : Prop := N0 ≤ N1 ∧ N1 ≤ N3 ∧ (N0 ≤ o ∧ o < N1) ∧ (∀ q, AM mm adm q → N1 ≤ q ∧ q < N3 ∧ q ≠ ou) ∧ N1 ≤ ou ∧ ou < N3
section LIE
variable {N0 N1 N3 o mm ou : Nat} {adm : Nat → Nat}
theorem Lie.h01 (L : Lie N0 N1 N3 o mm ou adm) : N0 ≤ N1 := L.1
theorem Lie.h13 (L : Lie N0 N1 N3 o mm ou adm) : N1 ≤ N3 := L.2.1
theorem Lie.hM (L : Lie N0 N1 N3 o mm ou adm) : ∀ q, AM mm adm q → N1 ≤ q ∧ q < N3 ∧ q ≠ ou := L.2.2.2.1
theorem Lie.hO (L : Lie N0 N1 N3 o mm ou adm) : N1 ≤ ou ∧ ou < N3 := L.2.2.2.2
end LIE
theorem Lie.nou {N0 N1 N3 o mm ou : Nat} {adm : Nat → Nat} (L : Lie N0 N1 N3 o mm ou adm) : ¬ ACo N0 N1 N3 ou := fun h => by have := L.hO; omega
theorem Lie.nam {N0 N1 N3 o mm ou : Nat} {adm : Nat → Nat} (L : Lie N0 N1 N3 o mm ou adm) {q : Nat} (h : AM mm adm q) : ¬ AO (ACo N0 N1 N3) ou q := fun w => by have := L.hM q h; have := L.hO; rcases w with w | w <;> omega
theorem Lie.af {N0 N1 N3 o mm ou : Nat} {adm : Nat → Nat} (L : Lie N0 N1 N3 o mm ou adm) {q : Nat} (h : AO (ACo N0 N1 N3) ou q) : Af N0 q := by
  have := L.hO; have := L.h01; have := L.h13
  show N0 ≤ q
  rcases h with h | h <;> omega
def PL (Γ : GG) (K : KK) (N0 N1 N3 o mm ou : Nat) (adm : Nat → Nat) (σc σm : MM) (w : Int) : Heap → Prop := fun H => N3 ≤ H.size ∧ (∃ (h : AL2) (ad : AD), RepO (GE Γ N3) (ACo N0 N1 N3) K ou (h, w) H ∧ Rel K h o ad σc) ∧ RepM Γ mm adm σm H
section LW2b
variable {Γ : GG} {K : KK} {l : Launch} {N0 N1 N3 o mm ou : Nat} {adm : Nat → Nat} {σc σm : MM} {w : Int}
/-- a helper of the law -/
theorem PL.help (L : Lie N0 N1 N3 o mm ou adm) {y : MethodName} {ws : List Cond} {d mc ms : Nat} {as : List Value} {t res : Int} {fin : MM}
    (hC : ∀ (h : AL2) (ad : AD), Rel K h o ad σc → Ct (GE Γ N3) (AO (ACo N0 N1 N3) ou) (RepO (GE Γ N3) (ACo N0 N1 N3) K ou) l y ws d mc ms as (h, w) (hE t res (fun h' => ∃ ad', Rel K h' o ad' fin) (fun h' => ∃ ad', Rel K h' o ad' σc)) X0) :
    Ct Γ (Af N0) RP l y ws d mc ms as (PL Γ K N0 N1 N3 o mm ou adm σc σm w) (fun v P => ∃ w', v = some (IV t) ∧ (t = 0 → w' = res) ∧ P = PL Γ K N0 N1 N3 o mm ou adm (if t = 0 then fin else σc) σm w') X0 := by
  refine Ct.up (Γ := GE Γ N3) (A := AO (ACo N0 N1 N3) ou) (Rep := RepO (GE Γ N3) (ACo N0 N1 N3) K ou) (fun q hq => L.af hq) fun s H hK hR => ?_
  obtain ⟨hN, ⟨h, ad, hO, hRel⟩, hM⟩ := hR
  refine ⟨⟨hK.1, ⟨hK.2.1, hN⟩, GE.ec (fun q hq => L.af hq) hK.2.2⟩, (h, w), _, _, hO, hC h ad hRel, ?_, fun E z q => q.elim⟩
  rintro v z ⟨r, e, h1, h2, h3⟩ H1 z1 z2 z3
  refine ⟨_, ⟨z.2, by rw [e, h1], fun ht => (h2 ht).1, rfl⟩, Nat.le_trans hN z1, ?_, hM.kept (fun q g1 g2 => z2 q g1 (L.nam g2))⟩
  by_cases ht : t = 0
  · rw [if_pos ht]
    obtain ⟨ad', g⟩ := (h2 ht).2
    exact ⟨z.1, ad', z3, g⟩
  · rw [if_neg ht]
    obtain ⟨ad', g⟩ := h3 ht
    exact ⟨z.1, ad', z3, g⟩
/-- an op of the component that the law calls itself -/
theorem PL.comp (L : Lie N0 N1 N3 o mm ou adm) {y : MethodName} {ws : List Cond} {d mc ms : Nat} {as : List Value} {res : Int}
    (hC : ∀ (h : AL2) (ad : AD), Rel K h o ad σc → Ct (GE Γ N3) (ACo N0 N1 N3) (Rep2 (GE Γ N3) (ACo N0 N1 N3) K) l y ws d mc ms as h (qI (fun r h' => r = res ∧ ∃ ad', Rel K h' o ad' σc)) X0) :
    Ct Γ (Af N0) RP l y ws d mc ms as (PL Γ K N0 N1 N3 o mm ou adm σc σm w) (fun v P => v = some (IV res) ∧ P = PL Γ K N0 N1 N3 o mm ou adm σc σm w) X0 := by
  refine Ct.up (Γ := GE Γ N3) (A := ACo N0 N1 N3) (Rep := Rep2 (GE Γ N3) (ACo N0 N1 N3) K) (fun q hq => L.af (Or.inl hq)) fun s H hK hR => ?_
  obtain ⟨hN, ⟨h, ad, hO, hRel⟩, hM⟩ := hR
  refine ⟨⟨hK.1, ⟨hK.2.1, hN⟩, GE.ec (fun q hq => L.af (Or.inl hq)) hK.2.2⟩, h, _, _, hO.1, hC h ad hRel, ?_, fun E z q => q.elim⟩
  rintro v z ⟨r, e, h1, ad', g⟩ H1 z1 z2 z3
  exact ⟨_, ⟨by rw [e, h1], rfl⟩, Nat.le_trans hN z1, ⟨z, ad', ⟨z3, hO.2.kept (z2 ou hO.2.lt L.nou)⟩, g⟩, hM.kept (fun q g1 g2 => z2 q g1 (fun w => L.nam g2 (Or.inl w)))⟩
/-- an op of the reference -/
theorem PL.ref (L : Lie N0 N1 N3 o mm ou adm) {y : MethodName} {ws : List Cond} {d mc ms : Nat} {as : List Value} {Q : Int → MM → Prop}
    (hC : Ct Γ (AM mm adm) (RepM Γ mm adm) l y ws d mc ms as σm (qI Q) X0) :
    Ct Γ (Af N0) RP l y ws d mc ms as (PL Γ K N0 N1 N3 o mm ou adm σc σm w) (fun v P => ∃ (r : Int) (σ' : MM), v = some (IV r) ∧ Q r σ' ∧ P = PL Γ K N0 N1 N3 o mm ou adm σc σ' w) X0 := by
  have hAf : ∀ q, AM mm adm q → Af N0 q := fun q hq => Nat.le_trans L.h01 (L.hM q hq).1
  refine Ct.up (Γ := Γ) (A := AM mm adm) (Rep := RepM Γ mm adm) hAf fun s H hK hR => ?_
  obtain ⟨hN, ⟨h, ad, hO, hRel⟩, hM⟩ := hR
  refine ⟨⟨hK.1, hK.2.1, EC.less hAf hK.2.2⟩, σm, _, _, hM, hC, ?_, fun E z q => q.elim⟩
  rintro v z ⟨r, e, h1⟩ H1 z1 z2 z3
  have n9 : ∀ q, AO (ACo N0 N1 N3) ou q → ¬ AM mm adm q := fun q a b => L.nam b a
  exact ⟨_, ⟨r, z, e, h1, rfl⟩, Nat.le_trans hN z1, ⟨h, ad, ⟨hO.1.kept (fun q g1 g2 => z2 q g1 (n9 q (Or.inl g2))), hO.2.kept (z2 ou hO.2.lt (n9 ou (Or.inr rfl)))⟩, hRel⟩, z3⟩
theorem PL.rcM {Γ : GG} : RC Γ (Af N0) RP (PL Γ K N0 N1 N3 o mm ou adm σc σm w) mm "BallotFoundryModel" := fun s H hK ⟨_, _, hM⟩ => jw_recv (ci := 1) hK.1 rfl hM.1
theorem PL.rcC {Γ : GG} : RC Γ (Af N0) RP (PL Γ K N0 N1 N3 o mm ou adm σc σm w) o "BallotFoundry" := fun s H hK ⟨_, ⟨h, ad, hO, hRel⟩, _⟩ => by
  obtain ⟨h1, hR, hL⟩ := hO.1
  exact jw_recv (ci := 0) hK.1 rfl (hR o _ (hL o _ hRel.top).1).2
/-- the reference's state is the component's again -/
theorem PL.gs {σ' : MM} (h1 : ∀ k, k ≠ 37 → k ≠ 38 → k ≠ 43 → σ'.1 k = σc.1 k) (h2 : ∀ k, k ≠ 34 → k ≠ 35 → k ≠ 36 → σ'.2 k = σc.2 k) {H : Heap} (h : PL Γ K N0 N1 N3 o mm ou adm σc σ' w H) : PL Γ K N0 N1 N3 o mm ou adm σ' σ' w H := by
  obtain ⟨hN, ⟨h, ad, hO, hRel⟩, hM⟩ := h
  exact ⟨hN, ⟨h, ad, hO, hRel.gs h1 h2⟩, hM⟩
end LW2b
section LW2c
variable {Γ : GG} {A : Nat → Prop} {l : Launch} {own nm : String} {cc : ByteArray} {nL : Nat} {ret : Option FieldType} {hh : List (Nat × Nat × Nat × Nat)} {d mc ms : Nat} {QP : Option Value → (Heap → Prop) → Prop} {XP : String → (Heap → Prop) → Prop} {cl sl : Nat} {P : Heap → Prop} {pc : Nat} {lo : List (Option Value)} {st : List Value}
theorem jp_lald {ou : Nat} {w : Int} (hP : ∀ H, P H → cW Γ H ou w) (hdg : decode cc pc = .ok (.laload, 1)) (kk : J Γ A RP l own nm cc nL ret hh d mc ms QP XP cl sl P (pc + 1) lo (.long (Int64.ofInt w) :: st)) : J Γ A RP l own nm cc nL ret hh d mc ms QP XP cl sl P pc lo (IV 0 :: .ref ou :: st) := by
  intro p e s m args below meth c H locs ls k n F hR hS hl h1 h2
  obtain ⟨f, hf, hw⟩ := hP H hR
  have hc : (1 : Nat) < 2147483648 ∧ H[ou]? = some (vp_cell (Γ.2.1 4) (1, .inr (.inl (fun j => Int64.ofInt (f j))))) := hw
  refine va_lald F.1 F.2.1 F.2.2.2.2.2.2.2.2.1.1 (va_P1 (e := .inl (Γ.2.1 4, 1, .inr (.inl (fun j => Int64.ofInt (f j))))) hc.2) 0 3 rfl rfl (iI_in (by omega) (by omega) hc.1) hdg ?_
  rw [iI_clamp ⟨by omega, by omega⟩]
  have h9 := kk p e s m args below meth c H locs ls k n F hR hS hl h1 h2
  rw [← hf] at h9
  exact h9
end LW2c
end LW2
