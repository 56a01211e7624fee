set_option maxRecDepth 100000
section LW4
/-- the reference's end of an op that began at σ: as the component's, σ1, but where the seats are worked out -/
def OpEnd (σ1 : MM) (t res : Int) (T : Nat) (r : Int) (σ' : MM) : Prop := (t = 0 → r = res) ∧ σ'.1 43 = t ∧ Inv σ' (T + 1) ∧ (∀ k, k ≠ 37 → k ≠ 38 → k ≠ 43 → σ'.1 k = σ1.1 k) ∧ ∀ k, k ≠ 34 → k ≠ 35 → k ≠ 36 → σ'.2 k = σ1.2 k
theorem OpEnd.of {σ fin σ' : MM} {t res r : Int} {T : Nat} (ht : 0 ≤ t ∧ t ≤ 3) (hI : Inv σ T) (hf : t = 0 → fin.1 43 = 0 ∧ Inv fin (T + 1)) (h : oEnd σ t res fin r σ') : OpEnd (if t = 0 then fin else σ0 σ) t res T r σ' := by
  rcases h with ⟨h1, h2, h3⟩ | ⟨h1, h2, h3⟩
  · rw [if_pos h1]
    subst h3
    exact ⟨fun _ => h2, by rw [(hf h1).1, h1], (hf h1).2, fun k _ _ _ => rfl, fun k _ _ _ => rfl⟩
  · rw [if_neg h1]
    subst h3
    exact ⟨fun z => absurd z h1, (by show (if (43 : Nat) = 43 then t else σ.1 43) = t; rw [if_pos rfl]), hI.fail ht, fun k _ _ hk => by show (if k = 43 then t else σ.1 k) = if k = 43 then 0 else σ.1 k; rw [if_neg hk, if_neg hk], fun k _ _ _ => rfl⟩
theorem OpEnd.ofG {σ σ' : MM} {t res r : Int} {T : Nat} (ht : 0 ≤ t ∧ t ≤ 3) (hI : Inv σ T) (h : oEndG σ t res r σ') : OpEnd (if t = 0 then σ0 σ else σ0 σ) t res T r σ' := by
  rw [ite_self]
  rcases h with ⟨h1, h2, h3, h4⟩ | ⟨h1, h2, h3⟩
  · exact ⟨fun _ => h2, by rw [h1, h3.1 43 (by decide) (by decide)]; rfl, hI.gs h3 h4, fun k h1 h2 _ => h3.1 k h1 h2, fun k h1 h2 h3' => h3.2 k h1 h2 h3'⟩
  · subst h3
    exact ⟨fun z => absurd z h1, (by show (if (43 : Nat) = 43 then t else σ.1 43) = t; rw [if_pos rfl]), hI.fail ht, fun k _ _ hk => by show (if k = 43 then t else σ.1 k) = if k = 43 then 0 else σ.1 k; rw [if_neg hk, if_neg hk], fun k _ _ _ => rfl⟩
theorem Rel.at0 {K : KK} {h : AL2} {o : Nat} {ad : AD} {σ : MM} (R : Rel K h o ad σ) : Rel K h o ad (σ0 σ) := R.gs (fun k _ _ hk => by show (if k = 43 then 0 else σ.1 k) = σ.1 k; rw [if_neg hk]) (fun k _ _ _ => rfl)
theorem Inv.at0 {σ : MM} {T : Nat} (h : Inv σ T) : Inv (σ0 σ) T := ⟨h.1.i43 (by decide), h.2.1.of rfl rfl rfl, h.2.2.1, h.2.2.2⟩
/-- one op, in the component by the law's helper, and in the reference -/
def OPs (zz : Prop) (Γ : GG) (K : KK) (l : Launch) (N0 N1 N3 o mm ou : Nat) (adm : Nat → Nat) (σ : MM) (T : Nat) (y : MethodName) (ws : List Cond) (d mc ms : Nat) (as : List Value) (y2 : MethodName) (ws2 : List Cond) (d2 : Nat) (as2 : List Value) : Prop :=
  ∃ (t res : Int) (fin : MM), (0 ≤ t ∧ t ≤ 3) ∧ (zz → res = 0 ∨ res = 1) ∧ (∀ w, Ct Γ (Af N0) RP l y ws d mc ms as (PL Γ K N0 N1 N3 o mm ou adm (σ0 σ) σ w) (fun v P => ∃ w', v = some (IV t) ∧ (t = 0 → w' = (iI res).toInt) ∧ P = PL Γ K N0 N1 N3 o mm ou adm (if t = 0 then fin else σ0 σ) σ w') X0) ∧
  ∀ σc w, Ct Γ (Af N0) RP l y2 ws2 d2 0 0 as2 (PL Γ K N0 N1 N3 o mm ou adm σc σ w) (fun v P => ∃ (r : Int) (σ' : MM), v = some (IV r) ∧ OpEnd (if t = 0 then fin else σ0 σ) t res T r σ' ∧ P = PL Γ K N0 N1 N3 o mm ou adm σc σ' w) X0
theorem t1_r {a : Prop} [Decidable a] : 0 ≤ t1 a ∧ t1 a ≤ 3 := by unfold t1; (repeat' split) <;> omega
theorem t2_r {a b : Prop} [Decidable a] [Decidable b] : 0 ≤ t2 a b ∧ t2 a b ≤ 3 := by unfold t2; (repeat' split) <;> omega
theorem t3_r {a b c : Prop} [Decidable a] [Decidable b] [Decidable c] : 0 ≤ t3 a b c ∧ t3 a b c ≤ 3 := by unfold t3; (repeat' split) <;> omega
theorem t1_z {a : Prop} [Decidable a] (h : t1 a = 0) : a := by
  unfold t1 at h
  split at h
  · assumption
  · omega
theorem t2_z {a b : Prop} [Decidable a] [Decidable b] (h : t2 a b = 0) : a ∧ b := by
  unfold t2 at h
  split at h
  · split at h
    · exact ⟨by assumption, by assumption⟩
    · omega
  · omega
theorem t3_z {a b c : Prop} [Decidable a] [Decidable b] [Decidable c] (h : t3 a b c = 0) : a ∧ b ∧ c := by
  unfold t3 at h
  split at h
  · split at h
    · split at h
      · exact ⟨by assumption, by assumption, by assumption⟩
      · omega
    · omega
  · omega
theorem sVoids_43 {σ : MM} {p : Int} (h : σ.1 43 = 0) : (sVoids σ p).1 43 = 0 := by rw [sVoids_1 σ p (by decide)]; exact h
theorem sCall_43 {σ : MM} {d m v : Int} (h : σ.1 43 = 0) : (sCall σ d m v).1 43 = 0 := by rw [sCall_1 σ d m v (by decide)]; exact h
theorem sCount_43 {σ : MM} {s c : Int} (h : σ.1 43 = 0) : (sCount σ s c).1 43 = 0 := by
  show (sC4 σ s c).1 43 = 0
  rw [sC4_1]
  exact h
theorem sDay_43 {σ : MM} (h : σ.1 43 = 0) : (sDay σ).1 43 = 0 := by
  unfold sDay
  split
  · unfold sRoll
    rw [(sRollN_fr _ 8 (by decide) _).1]
    exact h
  · split
    · exact h
    · split
      · have e : ∀ (s : MM) (k : Nat), s.1 43 = 0 → (sClN s k).1 43 = 0 := fun s k hs => by
          induction k with
          | zero => exact hs
          | succ k ih => unfold sClN; rw [clStep_1 _ _ _ (by decide)]; exact ih
        exact e _ _ h
      · exact h
theorem sAdv_43 {σ : MM} (h : σ.1 43 = 0) : ∀ n : Nat, (sAdv σ n).1 43 = 0
  | 0 => h
  | n + 1 => sDay_43 (sAdv_43 h n)
theorem sSealed_0 (σ : MM) (p : Int) : ∀ k : Nat, sSealed (σ0 σ) p k = sSealed σ p k
  | 0 => rfl
  | k + 1 => by unfold sSealed; rw [sSealed_0 σ p k]; rfl
theorem sInB_0 (σ : MM) (s q : Int) : ∀ k : Nat, sInB (σ0 σ) s q k = sInB σ s q k
  | 0 => rfl
  | k + 1 => by unfold sInB; rw [sInB_0 σ s q k]; rfl
theorem sMis_0 (σ : MM) (s : Int) : ∀ k : Nat, sMis (σ0 σ) s k = sMis σ s k
  | 0 => rfl
  | k + 1 => by unfold sMis; rw [sMis_0 σ s k, show sBoxed (σ0 σ) s (k : Int) = sBoxed σ s (k : Int) from sInB_0 σ s _ _]; rfl
theorem PL.at0 {Γ : GG} {K : KK} {N0 N1 N3 o mm ou : Nat} {adm : Nat → Nat} {σ σm : MM} {w : Int} {H : Heap} (h : PL Γ K N0 N1 N3 o mm ou adm σ σm w H) : PL Γ K N0 N1 N3 o mm ou adm (σ0 σ) σm w H := by
  obtain ⟨hN, ⟨h, ad, hO, hRel⟩, hM⟩ := h
  exact ⟨hN, ⟨h, ad, hO, hRel.at0⟩, hM⟩
theorem PL.cw {Γ : GG} {K : KK} {N0 N1 N3 o mm ou : Nat} {adm : Nat → Nat} {σ σm : MM} {w : Int} (H : Heap) (h : PL Γ K N0 N1 N3 o mm ou adm σ σm w H) : cW Γ H ou w := by
  obtain ⟨hN, ⟨h, ad, hO, hRel⟩, hM⟩ := h
  exact hO.2
theorem Ct.mapQ {S : Type} {Γ : GG} {A : Nat → Prop} {Rep : S → Heap → Prop} {l : Launch} {y : MethodName} {ws : List Cond} {d mc ms : Nat} {as : List Value} {x : S} {QP QP' : Option Value → S → Prop} {XP : String → S → Prop} (h : Ct Γ A Rep l y ws d mc ms as x QP XP) (hq : ∀ v z, QP v z → QP' v z) : Ct Γ A Rep l y ws d mc ms as x QP' XP :=
  Ct.lift (Rep := Rep) fun s H hK hR => ⟨x, _, _, hR, h, fun v z q H1 hz => ⟨z, hq v z q, hz⟩, fun E z q H1 hz => ⟨z, q, hz⟩⟩
end LW4
