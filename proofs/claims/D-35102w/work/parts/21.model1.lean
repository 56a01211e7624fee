set_option maxRecDepth 100000
theorem pn_X2 : plainName RX2 = true := by decide
set_option maxHeartbeats 4000000 in
theorem m_in {S : Type} {Γ : GG} {A : Nat → Prop} {Rep : S → Heap → Prop} {l : Launch} (x : S) (v a b : Int) (hv : RR v) (ha : RR a) (hb : RR b) : Ct Γ A Rep l yX2_in (ws_ yX2_in cX2_in 3 (some .boolean)) 1 0 0 [IV v, IV a, IV b] x (qI (fun (r : Int) (x' : S) => r = bI (a ≤ v ∧ v ≤ b) ∧ x' = x)) X0 := by
  refine Ct.ofJ (own := RX2) (nm := "in") (lo := [some (IV v), some (IV a), some (IV b)]) pn_X2 rfl rfl (List.forall_mem_cons.mpr ⟨rfl, (List.forall_mem_cons.mpr ⟨rfl, (List.forall_mem_cons.mpr ⟨rfl, (fun _ h => nomatch h)⟩)⟩)⟩) (Nat.le_of_ble_eq_true rfl) rfl ?_
  have hQ : ∀ (r : Int) (x' : S), (r = bI (a ≤ v ∧ v ≤ b) ∧ x' = x) → (qI (fun (r : Int) (x' : S) => r = bI (a ≤ v ∧ v ≤ b) ∧ x' = x)) (some (IV r)) x' := fun r x' h => ⟨r, rfl, h⟩
  generalize (qI (fun (r : Int) (x' : S) => r = bI (a ≤ v ∧ v ≤ b) ∧ x' = x)) = QP at hQ ⊢
  refine j_iload_n (pc := 0) dX2_in_0 rfl ?_
  refine j_iload_n (pc := 1) dX2_in_1 rfl ?_
  refine j_icmp_lt (pc := 2) (tgt := 14) dX2_in_2 (by decide) (by omega) (by omega) (fun c_2 => ?_) (fun c_2 => ?_)
  · refine j_iconst (pc := 14) dX2_in_14 rfl ?_
    refine j_zret (pc := 15) rfl (Or.inl rfl) (hQ _ _ ?_) dX2_in_15
    exact ⟨by unfold bI; split <;> omega, rfl⟩
  · refine j_iload_n (pc := 5) dX2_in_5 rfl ?_
    refine j_iload_n (pc := 6) dX2_in_6 rfl ?_
    refine j_icmp_gt (pc := 7) (tgt := 14) dX2_in_7 (by decide) (by omega) (by omega) (fun c_7 => ?_) (fun c_7 => ?_)
    · refine j_iconst (pc := 14) dX2_in_14 rfl ?_
      refine j_zret (pc := 15) rfl (Or.inl rfl) (hQ _ _ ?_) dX2_in_15
      exact ⟨by unfold bI; split <;> omega, rfl⟩
    · refine j_iconst (pc := 10) dX2_in_10 rfl ?_
      refine j_goto (pc := 11) (tgt := 15) dX2_in_11 (by decide) ?_
      refine j_zret (pc := 15) rfl (Or.inr rfl) (hQ _ _ ?_) dX2_in_15
      exact ⟨by unfold bI; split <;> omega, rfl⟩

theorem fp_X2_108_X2 : FP RX2 108 1 43 (.int) false := ⟨RX2, TX2, 44, "BallotFoundryModel", tyX2, rfl, in_X2, by decide, q1431, Or.inl rfl, tyX2_ok, nmX2, rfl, rfl, fun h => nomatch h⟩
set_option maxHeartbeats 4000000 in
theorem m_asked1 {Γ : GG} {l : Launch} {o : Nat} {ad : Nat → Nat} (σ : MM) (b : Int) (hb : b = 0 ∨ b = 1) : Ct Γ (AM o ad) (RepM Γ o ad) l yX2_asked_2 (ws_ yX2_asked_2 cX2_asked_2 2 (some .boolean)) 1 0 0 [.ref o, IV b] σ (qI (fun (r : Int) (σ' : MM) => (b = 1 ∧ r = 1 ∧ σ' = setI σ 43 0) ∨ (b = 0 ∧ r = 0 ∧ σ' = setI σ 43 1))) X0 := by
  refine Ct.ofJ (own := RX2) (nm := "asked") (lo := [some (.ref o), some (IV b)]) pn_X2 rfl rfl (List.forall_mem_cons.mpr ⟨rfl, (List.forall_mem_cons.mpr ⟨rfl, (fun _ h => nomatch h)⟩)⟩) (Nat.le_of_ble_eq_true rfl) rfl ?_
  have hQ : ∀ (r : Int) (σ' : MM), ((b = 1 ∧ r = 1 ∧ σ' = setI σ 43 0) ∨ (b = 0 ∧ r = 0 ∧ σ' = setI σ 43 1)) → (qI (fun (r : Int) (σ' : MM) => (b = 1 ∧ r = 1 ∧ σ' = setI σ 43 0) ∨ (b = 0 ∧ r = 0 ∧ σ' = setI σ 43 1))) (some (IV r)) σ' := fun r σ' h => ⟨r, rfl, h⟩
  generalize (qI (fun (r : Int) (σ' : MM) => (b = 1 ∧ r = 1 ∧ σ' = setI σ 43 0) ∨ (b = 0 ∧ r = 0 ∧ σ' = setI σ 43 1))) = QP at hQ ⊢
  refine j_aload_n (pc := 0) dX2_asked_2_0 rfl ?_
  refine j_iload_n (pc := 1) dX2_asked_2_1 rfl ?_
  refine j_if_eq (pc := 2) (tgt := 9) dX2_asked_2_2 (by decide) (by omega) (fun c_2 => ?_) (fun c_2 => ?_)
  · refine j_iconst (pc := 9) dX2_asked_2_9 rfl ?_
    refine m_putI (pc := 10) fp_X2_108_X2 (by decide) rfl dX2_asked_2_10 ?_
    refine j_iload_n (pc := 13) dX2_asked_2_13 rfl ?_
    refine j_zret (pc := 14) rfl (by omega) (hQ _ _ ?_) dX2_asked_2_14
    first | exact Or.inl ⟨by omega, by omega, rfl⟩ | exact Or.inr ⟨by omega, by omega, rfl⟩
  · refine j_iconst (pc := 5) dX2_asked_2_5 rfl ?_
    refine j_goto (pc := 6) (tgt := 10) dX2_asked_2_6 (by decide) ?_
    refine m_putI (pc := 10) fp_X2_108_X2 (by decide) rfl dX2_asked_2_10 ?_
    refine j_iload_n (pc := 13) dX2_asked_2_13 rfl ?_
    refine j_zret (pc := 14) rfl (by omega) (hQ _ _ ?_) dX2_asked_2_14
    first | exact Or.inl ⟨by omega, by omega, rfl⟩ | exact Or.inr ⟨by omega, by omega, rfl⟩

theorem fa_X2_108_X2 : FA RX2 108 1 43 := ⟨RX2, TX2, 44, "BallotFoundryModel", rfl, in_X2, by decide, q1431, Or.inl rfl⟩
set_option maxHeartbeats 4000000 in
theorem m_asked2 {Γ : GG} {l : Launch} {o : Nat} {ad : Nat → Nat} (σ : MM) (a b : Int) (ha : a = 0 ∨ a = 1) (hb : b = 0 ∨ b = 1) : Ct Γ (AM o ad) (RepM Γ o ad) l yX2_asked (ws_ yX2_asked cX2_asked 3 (some .boolean)) 1 0 0 [.ref o, IV a, IV b] σ (qI (fun (r : Int) (σ' : MM) => ((a = 1 ∧ b = 1) ∧ r = 1 ∧ σ' = setI σ 43 0) ∨ (¬ (a = 1 ∧ b = 1) ∧ r = 0 ∧ σ' = setI σ 43 (if a = 0 then 1 else 2)))) X0 := by
  refine Ct.ofJ (own := RX2) (nm := "asked") (lo := [some (.ref o), some (IV a), some (IV b)]) pn_X2 rfl rfl (List.forall_mem_cons.mpr ⟨rfl, (List.forall_mem_cons.mpr ⟨rfl, (List.forall_mem_cons.mpr ⟨rfl, (fun _ h => nomatch h)⟩)⟩)⟩) (Nat.le_of_ble_eq_true rfl) rfl ?_
  have hQ : ∀ (r : Int) (σ' : MM), (((a = 1 ∧ b = 1) ∧ r = 1 ∧ σ' = setI σ 43 0) ∨ (¬ (a = 1 ∧ b = 1) ∧ r = 0 ∧ σ' = setI σ 43 (if a = 0 then 1 else 2))) → (qI (fun (r : Int) (σ' : MM) => ((a = 1 ∧ b = 1) ∧ r = 1 ∧ σ' = setI σ 43 0) ∨ (¬ (a = 1 ∧ b = 1) ∧ r = 0 ∧ σ' = setI σ 43 (if a = 0 then 1 else 2)))) (some (IV r)) σ' := fun r σ' h => ⟨r, rfl, h⟩
  generalize (qI (fun (r : Int) (σ' : MM) => ((a = 1 ∧ b = 1) ∧ r = 1 ∧ σ' = setI σ 43 0) ∨ (¬ (a = 1 ∧ b = 1) ∧ r = 0 ∧ σ' = setI σ 43 (if a = 0 then 1 else 2)))) = QP at hQ ⊢
  refine j_aload_n (pc := 0) dX2_asked_0 rfl ?_
  refine j_iload_n (pc := 1) dX2_asked_1 rfl ?_
  refine j_if_ne (pc := 2) (tgt := 9) dX2_asked_2 (by decide) (by omega) (fun c_2 => ?_) (fun c_2 => ?_)
  · refine j_iload_n (pc := 9) dX2_asked_9 rfl ?_
    refine j_if_eq (pc := 10) (tgt := 17) dX2_asked_10 (by decide) (by omega) (fun c_10 => ?_) (fun c_10 => ?_)
    · refine j_iconst (pc := 17) dX2_asked_17 rfl ?_
      refine m_putI (pc := 18) fp_X2_108_X2 (by decide) rfl dX2_asked_18 ?_
      refine j_aload_n (pc := 21) dX2_asked_21 rfl ?_
      refine m_getI (pc := 22) (v := 2) fa_X2_108_X2 (by decide) rfl rfl dX2_asked_22 ?_
      refine j_if_ne (pc := 25) (tgt := 32) dX2_asked_25 (by decide) (by decide) (fun c_25 => ?_) (fun c_25 => ?_)
      · refine j_iconst (pc := 32) dX2_asked_32 rfl ?_
        refine j_zret (pc := 33) rfl (Or.inl rfl) (hQ _ _ ?_) dX2_asked_33
        first | exact Or.inl ⟨by omega, rfl, rfl⟩ | exact Or.inr ⟨by omega, rfl, by congr 1; split <;> omega⟩
      · exact absurd c_25 (by decide)
    · refine j_iconst (pc := 13) dX2_asked_13 rfl ?_
      refine j_goto (pc := 14) (tgt := 18) dX2_asked_14 (by decide) ?_
      refine m_putI (pc := 18) fp_X2_108_X2 (by decide) rfl dX2_asked_18 ?_
      refine j_aload_n (pc := 21) dX2_asked_21 rfl ?_
      refine m_getI (pc := 22) (v := 0) fa_X2_108_X2 (by decide) rfl rfl dX2_asked_22 ?_
      refine j_if_ne (pc := 25) (tgt := 32) dX2_asked_25 (by decide) (by decide) (fun c_25_1 => ?_) (fun c_25_1 => ?_)
      · exact absurd c_25_1 (by decide)
      · refine j_iconst (pc := 28) dX2_asked_28 rfl ?_
        refine j_goto (pc := 29) (tgt := 33) dX2_asked_29 (by decide) ?_
        refine j_zret (pc := 33) rfl (Or.inr rfl) (hQ _ _ ?_) dX2_asked_33
        first | exact Or.inl ⟨by omega, rfl, rfl⟩ | exact Or.inr ⟨by omega, rfl, by congr 1; split <;> omega⟩
  · refine j_iconst (pc := 5) dX2_asked_5 rfl ?_
    refine j_goto (pc := 6) (tgt := 18) dX2_asked_6 (by decide) ?_
    refine m_putI (pc := 18) fp_X2_108_X2 (by decide) rfl dX2_asked_18 ?_
    refine j_aload_n (pc := 21) dX2_asked_21 rfl ?_
    refine m_getI (pc := 22) (v := 1) fa_X2_108_X2 (by decide) rfl rfl dX2_asked_22 ?_
    refine j_if_ne (pc := 25) (tgt := 32) dX2_asked_25 (by decide) (by decide) (fun c_25_1 => ?_) (fun c_25_1 => ?_)
    · refine j_iconst (pc := 32) dX2_asked_32 rfl ?_
      refine j_zret (pc := 33) rfl (Or.inl rfl) (hQ _ _ ?_) dX2_asked_33
      first | exact Or.inl ⟨by omega, rfl, rfl⟩ | exact Or.inr ⟨by omega, rfl, by congr 1; split <;> omega⟩
    · exact absurd c_25_1 (by decide)

set_option maxHeartbeats 4000000 in
theorem m_asked3 {Γ : GG} {l : Launch} {o : Nat} {ad : Nat → Nat} (σ : MM) (a b c : Int) (ha : a = 0 ∨ a = 1) (hb : b = 0 ∨ b = 1) (hc : c = 0 ∨ c = 1) : Ct Γ (AM o ad) (RepM Γ o ad) l yX2_asked_3 (ws_ yX2_asked_3 cX2_asked_3 4 (some .boolean)) 1 0 0 [.ref o, IV a, IV b, IV c] σ (qI (fun (r : Int) (σ' : MM) => ((a = 1 ∧ b = 1 ∧ c = 1) ∧ r = 1 ∧ σ' = setI σ 43 0) ∨ (¬ (a = 1 ∧ b = 1 ∧ c = 1) ∧ r = 0 ∧ σ' = setI σ 43 (if a = 0 then 1 else if b = 0 then 2 else 3)))) X0 := by
  refine Ct.ofJ (own := RX2) (nm := "asked") (lo := [some (.ref o), some (IV a), some (IV b), some (IV c)]) pn_X2 rfl rfl (List.forall_mem_cons.mpr ⟨rfl, (List.forall_mem_cons.mpr ⟨rfl, (List.forall_mem_cons.mpr ⟨rfl, (List.forall_mem_cons.mpr ⟨rfl, (fun _ h => nomatch h)⟩)⟩)⟩)⟩) (Nat.le_of_ble_eq_true rfl) rfl ?_
  have hQ : ∀ (r : Int) (σ' : MM), (((a = 1 ∧ b = 1 ∧ c = 1) ∧ r = 1 ∧ σ' = setI σ 43 0) ∨ (¬ (a = 1 ∧ b = 1 ∧ c = 1) ∧ r = 0 ∧ σ' = setI σ 43 (if a = 0 then 1 else if b = 0 then 2 else 3))) → (qI (fun (r : Int) (σ' : MM) => ((a = 1 ∧ b = 1 ∧ c = 1) ∧ r = 1 ∧ σ' = setI σ 43 0) ∨ (¬ (a = 1 ∧ b = 1 ∧ c = 1) ∧ r = 0 ∧ σ' = setI σ 43 (if a = 0 then 1 else if b = 0 then 2 else 3)))) (some (IV r)) σ' := fun r σ' h => ⟨r, rfl, h⟩
  generalize (qI (fun (r : Int) (σ' : MM) => ((a = 1 ∧ b = 1 ∧ c = 1) ∧ r = 1 ∧ σ' = setI σ 43 0) ∨ (¬ (a = 1 ∧ b = 1 ∧ c = 1) ∧ r = 0 ∧ σ' = setI σ 43 (if a = 0 then 1 else if b = 0 then 2 else 3)))) = QP at hQ ⊢
  refine j_aload_n (pc := 0) dX2_asked_3_0 rfl ?_
  refine j_iload_n (pc := 1) dX2_asked_3_1 rfl ?_
  refine j_if_ne (pc := 2) (tgt := 9) dX2_asked_3_2 (by decide) (by omega) (fun c_2 => ?_) (fun c_2 => ?_)
  · refine j_iload_n (pc := 9) dX2_asked_3_9 rfl ?_
    refine j_if_ne (pc := 10) (tgt := 17) dX2_asked_3_10 (by decide) (by omega) (fun c_10 => ?_) (fun c_10 => ?_)
    · refine j_iload_n (pc := 17) dX2_asked_3_17 rfl ?_
      refine j_if_eq (pc := 18) (tgt := 25) dX2_asked_3_18 (by decide) (by omega) (fun c_18 => ?_) (fun c_18 => ?_)
      · refine j_iconst (pc := 25) dX2_asked_3_25 rfl ?_
        refine m_putI (pc := 26) fp_X2_108_X2 (by decide) rfl dX2_asked_3_26 ?_
        refine j_aload_n (pc := 29) dX2_asked_3_29 rfl ?_
        refine m_getI (pc := 30) (v := 3) fa_X2_108_X2 (by decide) rfl rfl dX2_asked_3_30 ?_
        refine j_if_ne (pc := 33) (tgt := 40) dX2_asked_3_33 (by decide) (by decide) (fun c_33 => ?_) (fun c_33 => ?_)
        · refine j_iconst (pc := 40) dX2_asked_3_40 rfl ?_
          refine j_zret (pc := 41) rfl (Or.inl rfl) (hQ _ _ ?_) dX2_asked_3_41
          first | exact Or.inl ⟨by omega, rfl, rfl⟩ | exact Or.inr ⟨by omega, rfl, by congr 1; (repeat' split) <;> omega⟩
        · exact absurd c_33 (by decide)
      · refine j_iconst (pc := 21) dX2_asked_3_21 rfl ?_
        refine j_goto (pc := 22) (tgt := 26) dX2_asked_3_22 (by decide) ?_
        refine m_putI (pc := 26) fp_X2_108_X2 (by decide) rfl dX2_asked_3_26 ?_
        refine j_aload_n (pc := 29) dX2_asked_3_29 rfl ?_
        refine m_getI (pc := 30) (v := 0) fa_X2_108_X2 (by decide) rfl rfl dX2_asked_3_30 ?_
        refine j_if_ne (pc := 33) (tgt := 40) dX2_asked_3_33 (by decide) (by decide) (fun c_33_1 => ?_) (fun c_33_1 => ?_)
        · exact absurd c_33_1 (by decide)
        · refine j_iconst (pc := 36) dX2_asked_3_36 rfl ?_
          refine j_goto (pc := 37) (tgt := 41) dX2_asked_3_37 (by decide) ?_
          refine j_zret (pc := 41) rfl (Or.inr rfl) (hQ _ _ ?_) dX2_asked_3_41
          first | exact Or.inl ⟨by omega, rfl, rfl⟩ | exact Or.inr ⟨by omega, rfl, by congr 1; (repeat' split) <;> omega⟩
    · refine j_iconst (pc := 13) dX2_asked_3_13 rfl ?_
      refine j_goto (pc := 14) (tgt := 26) dX2_asked_3_14 (by decide) ?_
      refine m_putI (pc := 26) fp_X2_108_X2 (by decide) rfl dX2_asked_3_26 ?_
      refine j_aload_n (pc := 29) dX2_asked_3_29 rfl ?_
      refine m_getI (pc := 30) (v := 2) fa_X2_108_X2 (by decide) rfl rfl dX2_asked_3_30 ?_
      refine j_if_ne (pc := 33) (tgt := 40) dX2_asked_3_33 (by decide) (by decide) (fun c_33_1 => ?_) (fun c_33_1 => ?_)
      · refine j_iconst (pc := 40) dX2_asked_3_40 rfl ?_
        refine j_zret (pc := 41) rfl (Or.inl rfl) (hQ _ _ ?_) dX2_asked_3_41
        first | exact Or.inl ⟨by omega, rfl, rfl⟩ | exact Or.inr ⟨by omega, rfl, by congr 1; (repeat' split) <;> omega⟩
      · exact absurd c_33_1 (by decide)
  · refine j_iconst (pc := 5) dX2_asked_3_5 rfl ?_
    refine j_goto (pc := 6) (tgt := 26) dX2_asked_3_6 (by decide) ?_
    refine m_putI (pc := 26) fp_X2_108_X2 (by decide) rfl dX2_asked_3_26 ?_
    refine j_aload_n (pc := 29) dX2_asked_3_29 rfl ?_
    refine m_getI (pc := 30) (v := 1) fa_X2_108_X2 (by decide) rfl rfl dX2_asked_3_30 ?_
    refine j_if_ne (pc := 33) (tgt := 40) dX2_asked_3_33 (by decide) (by decide) (fun c_33_1 => ?_) (fun c_33_1 => ?_)
    · refine j_iconst (pc := 40) dX2_asked_3_40 rfl ?_
      refine j_zret (pc := 41) rfl (Or.inl rfl) (hQ _ _ ?_) dX2_asked_3_41
      first | exact Or.inl ⟨by omega, rfl, rfl⟩ | exact Or.inr ⟨by omega, rfl, by congr 1; (repeat' split) <;> omega⟩
    · exact absurd c_33_1 (by decide)

set_option maxHeartbeats 4000000 in
theorem m_told {Γ : GG} {l : Launch} {o : Nat} {ad : Nat → Nat} (σ : MM) (v : Int) : Ct Γ (AM o ad) (RepM Γ o ad) l yX2_told (ws_ yX2_told cX2_told 2 (some .int)) 1 0 0 [.ref o, IV v] σ (qI (fun (r : Int) (σ' : MM) => r = v ∧ σ' = setI σ 43 0)) X0 := by
  refine Ct.ofJ (own := RX2) (nm := "told") (lo := [some (.ref o), some (IV v)]) pn_X2 rfl rfl (List.forall_mem_cons.mpr ⟨rfl, (List.forall_mem_cons.mpr ⟨rfl, (fun _ h => nomatch h)⟩)⟩) (Nat.le_of_ble_eq_true rfl) rfl ?_
  have hQ : ∀ (r : Int) (σ' : MM), (r = v ∧ σ' = setI σ 43 0) → (qI (fun (r : Int) (σ' : MM) => r = v ∧ σ' = setI σ 43 0)) (some (IV r)) σ' := fun r σ' h => ⟨r, rfl, h⟩
  generalize (qI (fun (r : Int) (σ' : MM) => r = v ∧ σ' = setI σ 43 0)) = QP at hQ ⊢
  refine j_aload_n (pc := 0) dX2_told_0 rfl ?_
  refine j_iconst (pc := 1) dX2_told_1 rfl ?_
  refine m_putI (pc := 2) fp_X2_108_X2 (by decide) rfl dX2_told_2 ?_
  refine j_iload_n (pc := 5) dX2_told_5 rfl ?_
  refine j_iret (pc := 6) rfl (hQ _ _ ?_) dX2_told_6
  exact ⟨rfl, rfl⟩

theorem md_yX2_in : MD yX2_in 3 := by decide +kernel
set_option maxHeartbeats 4000000 in
theorem m_isCrossing {S : Type} {Γ : GG} {A : Nat → Prop} {Rep : S → Heap → Prop} {l : Launch} (x : S) (v : Int) (hv : RR v) : Ct Γ A Rep l yX2_isCrossing (ws_ yX2_isCrossing cX2_isCrossing 1 (some .boolean)) 2 0 0 [IV v] x (qI (fun (r : Int) (x' : S) => r = bI (0 ≤ v ∧ v ≤ 35) ∧ x' = x)) X0 := by
  refine Ct.ofJ (own := RX2) (nm := "isCrossing") (lo := [some (IV v)]) pn_X2 rfl rfl (List.forall_mem_cons.mpr ⟨rfl, (fun _ h => nomatch h)⟩) (Nat.le_of_ble_eq_true rfl) rfl ?_
  have hQ : ∀ (r : Int) (x' : S), (r = bI (0 ≤ v ∧ v ≤ 35) ∧ x' = x) → (qI (fun (r : Int) (x' : S) => r = bI (0 ≤ v ∧ v ≤ 35) ∧ x' = x)) (some (IV r)) x' := fun r x' h => ⟨r, rfl, h⟩
  generalize (qI (fun (r : Int) (x' : S) => r = bI (0 ≤ v ∧ v ≤ 35) ∧ x' = x)) = QP at hQ ⊢
  refine j_iload_n (pc := 0) dX2_isCrossing_0 rfl ?_
  refine j_iconst (pc := 1) dX2_isCrossing_1 rfl ?_
  refine j_bipush (pc := 2) (a := 35) dX2_isCrossing_2 (by decide) ?_
  refine j_callS (pc := 4) (m_in x v 0 35 (by omega) (by decide) (by decide)) (lw_S q1532 q1533 q48 q1534) md_yX2_in (by decide) (by decide) rfl (Nat.le_of_ble_eq_true rfl) dX2_isCrossing_4 (qI.k (fun r_4 s_4 q_4 => ?_))
  obtain ⟨e1q_4, e2q_4⟩ := q_4
  subst r_4
  subst s_4
  refine j_zret (pc := 7) rfl (bI_01 _) (hQ _ _ ?_) dX2_isCrossing_7
  exact ⟨rfl, rfl⟩

theorem fa_X2_115_X2 : FA RX2 115 1 6 := ⟨RX2, TX2, 44, "BallotFoundryModel", rfl, in_X2, by decide, q1394, Or.inl rfl⟩
set_option maxHeartbeats 4000000 in
theorem m_isStation {Γ : GG} {l : Launch} {o : Nat} {ad : Nat → Nat} (σ : MM) (v : Int) (hv : RR v) (hs : 0 ≤ σ.1 6 ∧ σ.1 6 ≤ 5) : Ct Γ (AM o ad) (RepM Γ o ad) l yX2_isStation (ws_ yX2_isStation cX2_isStation 2 (some .boolean)) 2 0 0 [.ref o, IV v] σ (qI (fun (r : Int) (σ' : MM) => r = bI (0 ≤ v ∧ v ≤ σ.1 6 - 1) ∧ σ' = σ)) X0 := by
  refine Ct.ofJ (own := RX2) (nm := "isStation") (lo := [some (.ref o), some (IV v)]) pn_X2 rfl rfl (List.forall_mem_cons.mpr ⟨rfl, (List.forall_mem_cons.mpr ⟨rfl, (fun _ h => nomatch h)⟩)⟩) (Nat.le_of_ble_eq_true rfl) rfl ?_
  have hQ : ∀ (r : Int) (σ' : MM), (r = bI (0 ≤ v ∧ v ≤ σ.1 6 - 1) ∧ σ' = σ) → (qI (fun (r : Int) (σ' : MM) => r = bI (0 ≤ v ∧ v ≤ σ.1 6 - 1) ∧ σ' = σ)) (some (IV r)) σ' := fun r σ' h => ⟨r, rfl, h⟩
  generalize (qI (fun (r : Int) (σ' : MM) => r = bI (0 ≤ v ∧ v ≤ σ.1 6 - 1) ∧ σ' = σ)) = QP at hQ ⊢
  refine j_iload_n (pc := 0) dX2_isStation_0 rfl ?_
  refine j_iconst (pc := 1) dX2_isStation_1 rfl ?_
  refine j_aload_n (pc := 2) dX2_isStation_2 rfl ?_
  refine m_getI (pc := 3) (v := σ.1 6) fa_X2_115_X2 (by decide) rfl rfl dX2_isStation_3 ?_
  refine j_iconst (pc := 6) dX2_isStation_6 rfl ?_
  refine j_isub (pc := 7) dX2_isStation_7 ?_
  refine j_callS (pc := 8) (m_in σ v 0 ((σ.1 6) - 1) (by omega) (by decide) (by omega)) (lw_S q1532 q1533 q48 q1534) md_yX2_in (by decide) (by decide) rfl (Nat.le_of_ble_eq_true rfl) dX2_isStation_8 (qI.k (fun r_8 s_8 q_8 => ?_))
  obtain ⟨e1q_8, e2q_8⟩ := q_8
  subst r_8
  subst s_8
  refine j_zret (pc := 11) rfl (bI_01 _) (hQ _ _ ?_) dX2_isStation_11
  exact ⟨rfl, rfl⟩

theorem fa_X2_118_X2 : FA RX2 118 1 9 := ⟨RX2, TX2, 44, "BallotFoundryModel", rfl, in_X2, by decide, q1397, Or.inl rfl⟩
set_option maxHeartbeats 4000000 in
theorem m_isPerson {Γ : GG} {l : Launch} {o : Nat} {ad : Nat → Nat} (σ : MM) (v : Int) (hv : RR v) (hs : 0 ≤ σ.1 9 ∧ σ.1 9 ≤ 20) : Ct Γ (AM o ad) (RepM Γ o ad) l yX2_isPerson (ws_ yX2_isPerson cX2_isPerson 2 (some .boolean)) 2 0 0 [.ref o, IV v] σ (qI (fun (r : Int) (σ' : MM) => r = bI (0 ≤ v ∧ v ≤ σ.1 9 - 1) ∧ σ' = σ)) X0 := by
  refine Ct.ofJ (own := RX2) (nm := "isPerson") (lo := [some (.ref o), some (IV v)]) pn_X2 rfl rfl (List.forall_mem_cons.mpr ⟨rfl, (List.forall_mem_cons.mpr ⟨rfl, (fun _ h => nomatch h)⟩)⟩) (Nat.le_of_ble_eq_true rfl) rfl ?_
  have hQ : ∀ (r : Int) (σ' : MM), (r = bI (0 ≤ v ∧ v ≤ σ.1 9 - 1) ∧ σ' = σ) → (qI (fun (r : Int) (σ' : MM) => r = bI (0 ≤ v ∧ v ≤ σ.1 9 - 1) ∧ σ' = σ)) (some (IV r)) σ' := fun r σ' h => ⟨r, rfl, h⟩
  generalize (qI (fun (r : Int) (σ' : MM) => r = bI (0 ≤ v ∧ v ≤ σ.1 9 - 1) ∧ σ' = σ)) = QP at hQ ⊢
  refine j_iload_n (pc := 0) dX2_isPerson_0 rfl ?_
  refine j_iconst (pc := 1) dX2_isPerson_1 rfl ?_
  refine j_aload_n (pc := 2) dX2_isPerson_2 rfl ?_
  refine m_getI (pc := 3) (v := σ.1 9) fa_X2_118_X2 (by decide) rfl rfl dX2_isPerson_3 ?_
  refine j_iconst (pc := 6) dX2_isPerson_6 rfl ?_
  refine j_isub (pc := 7) dX2_isPerson_7 ?_
  refine j_callS (pc := 8) (m_in σ v 0 ((σ.1 9) - 1) (by omega) (by decide) (by omega)) (lw_S q1532 q1533 q48 q1534) md_yX2_in (by decide) (by decide) rfl (Nat.le_of_ble_eq_true rfl) dX2_isPerson_8 (qI.k (fun r_8 s_8 q_8 => ?_))
  obtain ⟨e1q_8, e2q_8⟩ := q_8
  subst r_8
  subst s_8
  refine j_zret (pc := 11) rfl (bI_01 _) (hQ _ _ ?_) dX2_isPerson_11
  exact ⟨rfl, rfl⟩

set_option maxHeartbeats 4000000 in
theorem m_street {S : Type} {Γ : GG} {A : Nat → Prop} {Rep : S → Heap → Prop} {l : Launch} (x : S) (a b : Int) (ha : 0 ≤ a ∧ a ≤ 35) (hb : 0 ≤ b ∧ b ≤ 35) : Ct Γ A Rep l yX2_street (ws_ yX2_street cX2_street 4 (some .int)) 1 0 0 [IV a, IV b] x (qI (fun (r : Int) (x' : S) => r = sStreet a b ∧ x' = x)) X0 := by
  refine Ct.ofJ (own := RX2) (nm := "street") (lo := [some (IV a), some (IV b), none, none]) pn_X2 rfl rfl (List.forall_mem_cons.mpr ⟨rfl, (List.forall_mem_cons.mpr ⟨rfl, (fun _ h => nomatch h)⟩)⟩) (Nat.le_of_ble_eq_true rfl) rfl ?_
  have hQ : ∀ (r : Int) (x' : S), (r = sStreet a b ∧ x' = x) → (qI (fun (r : Int) (x' : S) => r = sStreet a b ∧ x' = x)) (some (IV r)) x' := fun r x' h => ⟨r, rfl, h⟩
  generalize (qI (fun (r : Int) (x' : S) => r = sStreet a b ∧ x' = x)) = QP at hQ ⊢
  refine j_iload_n (pc := 0) dX2_street_0 rfl ?_
  refine j_iload_n (pc := 1) dX2_street_1 rfl ?_
  refine j_icmp_ge (pc := 2) (tgt := 9) dX2_street_2 (by decide) (by omega) (by omega) (fun c_2 => ?_) (fun c_2 => ?_)
  · refine j_iload_n (pc := 9) dX2_street_9 rfl ?_
    refine j_istore_n (pc := 10) dX2_street_10 (by decide) (lo' := [some (IV a), some (IV b), some (IV b), none]) rfl ?_
    refine j_iload_n (pc := 11) dX2_street_11 rfl ?_
    refine j_iload_n (pc := 12) dX2_street_12 rfl ?_
    refine j_icmp_ge (pc := 13) (tgt := 20) dX2_street_13 (by decide) (by omega) (by omega) (fun c_13 => ?_) (fun c_13 => ?_)
    · refine j_iload_n (pc := 20) dX2_street_20 rfl ?_
      refine j_istore_n (pc := 21) dX2_street_21 (by decide) (lo' := [some (IV a), some (IV b), some (IV b), some (IV a)]) rfl ?_
      refine j_iload_n (pc := 22) dX2_street_22 rfl ?_
      refine j_iload_n (pc := 23) dX2_street_23 rfl ?_
      refine j_isub (pc := 24) dX2_street_24 ?_
      refine j_iconst (pc := 25) dX2_street_25 rfl ?_
      refine j_icmp_ne (pc := 26) (tgt := 40) dX2_street_26 (by decide) (by omega) (by decide) (fun c_26 => ?_) (fun c_26 => ?_)
      · refine j_iload_n (pc := 40) dX2_street_40 rfl ?_
        refine j_iload_n (pc := 41) dX2_street_41 rfl ?_
        refine j_isub (pc := 42) dX2_street_42 ?_
        refine j_bipush (pc := 43) (a := 6) dX2_street_43 (by decide) ?_
        refine j_icmp_ne (pc := 45) (tgt := 55) dX2_street_45 (by decide) (by omega) (by decide) (fun c_45 => ?_) (fun c_45 => ?_)
        · refine j_iconst (pc := 55) dX2_street_55 rfl ?_
          refine j_iret (pc := 56) rfl (hQ _ _ ?_) dX2_street_56
          exact ⟨by unfold sStreet; split; omega; split <;> omega, rfl⟩
        · refine j_bipush (pc := 48) (a := 36) dX2_street_48 (by decide) ?_
          refine j_iload_n (pc := 50) dX2_street_50 rfl ?_
          refine j_iadd (pc := 51) dX2_street_51 ?_
          refine j_goto (pc := 52) (tgt := 56) dX2_street_52 (by decide) ?_
          refine j_iret (pc := 56) rfl (hQ _ _ ?_) dX2_street_56
          exact ⟨by unfold sStreet; split; omega; split <;> omega, rfl⟩
      · refine j_iload_n (pc := 29) dX2_street_29 rfl ?_
        refine j_bipush (pc := 30) (a := 6) dX2_street_30 (by decide) ?_
        refine j_irem (pc := 32) dX2_street_32 (by omega) (by omega) ?_
        refine j_if_le (pc := 33) (tgt := 40) dX2_street_33 (by decide) (by omega) (fun c_33 => ?_) (fun c_33 => ?_)
        · refine j_iload_n (pc := 40) dX2_street_40 rfl ?_
          refine j_iload_n (pc := 41) dX2_street_41 rfl ?_
          refine j_isub (pc := 42) dX2_street_42 ?_
          refine j_bipush (pc := 43) (a := 6) dX2_street_43 (by decide) ?_
          refine j_icmp_ne (pc := 45) (tgt := 55) dX2_street_45 (by decide) (by omega) (by decide) (fun c_45_1 => ?_) (fun c_45_1 => ?_)
          · refine j_iconst (pc := 55) dX2_street_55 rfl ?_
            refine j_iret (pc := 56) rfl (hQ _ _ ?_) dX2_street_56
            exact ⟨by unfold sStreet; split; omega; split <;> omega, rfl⟩
          · refine j_bipush (pc := 48) (a := 36) dX2_street_48 (by decide) ?_
            refine j_iload_n (pc := 50) dX2_street_50 rfl ?_
            refine j_iadd (pc := 51) dX2_street_51 ?_
            refine j_goto (pc := 52) (tgt := 56) dX2_street_52 (by decide) ?_
            refine j_iret (pc := 56) rfl (hQ _ _ ?_) dX2_street_56
            exact ⟨by unfold sStreet; split; omega; split <;> omega, rfl⟩
        · refine j_iload_n (pc := 36) dX2_street_36 rfl ?_
          refine j_goto (pc := 37) (tgt := 56) dX2_street_37 (by decide) ?_
          refine j_iret (pc := 56) rfl (hQ _ _ ?_) dX2_street_56
          exact ⟨by unfold sStreet; split; omega; split <;> omega, rfl⟩
    · refine j_iload_n (pc := 16) dX2_street_16 rfl ?_
      refine j_goto (pc := 17) (tgt := 21) dX2_street_17 (by decide) ?_
      refine j_istore_n (pc := 21) dX2_street_21 (by decide) (lo' := [some (IV a), some (IV b), some (IV b), some (IV b)]) rfl ?_
      refine j_iload_n (pc := 22) dX2_street_22 rfl ?_
      refine j_iload_n (pc := 23) dX2_street_23 rfl ?_
      refine j_isub (pc := 24) dX2_street_24 ?_
      refine j_iconst (pc := 25) dX2_street_25 rfl ?_
      refine j_icmp_ne (pc := 26) (tgt := 40) dX2_street_26 (by decide) (by omega) (by decide) (fun c_26_1 => ?_) (fun c_26_1 => ?_)
      · refine j_iload_n (pc := 40) dX2_street_40 rfl ?_
        refine j_iload_n (pc := 41) dX2_street_41 rfl ?_
        refine j_isub (pc := 42) dX2_street_42 ?_
        refine j_bipush (pc := 43) (a := 6) dX2_street_43 (by decide) ?_
        refine j_icmp_ne (pc := 45) (tgt := 55) dX2_street_45 (by decide) (by omega) (by decide) (fun c_45_1 => ?_) (fun c_45_1 => ?_)
        · refine j_iconst (pc := 55) dX2_street_55 rfl ?_
          refine j_iret (pc := 56) rfl (hQ _ _ ?_) dX2_street_56
          exact ⟨by unfold sStreet; split; omega; split <;> omega, rfl⟩
        · refine j_bipush (pc := 48) (a := 36) dX2_street_48 (by decide) ?_
          refine j_iload_n (pc := 50) dX2_street_50 rfl ?_
          refine j_iadd (pc := 51) dX2_street_51 ?_
          refine j_goto (pc := 52) (tgt := 56) dX2_street_52 (by decide) ?_
          refine j_iret (pc := 56) rfl (hQ _ _ ?_) dX2_street_56
          exact ⟨by unfold sStreet; split; omega; split <;> omega, rfl⟩
      · refine j_iload_n (pc := 29) dX2_street_29 rfl ?_
        refine j_bipush (pc := 30) (a := 6) dX2_street_30 (by decide) ?_
        refine j_irem (pc := 32) dX2_street_32 (by omega) (by omega) ?_
        refine j_if_le (pc := 33) (tgt := 40) dX2_street_33 (by decide) (by omega) (fun c_33_1 => ?_) (fun c_33_1 => ?_)
        · refine j_iload_n (pc := 40) dX2_street_40 rfl ?_
          refine j_iload_n (pc := 41) dX2_street_41 rfl ?_
          refine j_isub (pc := 42) dX2_street_42 ?_
          refine j_bipush (pc := 43) (a := 6) dX2_street_43 (by decide) ?_
          refine j_icmp_ne (pc := 45) (tgt := 55) dX2_street_45 (by decide) (by omega) (by decide) (fun c_45_1 => ?_) (fun c_45_1 => ?_)
          · refine j_iconst (pc := 55) dX2_street_55 rfl ?_
            refine j_iret (pc := 56) rfl (hQ _ _ ?_) dX2_street_56
            exact ⟨by unfold sStreet; split; omega; split <;> omega, rfl⟩
          · refine j_bipush (pc := 48) (a := 36) dX2_street_48 (by decide) ?_
            refine j_iload_n (pc := 50) dX2_street_50 rfl ?_
            refine j_iadd (pc := 51) dX2_street_51 ?_
            refine j_goto (pc := 52) (tgt := 56) dX2_street_52 (by decide) ?_
            refine j_iret (pc := 56) rfl (hQ _ _ ?_) dX2_street_56
            exact ⟨by unfold sStreet; split; omega; split <;> omega, rfl⟩
        · refine j_iload_n (pc := 36) dX2_street_36 rfl ?_
          refine j_goto (pc := 37) (tgt := 56) dX2_street_37 (by decide) ?_
          refine j_iret (pc := 56) rfl (hQ _ _ ?_) dX2_street_56
          exact ⟨by unfold sStreet; split; omega; split <;> omega, rfl⟩
  · refine j_iload_n (pc := 5) dX2_street_5 rfl ?_
    refine j_goto (pc := 6) (tgt := 10) dX2_street_6 (by decide) ?_
    refine j_istore_n (pc := 10) dX2_street_10 (by decide) (lo' := [some (IV a), some (IV b), some (IV a), none]) rfl ?_
    refine j_iload_n (pc := 11) dX2_street_11 rfl ?_
    refine j_iload_n (pc := 12) dX2_street_12 rfl ?_
    refine j_icmp_ge (pc := 13) (tgt := 20) dX2_street_13 (by decide) (by omega) (by omega) (fun c_13_1 => ?_) (fun c_13_1 => ?_)
    · refine j_iload_n (pc := 20) dX2_street_20 rfl ?_
      refine j_istore_n (pc := 21) dX2_street_21 (by decide) (lo' := [some (IV a), some (IV b), some (IV a), some (IV a)]) rfl ?_
      refine j_iload_n (pc := 22) dX2_street_22 rfl ?_
      refine j_iload_n (pc := 23) dX2_street_23 rfl ?_
      refine j_isub (pc := 24) dX2_street_24 ?_
      refine j_iconst (pc := 25) dX2_street_25 rfl ?_
      refine j_icmp_ne (pc := 26) (tgt := 40) dX2_street_26 (by decide) (by omega) (by decide) (fun c_26_1 => ?_) (fun c_26_1 => ?_)
      · refine j_iload_n (pc := 40) dX2_street_40 rfl ?_
        refine j_iload_n (pc := 41) dX2_street_41 rfl ?_
        refine j_isub (pc := 42) dX2_street_42 ?_
        refine j_bipush (pc := 43) (a := 6) dX2_street_43 (by decide) ?_
        refine j_icmp_ne (pc := 45) (tgt := 55) dX2_street_45 (by decide) (by omega) (by decide) (fun c_45_1 => ?_) (fun c_45_1 => ?_)
        · refine j_iconst (pc := 55) dX2_street_55 rfl ?_
          refine j_iret (pc := 56) rfl (hQ _ _ ?_) dX2_street_56
          exact ⟨by unfold sStreet; split; omega; split <;> omega, rfl⟩
        · refine j_bipush (pc := 48) (a := 36) dX2_street_48 (by decide) ?_
          refine j_iload_n (pc := 50) dX2_street_50 rfl ?_
          refine j_iadd (pc := 51) dX2_street_51 ?_
          refine j_goto (pc := 52) (tgt := 56) dX2_street_52 (by decide) ?_
          refine j_iret (pc := 56) rfl (hQ _ _ ?_) dX2_street_56
          exact ⟨by unfold sStreet; split; omega; split <;> omega, rfl⟩
      · refine j_iload_n (pc := 29) dX2_street_29 rfl ?_
        refine j_bipush (pc := 30) (a := 6) dX2_street_30 (by decide) ?_
        refine j_irem (pc := 32) dX2_street_32 (by omega) (by omega) ?_
        refine j_if_le (pc := 33) (tgt := 40) dX2_street_33 (by decide) (by omega) (fun c_33_1 => ?_) (fun c_33_1 => ?_)
        · refine j_iload_n (pc := 40) dX2_street_40 rfl ?_
          refine j_iload_n (pc := 41) dX2_street_41 rfl ?_
          refine j_isub (pc := 42) dX2_street_42 ?_
          refine j_bipush (pc := 43) (a := 6) dX2_street_43 (by decide) ?_
          refine j_icmp_ne (pc := 45) (tgt := 55) dX2_street_45 (by decide) (by omega) (by decide) (fun c_45_1 => ?_) (fun c_45_1 => ?_)
          · refine j_iconst (pc := 55) dX2_street_55 rfl ?_
            refine j_iret (pc := 56) rfl (hQ _ _ ?_) dX2_street_56
            exact ⟨by unfold sStreet; split; omega; split <;> omega, rfl⟩
          · refine j_bipush (pc := 48) (a := 36) dX2_street_48 (by decide) ?_
            refine j_iload_n (pc := 50) dX2_street_50 rfl ?_
            refine j_iadd (pc := 51) dX2_street_51 ?_
            refine j_goto (pc := 52) (tgt := 56) dX2_street_52 (by decide) ?_
            refine j_iret (pc := 56) rfl (hQ _ _ ?_) dX2_street_56
            exact ⟨by unfold sStreet; split; omega; split <;> omega, rfl⟩
        · refine j_iload_n (pc := 36) dX2_street_36 rfl ?_
          refine j_goto (pc := 37) (tgt := 56) dX2_street_37 (by decide) ?_
          refine j_iret (pc := 56) rfl (hQ _ _ ?_) dX2_street_56
          exact ⟨by unfold sStreet; split; omega; split <;> omega, rfl⟩
    · refine j_iload_n (pc := 16) dX2_street_16 rfl ?_
      refine j_goto (pc := 17) (tgt := 21) dX2_street_17 (by decide) ?_
      refine j_istore_n (pc := 21) dX2_street_21 (by decide) (lo' := [some (IV a), some (IV b), some (IV a), some (IV b)]) rfl ?_
      refine j_iload_n (pc := 22) dX2_street_22 rfl ?_
      refine j_iload_n (pc := 23) dX2_street_23 rfl ?_
      refine j_isub (pc := 24) dX2_street_24 ?_
      refine j_iconst (pc := 25) dX2_street_25 rfl ?_
      refine j_icmp_ne (pc := 26) (tgt := 40) dX2_street_26 (by decide) (by omega) (by decide) (fun c_26_1 => ?_) (fun c_26_1 => ?_)
      · refine j_iload_n (pc := 40) dX2_street_40 rfl ?_
        refine j_iload_n (pc := 41) dX2_street_41 rfl ?_
        refine j_isub (pc := 42) dX2_street_42 ?_
        refine j_bipush (pc := 43) (a := 6) dX2_street_43 (by decide) ?_
        refine j_icmp_ne (pc := 45) (tgt := 55) dX2_street_45 (by decide) (by omega) (by decide) (fun c_45_1 => ?_) (fun c_45_1 => ?_)
        · refine j_iconst (pc := 55) dX2_street_55 rfl ?_
          refine j_iret (pc := 56) rfl (hQ _ _ ?_) dX2_street_56
          exact ⟨by unfold sStreet; split; omega; split <;> omega, rfl⟩
        · refine j_bipush (pc := 48) (a := 36) dX2_street_48 (by decide) ?_
          refine j_iload_n (pc := 50) dX2_street_50 rfl ?_
          refine j_iadd (pc := 51) dX2_street_51 ?_
          refine j_goto (pc := 52) (tgt := 56) dX2_street_52 (by decide) ?_
          refine j_iret (pc := 56) rfl (hQ _ _ ?_) dX2_street_56
          exact ⟨by unfold sStreet; split; omega; split <;> omega, rfl⟩
      · refine j_iload_n (pc := 29) dX2_street_29 rfl ?_
        refine j_bipush (pc := 30) (a := 6) dX2_street_30 (by decide) ?_
        refine j_irem (pc := 32) dX2_street_32 (by omega) (by omega) ?_
        refine j_if_le (pc := 33) (tgt := 40) dX2_street_33 (by decide) (by omega) (fun c_33_1 => ?_) (fun c_33_1 => ?_)
        · refine j_iload_n (pc := 40) dX2_street_40 rfl ?_
          refine j_iload_n (pc := 41) dX2_street_41 rfl ?_
          refine j_isub (pc := 42) dX2_street_42 ?_
          refine j_bipush (pc := 43) (a := 6) dX2_street_43 (by decide) ?_
          refine j_icmp_ne (pc := 45) (tgt := 55) dX2_street_45 (by decide) (by omega) (by decide) (fun c_45_1 => ?_) (fun c_45_1 => ?_)
          · refine j_iconst (pc := 55) dX2_street_55 rfl ?_
            refine j_iret (pc := 56) rfl (hQ _ _ ?_) dX2_street_56
            exact ⟨by unfold sStreet; split; omega; split <;> omega, rfl⟩
          · refine j_bipush (pc := 48) (a := 36) dX2_street_48 (by decide) ?_
            refine j_iload_n (pc := 50) dX2_street_50 rfl ?_
            refine j_iadd (pc := 51) dX2_street_51 ?_
            refine j_goto (pc := 52) (tgt := 56) dX2_street_52 (by decide) ?_
            refine j_iret (pc := 56) rfl (hQ _ _ ?_) dX2_street_56
            exact ⟨by unfold sStreet; split; omega; split <;> omega, rfl⟩
        · refine j_iload_n (pc := 36) dX2_street_36 rfl ?_
          refine j_goto (pc := 37) (tgt := 56) dX2_street_37 (by decide) ?_
          refine j_iret (pc := 56) rfl (hQ _ _ ?_) dX2_street_56
          exact ⟨by unfold sStreet; split; omega; split <;> omega, rfl⟩

theorem fa_X2_32_X2 : FA RX2 32 1 10 := ⟨RX2, TX2, 44, "BallotFoundryModel", rfl, in_X2, by decide, q1398, Or.inl rfl⟩
theorem fa_X2_146_X2 : FA RX2 146 1 13 := ⟨RX2, TX2, 44, "BallotFoundryModel", rfl, in_X2, by decide, q1401, Or.inl rfl⟩
theorem fa_X2_35_X2 : FA RX2 35 1 11 := ⟨RX2, TX2, 44, "BallotFoundryModel", rfl, in_X2, by decide, q1399, Or.inl rfl⟩
theorem fa_X2_149_X2 : FA RX2 149 1 0 := ⟨RX2, TX2, 44, "BallotFoundryModel", rfl, in_X2, by decide, q1388, Or.inl rfl⟩
theorem fa_X2_38_X2 : FA RX2 38 1 12 := ⟨RX2, TX2, 44, "BallotFoundryModel", rfl, in_X2, by decide, q1400, Or.inl rfl⟩
theorem fp_X2_146_X2 : FP RX2 146 1 13 (.int) false := ⟨RX2, TX2, 44, "BallotFoundryModel", tyX2, rfl, in_X2, by decide, q1401, Or.inl rfl, tyX2_ok, nmX2, rfl, rfl, fun h => nomatch h⟩
set_option maxHeartbeats 4000000 in
theorem m_comes {Γ : GG} {l : Launch} {o : Nat} {ad : Nat → Nat} (σ : MM) (p c : Int) (hm : 0 ≤ σ.1 13 ∧ σ.1 13 < 540) : Ct Γ (AM o ad) (RepM Γ o ad) l yX2_comes (ws_ yX2_comes cX2_comes 3 none) 1 0 0 [.ref o, IV p, IV c] σ (qV (fun (σ' : MM) => σ' = sComes σ p c)) X0 := by
  refine Ct.ofJ (own := RX2) (nm := "comes") (lo := [some (.ref o), some (IV p), some (IV c)]) pn_X2 rfl rfl (List.forall_mem_cons.mpr ⟨rfl, (List.forall_mem_cons.mpr ⟨rfl, (List.forall_mem_cons.mpr ⟨rfl, (fun _ h => nomatch h)⟩)⟩)⟩) (Nat.le_of_ble_eq_true rfl) rfl ?_
  have hQ : ∀ (σ' : MM), (σ' = sComes σ p c) → (qV (fun (σ' : MM) => σ' = sComes σ p c)) none σ' := fun σ' h => ⟨rfl, h⟩
  generalize (qV (fun (σ' : MM) => σ' = sComes σ p c)) = QP at hQ ⊢
  refine j_aload_n (pc := 0) dX2_comes_0 rfl ?_
  refine m_getA (pc := 1) fa_X2_32_X2 (by decide) (by decide) dX2_comes_1 ?_
  refine j_aload_n (pc := 4) dX2_comes_4 rfl ?_
  refine m_getI (pc := 5) (v := σ.1 13) fa_X2_146_X2 (by decide) rfl rfl dX2_comes_5 ?_
  refine j_iload_n (pc := 8) dX2_comes_8 rfl ?_
  refine m_st (pc := 9) (by decide) (by decide) rfl (by show 0 ≤ σ.1 13 ∧ σ.1 13 < ((540 : Nat) : Int); omega) dX2_comes_9 ?_
  refine j_aload_n (pc := 10) dX2_comes_10 rfl ?_
  refine m_getA (pc := 11) fa_X2_35_X2 (by decide) (by decide) dX2_comes_11 ?_
  refine j_aload_n (pc := 14) dX2_comes_14 rfl ?_
  refine m_getI (pc := 15) (v := σ.1 13) fa_X2_146_X2 (by decide) rfl rfl dX2_comes_15 ?_
  refine j_aload_n (pc := 18) dX2_comes_18 rfl ?_
  refine m_getI (pc := 19) (v := σ.1 0) fa_X2_149_X2 (by decide) rfl rfl dX2_comes_19 ?_
  refine m_st (pc := 22) (by decide) (by decide) rfl (by show 0 ≤ σ.1 13 ∧ σ.1 13 < ((540 : Nat) : Int); omega) dX2_comes_22 ?_
  refine j_aload_n (pc := 23) dX2_comes_23 rfl ?_
  refine m_getA (pc := 24) fa_X2_38_X2 (by decide) (by decide) dX2_comes_24 ?_
  refine j_aload_n (pc := 27) dX2_comes_27 rfl ?_
  refine m_getI (pc := 28) (v := σ.1 13) fa_X2_146_X2 (by decide) rfl rfl dX2_comes_28 ?_
  refine j_iload_n (pc := 31) dX2_comes_31 rfl ?_
  refine m_st (pc := 32) (by decide) (by decide) rfl (by show 0 ≤ σ.1 13 ∧ σ.1 13 < ((540 : Nat) : Int); omega) dX2_comes_32 ?_
  refine j_aload_n (pc := 33) dX2_comes_33 rfl ?_
  refine j_dup (pc := 34) dX2_comes_34 rfl ?_
  refine m_getI (pc := 35) (v := σ.1 13) fa_X2_146_X2 (by decide) rfl rfl dX2_comes_35 ?_
  refine j_iconst (pc := 38) dX2_comes_38 rfl ?_
  refine j_iadd (pc := 39) dX2_comes_39 ?_
  refine m_putI (pc := 40) fp_X2_146_X2 (by decide) rfl dX2_comes_40 ?_
  refine j_vret (pc := 43) rfl (hQ _ ?_) dX2_comes_43
  exact rfl

theorem fa_X2_96_X2 : FA RX2 96 1 39 := ⟨RX2, TX2, 44, "BallotFoundryModel", rfl, in_X2, by decide, q1427, Or.inl rfl⟩
theorem fa_X2_162_X2 : FA RX2 162 1 42 := ⟨RX2, TX2, 44, "BallotFoundryModel", rfl, in_X2, by decide, q1430, Or.inl rfl⟩
theorem fa_X2_99_X2 : FA RX2 99 1 40 := ⟨RX2, TX2, 44, "BallotFoundryModel", rfl, in_X2, by decide, q1428, Or.inl rfl⟩
theorem fa_X2_102_X2 : FA RX2 102 1 41 := ⟨RX2, TX2, 44, "BallotFoundryModel", rfl, in_X2, by decide, q1429, Or.inl rfl⟩
theorem fp_X2_162_X2 : FP RX2 162 1 42 (.int) false := ⟨RX2, TX2, 44, "BallotFoundryModel", tyX2, rfl, in_X2, by decide, q1430, Or.inl rfl, tyX2_ok, nmX2, rfl, rfl, fun h => nomatch h⟩
set_option maxHeartbeats 4000000 in
theorem m_notes {Γ : GG} {l : Launch} {o : Nat} {ad : Nat → Nat} (σ : MM) (t g p : Int) (hm : 0 ≤ σ.1 42 ∧ σ.1 42 < 1000) : Ct Γ (AM o ad) (RepM Γ o ad) l yX2_notes (ws_ yX2_notes cX2_notes 4 none) 1 0 0 [.ref o, IV t, IV g, IV p] σ (qV (fun (σ' : MM) => σ' = sNote σ t g p)) X0 := by
  refine Ct.ofJ (own := RX2) (nm := "notes") (lo := [some (.ref o), some (IV t), some (IV g), some (IV p)]) pn_X2 rfl rfl (List.forall_mem_cons.mpr ⟨rfl, (List.forall_mem_cons.mpr ⟨rfl, (List.forall_mem_cons.mpr ⟨rfl, (List.forall_mem_cons.mpr ⟨rfl, (fun _ h => nomatch h)⟩)⟩)⟩)⟩) (Nat.le_of_ble_eq_true rfl) rfl ?_
  have hQ : ∀ (σ' : MM), (σ' = sNote σ t g p) → (qV (fun (σ' : MM) => σ' = sNote σ t g p)) none σ' := fun σ' h => ⟨rfl, h⟩
  generalize (qV (fun (σ' : MM) => σ' = sNote σ t g p)) = QP at hQ ⊢
  refine j_aload_n (pc := 0) dX2_notes_0 rfl ?_
  refine m_getA (pc := 1) fa_X2_96_X2 (by decide) (by decide) dX2_notes_1 ?_
  refine j_aload_n (pc := 4) dX2_notes_4 rfl ?_
  refine m_getI (pc := 5) (v := σ.1 42) fa_X2_162_X2 (by decide) rfl rfl dX2_notes_5 ?_
  refine j_iload_n (pc := 8) dX2_notes_8 rfl ?_
  refine m_st (pc := 9) (by decide) (by decide) rfl (by show 0 ≤ σ.1 42 ∧ σ.1 42 < ((1000 : Nat) : Int); omega) dX2_notes_9 ?_
  refine j_aload_n (pc := 10) dX2_notes_10 rfl ?_
  refine m_getA (pc := 11) fa_X2_99_X2 (by decide) (by decide) dX2_notes_11 ?_
  refine j_aload_n (pc := 14) dX2_notes_14 rfl ?_
  refine m_getI (pc := 15) (v := σ.1 42) fa_X2_162_X2 (by decide) rfl rfl dX2_notes_15 ?_
  refine j_iload_n (pc := 18) dX2_notes_18 rfl ?_
  refine m_st (pc := 19) (by decide) (by decide) rfl (by show 0 ≤ σ.1 42 ∧ σ.1 42 < ((1000 : Nat) : Int); omega) dX2_notes_19 ?_
  refine j_aload_n (pc := 20) dX2_notes_20 rfl ?_
  refine m_getA (pc := 21) fa_X2_102_X2 (by decide) (by decide) dX2_notes_21 ?_
  refine j_aload_n (pc := 24) dX2_notes_24 rfl ?_
  refine m_getI (pc := 25) (v := σ.1 42) fa_X2_162_X2 (by decide) rfl rfl dX2_notes_25 ?_
  refine j_iload_n (pc := 28) dX2_notes_28 rfl ?_
  refine m_st (pc := 29) (by decide) (by decide) rfl (by show 0 ≤ σ.1 42 ∧ σ.1 42 < ((1000 : Nat) : Int); omega) dX2_notes_29 ?_
  refine j_aload_n (pc := 30) dX2_notes_30 rfl ?_
  refine j_dup (pc := 31) dX2_notes_31 rfl ?_
  refine m_getI (pc := 32) (v := σ.1 42) fa_X2_162_X2 (by decide) rfl rfl dX2_notes_32 ?_
  refine j_iconst (pc := 35) dX2_notes_35 rfl ?_
  refine j_iadd (pc := 36) dX2_notes_36 ?_
  refine m_putI (pc := 37) fp_X2_162_X2 (by decide) rfl dX2_notes_37 ?_
  refine j_vret (pc := 40) rfl (hQ _ ?_) dX2_notes_40
  exact rfl

set_option maxHeartbeats 4000000 in
theorem m_dwelt {Γ : GG} {l : Launch} {o : Nat} {ad : Nat → Nat} (σ : MM) (p t : Int) (hp : RR p) (ht : RR t) (hB : Bd σ) : Ct Γ (AM o ad) (RepM Γ o ad) l yX2_dwelt (ws_ yX2_dwelt cX2_dwelt 5 (some .int)) 1 0 0 [.ref o, IV p, IV t] σ (qI (fun (r : Int) (σ' : MM) => r = sDwelt σ p t (σ.1 13).toNat ∧ σ' = σ)) X0 := by
  refine Ct.ofJ (own := RX2) (nm := "dwelt") (lo := [some (.ref o), some (IV p), some (IV t), none, none]) pn_X2 rfl rfl (List.forall_mem_cons.mpr ⟨rfl, (List.forall_mem_cons.mpr ⟨rfl, (List.forall_mem_cons.mpr ⟨rfl, (fun _ h => nomatch h)⟩)⟩)⟩) (Nat.le_of_ble_eq_true rfl) rfl ?_
  have hQ : ∀ (r : Int) (σ' : MM), (r = sDwelt σ p t (σ.1 13).toNat ∧ σ' = σ) → (qI (fun (r : Int) (σ' : MM) => r = sDwelt σ p t (σ.1 13).toNat ∧ σ' = σ)) (some (IV r)) σ' := fun r σ' h => ⟨r, rfl, h⟩
  generalize (qI (fun (r : Int) (σ' : MM) => r = sDwelt σ p t (σ.1 13).toNat ∧ σ' = σ)) = QP at hQ ⊢
  have hm : 0 ≤ σ.1 13 ∧ σ.1 13 ≤ 540 := hB.1 13
  refine j_iconst (pc := 0) dX2_dwelt_0 rfl ?_
  refine j_istore_n (pc := 1) dX2_dwelt_1 (by decide) (lo' := [some (.ref o), some (IV p), some (IV t), some (IV (-1)), none]) rfl ?_
  refine j_iconst (pc := 2) dX2_dwelt_2 rfl ?_
  refine j_istore (pc := 3) dX2_dwelt_3 (by decide) (lo' := [some (.ref o), some (IV p), some (IV t), some (IV (-1)), some (IV 0)]) rfl ?_
  have hl_5 : ∀ (fu : Nat) (k : Nat) (z : Int), (σ.1 13).toNat - k < fu → (k : Int) ≤ σ.1 13 → z = sDwelt σ p t k → J Γ (AM o ad) (RepM Γ o ad) l RX2 "dwelt" cX2_dwelt 5 (some .int) [] 1 0 0 QP X0 0 0 σ 5 [some (.ref o), some (IV p), some (IV t), some (IV z), some (IV (k : Int))] [] := by
    intro fu
    induction fu with
    | zero => intro k z hm; exact absurd hm (Nat.not_lt_zero _)
    | succ fu ih_5 =>
      intro k z hm hk hz
      refine j_iload (pc := 5) dX2_dwelt_5 rfl ?_
      refine j_aload_n (pc := 7) dX2_dwelt_7 rfl ?_
      refine m_getI (pc := 8) (v := σ.1 13) fa_X2_146_X2 (by decide) rfl rfl dX2_dwelt_8 ?_
      have n_1 : 0 ≤ σ.1 13 ∧ σ.1 13 ≤ 540 := hB.1 13
      refine j_icmp_ge (pc := 11) (tgt := 54) dX2_dwelt_11 (by decide) (by omega) (by omega) (fun c_11 => ?_) (fun c_11 => ?_)
      · refine j_iload_n (pc := 54) dX2_dwelt_54 rfl ?_
        refine j_iret (pc := 55) rfl (hQ _ _ ?_) dX2_dwelt_55
        exact ⟨by rw [hz]; congr 1; omega, rfl⟩
      · refine j_aload_n (pc := 14) dX2_dwelt_14 rfl ?_
        refine m_getA (pc := 15) fa_X2_32_X2 (by decide) (by decide) dX2_dwelt_15 ?_
        refine j_iload (pc := 18) dX2_dwelt_18 rfl ?_
        refine m_ld (pc := 20) (v := σ.2 10 k) (by decide) (by decide) rfl (by show 0 ≤ (k : Int) ∧ (k : Int) < ((540 : Nat) : Int); omega) rfl dX2_dwelt_20 ?_
        have n_2 : 0 ≤ σ.2 10 k ∧ σ.2 10 k ≤ 19 := hB.2 10 k
        refine j_iload_n (pc := 21) dX2_dwelt_21 rfl ?_
        refine j_icmp_ne (pc := 22) (tgt := 46) dX2_dwelt_22 (by decide) (by omega) (by omega) (fun c_22 => ?_) (fun c_22 => ?_)
        · refine j_iload_n (pc := 46) dX2_dwelt_46 rfl ?_
          refine j_istore_n (pc := 47) dX2_dwelt_47 (by decide) (lo' := [some (.ref o), some (IV p), some (IV t), some (IV z), some (IV (k : Int))]) rfl ?_
          refine j_iinc (pc := 48) dX2_dwelt_48 rfl (by decide) (lo' := [some (.ref o), some (IV p), some (IV t), some (IV z), some (IV ((k : Int) + 1))]) rfl ?_
          refine j_goto (pc := 51) (tgt := 5) dX2_dwelt_51 (by decide) ?_
          exact ih_5 (k + 1) z (by omega) (by omega) (by simp only [sDwelt]; split <;> first | rfl | omega)
        · refine j_aload_n (pc := 25) dX2_dwelt_25 rfl ?_
          refine m_getA (pc := 26) fa_X2_35_X2 (by decide) (by decide) dX2_dwelt_26 ?_
          refine j_iload (pc := 29) dX2_dwelt_29 rfl ?_
          refine m_ld (pc := 31) (v := σ.2 11 k) (by decide) (by decide) rfl (by show 0 ≤ (k : Int) ∧ (k : Int) < ((540 : Nat) : Int); omega) rfl dX2_dwelt_31 ?_
          have n_3 : 0 ≤ σ.2 11 k ∧ σ.2 11 k ≤ 2100 := hB.2 11 k
          refine j_iload_n (pc := 32) dX2_dwelt_32 rfl ?_
          refine j_icmp_gt (pc := 33) (tgt := 46) dX2_dwelt_33 (by decide) (by omega) (by omega) (fun c_33 => ?_) (fun c_33 => ?_)
          · refine j_iload_n (pc := 46) dX2_dwelt_46 rfl ?_
            refine j_istore_n (pc := 47) dX2_dwelt_47 (by decide) (lo' := [some (.ref o), some (IV p), some (IV t), some (IV z), some (IV (k : Int))]) rfl ?_
            refine j_iinc (pc := 48) dX2_dwelt_48 rfl (by decide) (lo' := [some (.ref o), some (IV p), some (IV t), some (IV z), some (IV ((k : Int) + 1))]) rfl ?_
            refine j_goto (pc := 51) (tgt := 5) dX2_dwelt_51 (by decide) ?_
            exact ih_5 (k + 1) z (by omega) (by omega) (by simp only [sDwelt]; split <;> first | rfl | omega)
          · refine j_aload_n (pc := 36) dX2_dwelt_36 rfl ?_
            refine m_getA (pc := 37) fa_X2_38_X2 (by decide) (by decide) dX2_dwelt_37 ?_
            refine j_iload (pc := 40) dX2_dwelt_40 rfl ?_
            refine m_ld (pc := 42) (v := σ.2 12 k) (by decide) (by decide) rfl (by show 0 ≤ (k : Int) ∧ (k : Int) < ((540 : Nat) : Int); omega) rfl dX2_dwelt_42 ?_
            have n_4 : 0 ≤ σ.2 12 k ∧ σ.2 12 k ≤ 35 := hB.2 12 k
            refine j_goto (pc := 43) (tgt := 47) dX2_dwelt_43 (by decide) ?_
            refine j_istore_n (pc := 47) dX2_dwelt_47 (by decide) (lo' := [some (.ref o), some (IV p), some (IV t), some (IV (σ.2 12 k)), some (IV (k : Int))]) rfl ?_
            refine j_iinc (pc := 48) dX2_dwelt_48 rfl (by decide) (lo' := [some (.ref o), some (IV p), some (IV t), some (IV (σ.2 12 k)), some (IV ((k : Int) + 1))]) rfl ?_
            refine j_goto (pc := 51) (tgt := 5) dX2_dwelt_51 (by decide) ?_
            exact ih_5 (k + 1) (σ.2 12 k) (by omega) (by omega) (by simp only [sDwelt]; split <;> first | rfl | omega)
  exact hl_5 _ 0 (-1) (Nat.lt_succ_self _) (by omega) rfl

theorem fa_X2_165_X2 : FA RX2 165 1 26 := ⟨RX2, TX2, 44, "BallotFoundryModel", rfl, in_X2, by decide, q1414, Or.inl rfl⟩
theorem fa_X2_57_X2 : FA RX2 57 1 23 := ⟨RX2, TX2, 44, "BallotFoundryModel", rfl, in_X2, by decide, q1411, Or.inl rfl⟩
theorem fa_X2_63_X2 : FA RX2 63 1 25 := ⟨RX2, TX2, 44, "BallotFoundryModel", rfl, in_X2, by decide, q1413, Or.inl rfl⟩
set_option maxHeartbeats 4000000 in
theorem m_sealedOf {Γ : GG} {l : Launch} {o : Nat} {ad : Nat → Nat} (σ : MM) (p : Int) (hp : RR p) (hB : Bd σ) : Ct Γ (AM o ad) (RepM Γ o ad) l yX2_sealedOf (ws_ yX2_sealedOf cX2_sealedOf 4 (some .int)) 1 0 0 [.ref o, IV p] σ (qI (fun (r : Int) (σ' : MM) => r = sSealed σ p (σ.1 26).toNat ∧ σ' = σ)) X0 := by
  refine Ct.ofJ (own := RX2) (nm := "sealedOf") (lo := [some (.ref o), some (IV p), none, none]) pn_X2 rfl rfl (List.forall_mem_cons.mpr ⟨rfl, (List.forall_mem_cons.mpr ⟨rfl, (fun _ h => nomatch h)⟩)⟩) (Nat.le_of_ble_eq_true rfl) rfl ?_
  have hQ : ∀ (r : Int) (σ' : MM), (r = sSealed σ p (σ.1 26).toNat ∧ σ' = σ) → (qI (fun (r : Int) (σ' : MM) => r = sSealed σ p (σ.1 26).toNat ∧ σ' = σ)) (some (IV r)) σ' := fun r σ' h => ⟨r, rfl, h⟩
  generalize (qI (fun (r : Int) (σ' : MM) => r = sSealed σ p (σ.1 26).toNat ∧ σ' = σ)) = QP at hQ ⊢
  have hm : 0 ≤ σ.1 26 ∧ σ.1 26 ≤ 60 := hB.1 26
  refine j_iconst (pc := 0) dX2_sealedOf_0 rfl ?_
  refine j_istore_n (pc := 1) dX2_sealedOf_1 (by decide) (lo' := [some (.ref o), some (IV p), some (IV (-1)), none]) rfl ?_
  refine j_iconst (pc := 2) dX2_sealedOf_2 rfl ?_
  refine j_istore_n (pc := 3) dX2_sealedOf_3 (by decide) (lo' := [some (.ref o), some (IV p), some (IV (-1)), some (IV 0)]) rfl ?_
  have hl_4 : ∀ (fu : Nat) (k : Nat) (z : Int), (σ.1 26).toNat - k < fu → (k : Int) ≤ σ.1 26 → z = sSealed σ p k → J Γ (AM o ad) (RepM Γ o ad) l RX2 "sealedOf" cX2_sealedOf 4 (some .int) [] 1 0 0 QP X0 0 0 σ 4 [some (.ref o), some (IV p), some (IV z), some (IV (k : Int))] [] := by
    intro fu
    induction fu with
    | zero => intro k z hm; exact absurd hm (Nat.not_lt_zero _)
    | succ fu ih_4 =>
      intro k z hm hk hz
      refine j_iload_n (pc := 4) dX2_sealedOf_4 rfl ?_
      refine j_aload_n (pc := 5) dX2_sealedOf_5 rfl ?_
      refine m_getI (pc := 6) (v := σ.1 26) fa_X2_165_X2 (by decide) rfl rfl dX2_sealedOf_6 ?_
      have n_1 : 0 ≤ σ.1 26 ∧ σ.1 26 ≤ 60 := hB.1 26
      refine j_icmp_ge (pc := 9) (tgt := 43) dX2_sealedOf_9 (by decide) (by omega) (by omega) (fun c_9 => ?_) (fun c_9 => ?_)
      · refine j_iload_n (pc := 43) dX2_sealedOf_43 rfl ?_
        refine j_iret (pc := 44) rfl (hQ _ _ ?_) dX2_sealedOf_44
        exact ⟨by rw [hz]; congr 1; omega, rfl⟩
      · refine j_aload_n (pc := 12) dX2_sealedOf_12 rfl ?_
        refine m_getA (pc := 13) fa_X2_57_X2 (by decide) (by decide) dX2_sealedOf_13 ?_
        refine j_iload_n (pc := 16) dX2_sealedOf_16 rfl ?_
        refine m_ld (pc := 17) (v := σ.2 23 k) (by decide) (by decide) rfl (by show 0 ≤ (k : Int) ∧ (k : Int) < ((60 : Nat) : Int); omega) rfl dX2_sealedOf_17 ?_
        have n_2 : 0 ≤ σ.2 23 k ∧ σ.2 23 k ≤ 19 := hB.2 23 k
        refine j_iload_n (pc := 18) dX2_sealedOf_18 rfl ?_
        refine j_icmp_ne (pc := 19) (tgt := 35) dX2_sealedOf_19 (by decide) (by omega) (by omega) (fun c_19 => ?_) (fun c_19 => ?_)
        · refine j_iload_n (pc := 35) dX2_sealedOf_35 rfl ?_
          refine j_istore_n (pc := 36) dX2_sealedOf_36 (by decide) (lo' := [some (.ref o), some (IV p), some (IV z), some (IV (k : Int))]) rfl ?_
          refine j_iinc (pc := 37) dX2_sealedOf_37 rfl (by decide) (lo' := [some (.ref o), some (IV p), some (IV z), some (IV ((k : Int) + 1))]) rfl ?_
          refine j_goto (pc := 40) (tgt := 4) dX2_sealedOf_40 (by decide) ?_
          exact ih_4 (k + 1) z (by omega) (by omega) (by simp only [sSealed]; split <;> first | rfl | omega)
        · refine j_aload_n (pc := 22) dX2_sealedOf_22 rfl ?_
          refine m_getA (pc := 23) fa_X2_63_X2 (by decide) (by decide) dX2_sealedOf_23 ?_
          refine j_iload_n (pc := 26) dX2_sealedOf_26 rfl ?_
          refine m_ld (pc := 27) (v := σ.2 25 k) (by decide) (by decide) rfl (by show 0 ≤ (k : Int) ∧ (k : Int) < ((60 : Nat) : Int); omega) rfl dX2_sealedOf_27 ?_
          have n_3 : 0 ≤ σ.2 25 k ∧ σ.2 25 k ≤ 2 := hB.2 25 k
          refine j_if_ne (pc := 28) (tgt := 35) dX2_sealedOf_28 (by decide) (by omega) (fun c_28 => ?_) (fun c_28 => ?_)
          · refine j_iload_n (pc := 35) dX2_sealedOf_35 rfl ?_
            refine j_istore_n (pc := 36) dX2_sealedOf_36 (by decide) (lo' := [some (.ref o), some (IV p), some (IV z), some (IV (k : Int))]) rfl ?_
            refine j_iinc (pc := 37) dX2_sealedOf_37 rfl (by decide) (lo' := [some (.ref o), some (IV p), some (IV z), some (IV ((k : Int) + 1))]) rfl ?_
            refine j_goto (pc := 40) (tgt := 4) dX2_sealedOf_40 (by decide) ?_
            exact ih_4 (k + 1) z (by omega) (by omega) (by simp only [sSealed]; split <;> first | rfl | omega)
          · refine j_iload_n (pc := 31) dX2_sealedOf_31 rfl ?_
            refine j_goto (pc := 32) (tgt := 36) dX2_sealedOf_32 (by decide) ?_
            refine j_istore_n (pc := 36) dX2_sealedOf_36 (by decide) (lo' := [some (.ref o), some (IV p), some (IV (k : Int)), some (IV (k : Int))]) rfl ?_
            refine j_iinc (pc := 37) dX2_sealedOf_37 rfl (by decide) (lo' := [some (.ref o), some (IV p), some (IV (k : Int)), some (IV ((k : Int) + 1))]) rfl ?_
            refine j_goto (pc := 40) (tgt := 4) dX2_sealedOf_40 (by decide) ?_
            exact ih_4 (k + 1) (k : Int) (by omega) (by omega) (by simp only [sSealed]; split <;> first | rfl | omega)
  exact hl_4 _ 0 (-1) (Nat.lt_succ_self _) (by omega) rfl

theorem md_yX2_sealedOf : MD yX2_sealedOf 1 := by decide +kernel
theorem md_yX2_notes : MD yX2_notes 3 := by decide +kernel
set_option maxHeartbeats 4000000 in
theorem m_voids {Γ : GG} {l : Launch} {o : Nat} {ad : Nat → Nat} (σ : MM) (p : Int) (hp : RR p) (hB : Bd σ) (hn : σ.1 42 < 1000) : Ct Γ (AM o ad) (RepM Γ o ad) l yX2_voids (ws_ yX2_voids cX2_voids 3 (some .boolean)) 3 0 0 [.ref o, IV p] σ (qI (fun (r : Int) (σ' : MM) => r = bI (sSealed σ p (σ.1 26).toNat ≠ -1) ∧ σ' = sVoids σ p)) X0 := by
  refine Ct.ofJ (own := RX2) (nm := "voids") (lo := [some (.ref o), some (IV p), none]) pn_X2 rfl rfl (List.forall_mem_cons.mpr ⟨rfl, (List.forall_mem_cons.mpr ⟨rfl, (fun _ h => nomatch h)⟩)⟩) (Nat.le_of_ble_eq_true rfl) rfl ?_
  have hQ : ∀ (r : Int) (σ' : MM), (r = bI (sSealed σ p (σ.1 26).toNat ≠ -1) ∧ σ' = sVoids σ p) → (qI (fun (r : Int) (σ' : MM) => r = bI (sSealed σ p (σ.1 26).toNat ≠ -1) ∧ σ' = sVoids σ p)) (some (IV r)) σ' := fun r σ' h => ⟨r, rfl, h⟩
  generalize (qI (fun (r : Int) (σ' : MM) => r = bI (sSealed σ p (σ.1 26).toNat ≠ -1) ∧ σ' = sVoids σ p)) = QP at hQ ⊢
  have hm : 0 ≤ σ.1 26 ∧ σ.1 26 ≤ 60 := hB.1 26
  have hs := sSealed_rng σ p (σ.1 26).toNat
  have hn0 : 0 ≤ σ.1 42 := (hB.1 42).1
  refine j_aload_n (pc := 0) dX2_voids_0 rfl ?_
  refine j_iload_n (pc := 1) dX2_voids_1 rfl ?_
  refine j_callV (pc := 2) (m_sealedOf σ p (by omega) hB) (lw_V q1598 q1600 qs29 q48 q1601) rfl md_yX2_sealedOf (RC.ofM _ rfl) (by decide) (by decide) rfl (Nat.le_of_ble_eq_true rfl) dX2_voids_2 (qI.k (fun r_2 s_2 q_2 => ?_))
  obtain ⟨e1q_2, e2q_2⟩ := q_2
  subst r_2
  subst s_2
  refine j_istore_n (pc := 5) dX2_voids_5 (by decide) (lo' := [some (.ref o), some (IV p), some (IV (sSealed σ p (σ.1 26).toNat))]) rfl ?_
  refine j_iload_n (pc := 6) dX2_voids_6 rfl ?_
  refine j_iconst (pc := 7) dX2_voids_7 rfl ?_
  refine j_icmp_eq (pc := 8) (tgt := 29) dX2_voids_8 (by decide) (by omega) (by decide) (fun c_8 => ?_) (fun c_8 => ?_)
  · refine j_iload_n (pc := 29) dX2_voids_29 rfl ?_
    refine j_iconst (pc := 30) dX2_voids_30 rfl ?_
    refine j_icmp_eq (pc := 31) (tgt := 38) dX2_voids_31 (by decide) (by omega) (by decide) (fun c_31 => ?_) (fun c_31 => ?_)
    · refine j_iconst (pc := 38) dX2_voids_38 rfl ?_
      refine j_zret (pc := 39) rfl (Or.inl rfl) (hQ _ _ ?_) dX2_voids_39
      exact ⟨by unfold bI; split <;> omega, by unfold sVoids; split <;> first | rfl | omega⟩
    · refine j_iconst (pc := 34) dX2_voids_34 rfl ?_
      refine j_goto (pc := 35) (tgt := 39) dX2_voids_35 (by decide) ?_
      refine j_zret (pc := 39) rfl (Or.inr rfl) (hQ _ _ ?_) dX2_voids_39
      exact ⟨by unfold bI; split <;> omega, by unfold sVoids; split <;> first | rfl | omega⟩
  · refine j_aload_n (pc := 11) dX2_voids_11 rfl ?_
    refine m_getA (pc := 12) fa_X2_63_X2 (by decide) (by decide) dX2_voids_12 ?_
    refine j_iload_n (pc := 15) dX2_voids_15 rfl ?_
    refine j_iconst (pc := 16) dX2_voids_16 rfl ?_
    refine m_st (pc := 17) (by decide) (by decide) rfl (by show 0 ≤ sSealed σ p (σ.1 26).toNat ∧ sSealed σ p (σ.1 26).toNat < ((60 : Nat) : Int); omega) dX2_voids_17 ?_
    refine j_aload_n (pc := 18) dX2_voids_18 rfl ?_
    refine j_aload_n (pc := 19) dX2_voids_19 rfl ?_
    refine m_getI (pc := 20) (v := σ.1 0) fa_X2_149_X2 (by decide) rfl rfl dX2_voids_20 ?_
    have n_1 : 0 ≤ σ.1 0 ∧ σ.1 0 ≤ 2100 := hB.1 0
    refine j_bipush (pc := 23) (a := 120) dX2_voids_23 (by decide) ?_
    refine j_iload_n (pc := 25) dX2_voids_25 rfl ?_
    refine j_callV (pc := 26) (m_notes (setA σ 25 (sSealed σ p (σ.1 26).toNat).toNat 1) (σ.1 0) 120 p (show 0 ≤ σ.1 42 ∧ σ.1 42 < 1000 by omega)) (lw_V q1602 q1604 qs30 q48 q1605) rfl md_yX2_notes (RC.ofM _ rfl) (by decide) (by decide) rfl (Nat.le_of_ble_eq_true rfl) dX2_voids_26 (qV.k (fun s_26 q_26 => ?_))
    obtain rfl := q_26
    refine j_iload_n (pc := 29) dX2_voids_29 rfl ?_
    refine j_iconst (pc := 30) dX2_voids_30 rfl ?_
    refine j_icmp_eq (pc := 31) (tgt := 38) dX2_voids_31 (by decide) (by omega) (by decide) (fun c_31_1 => ?_) (fun c_31_1 => ?_)
    · refine j_iconst (pc := 38) dX2_voids_38 rfl ?_
      refine j_zret (pc := 39) rfl (Or.inl rfl) (hQ _ _ ?_) dX2_voids_39
      exact ⟨by unfold bI; split <;> omega, by unfold sVoids; split <;> first | rfl | omega⟩
    · refine j_iconst (pc := 34) dX2_voids_34 rfl ?_
      refine j_goto (pc := 35) (tgt := 39) dX2_voids_35 (by decide) ?_
      refine j_zret (pc := 39) rfl (Or.inr rfl) (hQ _ _ ?_) dX2_voids_39
      exact ⟨by unfold bI; split <;> omega, by unfold sVoids; split <;> first | rfl | omega⟩

theorem fa_X2_48_X2 : FA RX2 48 1 20 := ⟨RX2, TX2, 44, "BallotFoundryModel", rfl, in_X2, by decide, q1408, Or.inl rfl⟩
theorem fa_X2_29_X2 : FA RX2 29 1 8 := ⟨RX2, TX2, 44, "BallotFoundryModel", rfl, in_X2, by decide, q1396, Or.inl rfl⟩
set_option maxHeartbeats 4000000 in
theorem m_canVote {Γ : GG} {l : Launch} {o : Nat} {ad : Nat → Nat} (σ : MM) (p : Int) (hp : 0 ≤ p ∧ p ≤ 19) (hB : Bd σ) : Ct Γ (AM o ad) (RepM Γ o ad) l yX2_canVote (ws_ yX2_canVote cX2_canVote 2 (some .boolean)) 1 0 0 [.ref o, IV p] σ (qI (fun (r : Int) (σ' : MM) => r = bI (σ.2 20 p.toNat ≠ -1 ∧ σ.2 8 p.toNat = 0) ∧ σ' = σ)) X0 := by
  refine Ct.ofJ (own := RX2) (nm := "canVote") (lo := [some (.ref o), some (IV p)]) pn_X2 rfl rfl (List.forall_mem_cons.mpr ⟨rfl, (List.forall_mem_cons.mpr ⟨rfl, (fun _ h => nomatch h)⟩)⟩) (Nat.le_of_ble_eq_true rfl) rfl ?_
  have hQ : ∀ (r : Int) (σ' : MM), (r = bI (σ.2 20 p.toNat ≠ -1 ∧ σ.2 8 p.toNat = 0) ∧ σ' = σ) → (qI (fun (r : Int) (σ' : MM) => r = bI (σ.2 20 p.toNat ≠ -1 ∧ σ.2 8 p.toNat = 0) ∧ σ' = σ)) (some (IV r)) σ' := fun r σ' h => ⟨r, rfl, h⟩
  generalize (qI (fun (r : Int) (σ' : MM) => r = bI (σ.2 20 p.toNat ≠ -1 ∧ σ.2 8 p.toNat = 0) ∧ σ' = σ)) = QP at hQ ⊢
  refine j_aload_n (pc := 0) dX2_canVote_0 rfl ?_
  refine m_getA (pc := 1) fa_X2_48_X2 (by decide) (by decide) dX2_canVote_1 ?_
  refine j_iload_n (pc := 4) dX2_canVote_4 rfl ?_
  refine m_ld (pc := 5) (v := σ.2 20 (p).toNat) (by decide) (by decide) rfl (by show 0 ≤ p ∧ p < ((20 : Nat) : Int); omega) rfl dX2_canVote_5 ?_
  have n_1 : (-1) ≤ σ.2 20 (p).toNat ∧ σ.2 20 (p).toNat ≤ 4 := hB.2 20 ((p).toNat)
  refine j_iconst (pc := 6) dX2_canVote_6 rfl ?_
  refine j_icmp_eq (pc := 7) (tgt := 23) dX2_canVote_7 (by decide) (by omega) (by decide) (fun c_7 => ?_) (fun c_7 => ?_)
  · refine j_iconst (pc := 23) dX2_canVote_23 rfl ?_
    refine j_zret (pc := 24) rfl (Or.inl rfl) (hQ _ _ ?_) dX2_canVote_24
    exact ⟨by unfold bI; split <;> omega, rfl⟩
  · refine j_aload_n (pc := 10) dX2_canVote_10 rfl ?_
    refine m_getA (pc := 11) fa_X2_29_X2 (by decide) (by decide) dX2_canVote_11 ?_
    refine j_iload_n (pc := 14) dX2_canVote_14 rfl ?_
    refine m_zld (pc := 15) (v := σ.2 8 (p).toNat) (by decide) (by decide) rfl (by show 0 ≤ p ∧ p < ((20 : Nat) : Int); omega) rfl dX2_canVote_15 ?_
    have n_2 : 0 ≤ σ.2 8 (p).toNat ∧ σ.2 8 (p).toNat ≤ 1 := hB.2 8 ((p).toNat)
    refine j_if_ne (pc := 16) (tgt := 23) dX2_canVote_16 (by decide) (by omega) (fun c_16 => ?_) (fun c_16 => ?_)
    · refine j_iconst (pc := 23) dX2_canVote_23 rfl ?_
      refine j_zret (pc := 24) rfl (Or.inl rfl) (hQ _ _ ?_) dX2_canVote_24
      exact ⟨by unfold bI; split <;> omega, rfl⟩
    · refine j_iconst (pc := 19) dX2_canVote_19 rfl ?_
      refine j_goto (pc := 20) (tgt := 24) dX2_canVote_20 (by decide) ?_
      refine j_zret (pc := 24) rfl (Or.inr rfl) (hQ _ _ ?_) dX2_canVote_24
      exact ⟨by unfold bI; split <;> omega, rfl⟩

theorem fa_X2_66_X2 : FA RX2 66 1 27 := ⟨RX2, TX2, 44, "BallotFoundryModel", rfl, in_X2, by decide, q1415, Or.inl rfl⟩
theorem fa_X2_69_X2 : FA RX2 69 1 28 := ⟨RX2, TX2, 44, "BallotFoundryModel", rfl, in_X2, by decide, q1416, Or.inl rfl⟩
theorem fa_X2_54_X2 : FA RX2 54 1 22 := ⟨RX2, TX2, 44, "BallotFoundryModel", rfl, in_X2, by decide, q1410, Or.inl rfl⟩
set_option maxHeartbeats 4000000 in
theorem m_casts {Γ : GG} {l : Launch} {o : Nat} {ad : Nat → Nat} (σ : MM) (p v : Int) (hp : 0 ≤ p ∧ p ≤ 19) (hB : Bd σ) (ho : 0 ≤ σ.2 20 p.toNat) (hb : σ.2 28 (σ.2 20 p.toNat).toNat ≤ 19) : Ct Γ (AM o ad) (RepM Γ o ad) l yX2_casts (ws_ yX2_casts cX2_casts 4 (some .int)) 1 0 0 [.ref o, IV p, IV v] σ (qI (fun (r : Int) (σ' : MM) => r = σ.2 28 (σ.2 20 p.toNat).toNat + 1 ∧ σ' = sCasts σ p v)) X0 := by
  refine Ct.ofJ (own := RX2) (nm := "casts") (lo := [some (.ref o), some (IV p), some (IV v), none]) pn_X2 rfl rfl (List.forall_mem_cons.mpr ⟨rfl, (List.forall_mem_cons.mpr ⟨rfl, (List.forall_mem_cons.mpr ⟨rfl, (fun _ h => nomatch h)⟩)⟩)⟩) (Nat.le_of_ble_eq_true rfl) rfl ?_
  have hQ : ∀ (r : Int) (σ' : MM), (r = σ.2 28 (σ.2 20 p.toNat).toNat + 1 ∧ σ' = sCasts σ p v) → (qI (fun (r : Int) (σ' : MM) => r = σ.2 28 (σ.2 20 p.toNat).toNat + 1 ∧ σ' = sCasts σ p v)) (some (IV r)) σ' := fun r σ' h => ⟨r, rfl, h⟩
  generalize (qI (fun (r : Int) (σ' : MM) => r = σ.2 28 (σ.2 20 p.toNat).toNat + 1 ∧ σ' = sCasts σ p v)) = QP at hQ ⊢
  refine j_aload_n (pc := 0) dX2_casts_0 rfl ?_
  refine m_getA (pc := 1) fa_X2_48_X2 (by decide) (by decide) dX2_casts_1 ?_
  refine j_iload_n (pc := 4) dX2_casts_4 rfl ?_
  refine m_ld (pc := 5) (v := σ.2 20 (p).toNat) (by decide) (by decide) rfl (by show 0 ≤ p ∧ p < ((20 : Nat) : Int); omega) rfl dX2_casts_5 ?_
  have n_1 : (-1) ≤ σ.2 20 (p).toNat ∧ σ.2 20 (p).toNat ≤ 4 := hB.2 20 ((p).toNat)
  refine j_istore_n (pc := 6) dX2_casts_6 (by decide) (lo' := [some (.ref o), some (IV p), some (IV v), some (IV (σ.2 20 (p).toNat))]) rfl ?_
  refine j_aload_n (pc := 7) dX2_casts_7 rfl ?_
  refine m_getA (pc := 8) fa_X2_66_X2 (by decide) (by decide) dX2_casts_8 ?_
  refine j_bipush (pc := 11) (a := 20) dX2_casts_11 (by decide) ?_
  refine j_iload_n (pc := 13) dX2_casts_13 rfl ?_
  refine j_imul (pc := 14) dX2_casts_14 ?_
  refine j_aload_n (pc := 15) dX2_casts_15 rfl ?_
  refine m_getA (pc := 16) fa_X2_69_X2 (by decide) (by decide) dX2_casts_16 ?_
  refine j_iload_n (pc := 19) dX2_casts_19 rfl ?_
  refine m_ld (pc := 20) (v := σ.2 28 (σ.2 20 (p).toNat).toNat) (by decide) (by decide) rfl (by show 0 ≤ σ.2 20 (p).toNat ∧ σ.2 20 (p).toNat < ((5 : Nat) : Int); omega) rfl dX2_casts_20 ?_
  have n_2 : 0 ≤ σ.2 28 (σ.2 20 (p).toNat).toNat ∧ σ.2 28 (σ.2 20 (p).toNat).toNat ≤ 20 := hB.2 28 ((σ.2 20 (p).toNat).toNat)
  refine j_iadd (pc := 21) dX2_casts_21 ?_
  refine j_iload_n (pc := 22) dX2_casts_22 rfl ?_
  refine m_st (pc := 23) (by decide) (by decide) rfl (by show 0 ≤ (20 * (σ.2 20 (p).toNat)) + (σ.2 28 (σ.2 20 (p).toNat).toNat) ∧ (20 * (σ.2 20 (p).toNat)) + (σ.2 28 (σ.2 20 (p).toNat).toNat) < ((100 : Nat) : Int); omega) dX2_casts_23 ?_
  refine j_aload_n (pc := 24) dX2_casts_24 rfl ?_
  refine m_getA (pc := 25) fa_X2_69_X2 (by decide) (by decide) dX2_casts_25 ?_
  refine j_iload_n (pc := 28) dX2_casts_28 rfl ?_
  refine j_dup2 (pc := 29) dX2_casts_29 rfl rfl ?_
  refine m_ld (pc := 30) (v := σ.2 28 (σ.2 20 (p).toNat).toNat) (by decide) (by decide) rfl (by show 0 ≤ σ.2 20 (p).toNat ∧ σ.2 20 (p).toNat < ((5 : Nat) : Int); omega) rfl dX2_casts_30 ?_
  refine j_iconst (pc := 31) dX2_casts_31 rfl ?_
  refine j_iadd (pc := 32) dX2_casts_32 ?_
  refine m_st (pc := 33) (by decide) (by decide) rfl (by show 0 ≤ σ.2 20 (p).toNat ∧ σ.2 20 (p).toNat < ((5 : Nat) : Int); omega) dX2_casts_33 ?_
  refine j_aload_n (pc := 34) dX2_casts_34 rfl ?_
  refine m_getA (pc := 35) fa_X2_54_X2 (by decide) (by decide) dX2_casts_35 ?_
  refine j_iload_n (pc := 38) dX2_casts_38 rfl ?_
  refine j_iconst (pc := 39) dX2_casts_39 rfl ?_
  refine m_zst (pc := 40) (by decide) (by decide) rfl (by show 0 ≤ p ∧ p < ((20 : Nat) : Int); omega) (Or.inr rfl) dX2_casts_40 ?_
  refine j_aload_n (pc := 41) dX2_casts_41 rfl ?_
  refine m_getA (pc := 42) fa_X2_69_X2 (by decide) (by decide) dX2_casts_42 ?_
  refine j_iload_n (pc := 45) dX2_casts_45 rfl ?_
  refine m_ld (pc := 46) (v := (σ.2 28 (σ.2 20 (p).toNat).toNat) + 1) (by decide) (by decide) rfl (by show 0 ≤ σ.2 20 (p).toNat ∧ σ.2 20 (p).toNat < ((5 : Nat) : Int); omega) (by simp [setA_2, setI_2, uA_ap]) dX2_casts_46 ?_
  refine j_iret (pc := 47) rfl (hQ _ _ ?_) dX2_casts_47
  exact ⟨rfl, rfl⟩

