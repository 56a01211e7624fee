set_option maxRecDepth 100000
theorem md_yX2_told : MD yX2_told 1 := by decide +kernel
set_option maxHeartbeats 4000000 in
theorem m_g0 {Γ : GG} {l : Launch} {o : Nat} {ad : Nat → Nat} (σ : MM) (hB : Bd σ) : Ct Γ (AM o ad) (RepM Γ o ad) l yX2_today (ws_ yX2_today cX2_today 1 (some .int)) 2 0 0 [.ref o] σ (qI (fun (r : Int) (σ' : MM) => r = σ.1 0 ∧ σ' = setI σ 43 0)) X0 := by
  refine Ct.ofJ (own := RX2) (nm := "today") (lo := [some (.ref o)]) pn_X2 rfl rfl (List.forall_mem_cons.mpr ⟨rfl, (fun _ h => nomatch h)⟩) (Nat.le_of_ble_eq_true rfl) rfl ?_
  have hQ : ∀ (r : Int) (σ' : MM), (r = σ.1 0 ∧ σ' = setI σ 43 0) → (qI (fun (r : Int) (σ' : MM) => r = σ.1 0 ∧ σ' = setI σ 43 0)) (some (IV r)) σ' := fun r σ' h => ⟨r, rfl, h⟩
  generalize (qI (fun (r : Int) (σ' : MM) => r = σ.1 0 ∧ σ' = setI σ 43 0)) = QP at hQ ⊢
  refine j_aload_n (pc := 0) dX2_today_0 rfl ?_
  refine j_aload_n (pc := 1) dX2_today_1 rfl ?_
  refine m_getI (pc := 2) (v := σ.1 0) fa_X2_149_X2 (by decide) rfl rfl dX2_today_2 ?_
  have n_1 : 0 ≤ σ.1 0 ∧ σ.1 0 ≤ 2100 := hB.1 0
  refine j_callV (pc := 5) (m_told σ (σ.1 0)) (lw_V q1642 q1644 qs35 q48 q1645) rfl md_yX2_told (RC.ofM _ rfl) (by decide) (by decide) rfl (Nat.le_of_ble_eq_true rfl) dX2_today_5 (qI.k (fun r_5 s_5 q_5 => ?_))
  obtain ⟨e1q_5, e2q_5⟩ := q_5
  subst r_5
  subst s_5
  refine j_iret (pc := 8) rfl (hQ _ _ ?_) dX2_today_8
  exact ⟨rfl, rfl⟩

theorem fa_X2_41_X2 : FA RX2 41 1 14 := ⟨RX2, TX2, 44, "BallotFoundryModel", rfl, in_X2, by decide, q1402, Or.inl rfl⟩
set_option maxHeartbeats 4000000 in
theorem m_g14 {Γ : GG} {l : Launch} {o : Nat} {ad : Nat → Nat} (σ : MM) (hB : Bd σ) : Ct Γ (AM o ad) (RepM Γ o ad) l yX2_stage (ws_ yX2_stage cX2_stage 1 (some .int)) 2 0 0 [.ref o] σ (qI (fun (r : Int) (σ' : MM) => r = σ.1 14 ∧ σ' = setI σ 43 0)) X0 := by
  refine Ct.ofJ (own := RX2) (nm := "stage") (lo := [some (.ref o)]) pn_X2 rfl rfl (List.forall_mem_cons.mpr ⟨rfl, (fun _ h => nomatch h)⟩) (Nat.le_of_ble_eq_true rfl) rfl ?_
  have hQ : ∀ (r : Int) (σ' : MM), (r = σ.1 14 ∧ σ' = setI σ 43 0) → (qI (fun (r : Int) (σ' : MM) => r = σ.1 14 ∧ σ' = setI σ 43 0)) (some (IV r)) σ' := fun r σ' h => ⟨r, rfl, h⟩
  generalize (qI (fun (r : Int) (σ' : MM) => r = σ.1 14 ∧ σ' = setI σ 43 0)) = QP at hQ ⊢
  refine j_aload_n (pc := 0) dX2_stage_0 rfl ?_
  refine j_aload_n (pc := 1) dX2_stage_1 rfl ?_
  refine m_getI (pc := 2) (v := σ.1 14) fa_X2_41_X2 (by decide) rfl rfl dX2_stage_2 ?_
  have n_1 : 0 ≤ σ.1 14 ∧ σ.1 14 ≤ 5 := hB.1 14
  refine j_callV (pc := 5) (m_told σ (σ.1 14)) (lw_V q1642 q1644 qs35 q48 q1645) rfl md_yX2_told (RC.ofM _ rfl) (by decide) (by decide) rfl (Nat.le_of_ble_eq_true rfl) dX2_stage_5 (qI.k (fun r_5 s_5 q_5 => ?_))
  obtain ⟨e1q_5, e2q_5⟩ := q_5
  subst r_5
  subst s_5
  refine j_iret (pc := 8) rfl (hQ _ _ ?_) dX2_stage_8
  exact ⟨rfl, rfl⟩

set_option maxHeartbeats 4000000 in
theorem m_g26 {Γ : GG} {l : Launch} {o : Nat} {ad : Nat → Nat} (σ : MM) (hB : Bd σ) : Ct Γ (AM o ad) (RepM Γ o ad) l yX2_envelopes (ws_ yX2_envelopes cX2_envelopes 1 (some .int)) 2 0 0 [.ref o] σ (qI (fun (r : Int) (σ' : MM) => r = σ.1 26 ∧ σ' = setI σ 43 0)) X0 := by
  refine Ct.ofJ (own := RX2) (nm := "envelopes") (lo := [some (.ref o)]) pn_X2 rfl rfl (List.forall_mem_cons.mpr ⟨rfl, (fun _ h => nomatch h)⟩) (Nat.le_of_ble_eq_true rfl) rfl ?_
  have hQ : ∀ (r : Int) (σ' : MM), (r = σ.1 26 ∧ σ' = setI σ 43 0) → (qI (fun (r : Int) (σ' : MM) => r = σ.1 26 ∧ σ' = setI σ 43 0)) (some (IV r)) σ' := fun r σ' h => ⟨r, rfl, h⟩
  generalize (qI (fun (r : Int) (σ' : MM) => r = σ.1 26 ∧ σ' = setI σ 43 0)) = QP at hQ ⊢
  refine j_aload_n (pc := 0) dX2_envelopes_0 rfl ?_
  refine j_aload_n (pc := 1) dX2_envelopes_1 rfl ?_
  refine m_getI (pc := 2) (v := σ.1 26) fa_X2_165_X2 (by decide) rfl rfl dX2_envelopes_2 ?_
  have n_1 : 0 ≤ σ.1 26 ∧ σ.1 26 ≤ 60 := hB.1 26
  refine j_callV (pc := 5) (m_told σ (σ.1 26)) (lw_V q1642 q1644 qs35 q48 q1645) rfl md_yX2_told (RC.ofM _ rfl) (by decide) (by decide) rfl (Nat.le_of_ble_eq_true rfl) dX2_envelopes_5 (qI.k (fun r_5 s_5 q_5 => ?_))
  obtain ⟨e1q_5, e2q_5⟩ := q_5
  subst r_5
  subst s_5
  refine j_iret (pc := 8) rfl (hQ _ _ ?_) dX2_envelopes_8
  exact ⟨rfl, rfl⟩

set_option maxHeartbeats 4000000 in
theorem m_g42 {Γ : GG} {l : Launch} {o : Nat} {ad : Nat → Nat} (σ : MM) (hB : Bd σ) : Ct Γ (AM o ad) (RepM Γ o ad) l yX2_notes_2 (ws_ yX2_notes_2 cX2_notes_2 1 (some .int)) 2 0 0 [.ref o] σ (qI (fun (r : Int) (σ' : MM) => r = σ.1 42 ∧ σ' = setI σ 43 0)) X0 := by
  refine Ct.ofJ (own := RX2) (nm := "notes") (lo := [some (.ref o)]) pn_X2 rfl rfl (List.forall_mem_cons.mpr ⟨rfl, (fun _ h => nomatch h)⟩) (Nat.le_of_ble_eq_true rfl) rfl ?_
  have hQ : ∀ (r : Int) (σ' : MM), (r = σ.1 42 ∧ σ' = setI σ 43 0) → (qI (fun (r : Int) (σ' : MM) => r = σ.1 42 ∧ σ' = setI σ 43 0)) (some (IV r)) σ' := fun r σ' h => ⟨r, rfl, h⟩
  generalize (qI (fun (r : Int) (σ' : MM) => r = σ.1 42 ∧ σ' = setI σ 43 0)) = QP at hQ ⊢
  refine j_aload_n (pc := 0) dX2_notes_2_0 rfl ?_
  refine j_aload_n (pc := 1) dX2_notes_2_1 rfl ?_
  refine m_getI (pc := 2) (v := σ.1 42) fa_X2_162_X2 (by decide) rfl rfl dX2_notes_2_2 ?_
  have n_1 : 0 ≤ σ.1 42 ∧ σ.1 42 ≤ 1000 := hB.1 42
  refine j_callV (pc := 5) (m_told σ (σ.1 42)) (lw_V q1642 q1644 qs35 q48 q1645) rfl md_yX2_told (RC.ofM _ rfl) (by decide) (by decide) rfl (Nat.le_of_ble_eq_true rfl) dX2_notes_2_5 (qI.k (fun r_5 s_5 q_5 => ?_))
  obtain ⟨e1q_5, e2q_5⟩ := q_5
  subst r_5
  subst s_5
  refine j_iret (pc := 8) rfl (hQ _ _ ?_) dX2_notes_2_8
  exact ⟨rfl, rfl⟩

set_option maxHeartbeats 4000000 in
theorem m_thrown {Γ : GG} {l : Launch} {o : Nat} {ad : Nat → Nat} (σ : MM) (hB : Bd σ) : Ct Γ (AM o ad) (RepM Γ o ad) l yX2_thrown (ws_ yX2_thrown cX2_thrown 1 (some .int)) 1 0 0 [.ref o] σ (qI (fun (r : Int) (σ' : MM) => r = σ.1 43 ∧ σ' = σ)) X0 := by
  refine Ct.ofJ (own := RX2) (nm := "thrown") (lo := [some (.ref o)]) pn_X2 rfl rfl (List.forall_mem_cons.mpr ⟨rfl, (fun _ h => nomatch h)⟩) (Nat.le_of_ble_eq_true rfl) rfl ?_
  have hQ : ∀ (r : Int) (σ' : MM), (r = σ.1 43 ∧ σ' = σ) → (qI (fun (r : Int) (σ' : MM) => r = σ.1 43 ∧ σ' = σ)) (some (IV r)) σ' := fun r σ' h => ⟨r, rfl, h⟩
  generalize (qI (fun (r : Int) (σ' : MM) => r = σ.1 43 ∧ σ' = σ)) = QP at hQ ⊢
  refine j_aload_n (pc := 0) dX2_thrown_0 rfl ?_
  refine m_getI (pc := 1) (v := σ.1 43) fa_X2_108_X2 (by decide) rfl rfl dX2_thrown_1 ?_
  have n_1 : 0 ≤ σ.1 43 ∧ σ.1 43 ≤ 3 := hB.1 43
  refine j_iret (pc := 4) rfl (hQ _ _ ?_) dX2_thrown_4
  exact ⟨rfl, rfl⟩

theorem md_yX2_isPerson : MD yX2_isPerson 1 := by decide +kernel
theorem md_yX2_asked_2 : MD yX2_asked_2 1 := by decide +kernel
set_option maxHeartbeats 4000000 in
theorem m_isOnRoll {Γ : GG} {l : Launch} {o : Nat} {ad : Nat → Nat} (σ : MM) (p : Int) (hp : RR p) (hB : Bd σ) : Ct Γ (AM o ad) (RepM Γ o ad) l yX2_isOnRoll (ws_ yX2_isOnRoll cX2_isOnRoll 2 (some .boolean)) 4 0 0 [.ref o, IV p] σ (qI (fun (r : Int) (σ' : MM) => oEnd σ (t1 (isP σ p)) (bI (σ.2 20 p.toNat ≠ -1)) (σ0 σ) r σ')) X0 := by
  refine Ct.ofJ (own := RX2) (nm := "isOnRoll") (lo := [some (.ref o), some (IV p)]) pn_X2 rfl rfl (List.forall_mem_cons.mpr ⟨rfl, (List.forall_mem_cons.mpr ⟨rfl, (fun _ h => nomatch h)⟩)⟩) (Nat.le_of_ble_eq_true rfl) rfl ?_
  have hQ : ∀ (r : Int) (σ' : MM), (oEnd σ (t1 (isP σ p)) (bI (σ.2 20 p.toNat ≠ -1)) (σ0 σ) r σ') → (qI (fun (r : Int) (σ' : MM) => oEnd σ (t1 (isP σ p)) (bI (σ.2 20 p.toNat ≠ -1)) (σ0 σ) r σ')) (some (IV r)) σ' := fun r σ' h => ⟨r, rfl, h⟩
  generalize (qI (fun (r : Int) (σ' : MM) => oEnd σ (t1 (isP σ p)) (bI (σ.2 20 p.toNat ≠ -1)) (σ0 σ) r σ')) = QP at hQ ⊢
  have n6 : 0 ≤ σ.1 6 ∧ σ.1 6 ≤ 5 := hB.1 6
  have n9 : 0 ≤ σ.1 9 ∧ σ.1 9 ≤ 20 := hB.1 9
  have n0 : 0 ≤ σ.1 0 ∧ σ.1 0 ≤ 2100 := hB.1 0
  have n14 : 0 ≤ σ.1 14 ∧ σ.1 14 ≤ 5 := hB.1 14
  have n26 : 0 ≤ σ.1 26 ∧ σ.1 26 ≤ 60 := hB.1 26
  refine j_aload_n (pc := 0) dX2_isOnRoll_0 rfl ?_
  refine j_aload_n (pc := 1) dX2_isOnRoll_1 rfl ?_
  refine j_iload_n (pc := 2) dX2_isOnRoll_2 rfl ?_
  refine j_callV (pc := 3) (m_isPerson σ p (by omega) (show 0 ≤ σ.1 9 ∧ σ.1 9 ≤ 20 by omega)) (lw_V q1582 q1584 qs26 q48 q1585) rfl md_yX2_isPerson (RC.ofM _ rfl) (by decide) (by decide) rfl (Nat.le_of_ble_eq_true rfl) dX2_isOnRoll_3 (qI.k (fun r_3 s_3 q_3 => ?_))
  obtain ⟨e1q_3, e2q_3⟩ := q_3
  subst r_3
  subst s_3
  refine j_callV (pc := 6) (m_asked1 σ (bI (0 ≤ p ∧ p ≤ σ.1 9 - 1)) (bI_01 _)) (lw_V q1546 q1548 qs21 q48 q1549) rfl md_yX2_asked_2 (RC.ofM _ rfl) (by decide) (by decide) rfl (Nat.le_of_ble_eq_true rfl) dX2_isOnRoll_6 (qI.k (fun r_6 s_6 q_6 => ?_))
  rcases q_6 with ⟨q_6a, rfl, rfl⟩ | ⟨q_6a, rfl, rfl⟩
  · have q_6_0 := bI_or ((0 ≤ p ∧ p ≤ σ.1 9 - 1))
    refine j_if_eq (pc := 9) (tgt := 26) dX2_isOnRoll_9 (by decide) (by decide) (fun c_9 => ?_) (fun c_9 => ?_)
    · exact absurd c_9 (by decide)
    · refine j_aload_n (pc := 12) dX2_isOnRoll_12 rfl ?_
      refine m_getA (pc := 13) fa_X2_48_X2 (by decide) (by decide) dX2_isOnRoll_13 ?_
      refine j_iload_n (pc := 16) dX2_isOnRoll_16 rfl ?_
      refine m_ld (pc := 17) (v := σ.2 20 (p).toNat) (by decide) (by decide) rfl (by show 0 ≤ p ∧ p < ((20 : Nat) : Int); omega) rfl dX2_isOnRoll_17 ?_
      have n_1 : (-1) ≤ σ.2 20 (p).toNat ∧ σ.2 20 (p).toNat ≤ 4 := hB.2 20 ((p).toNat)
      refine j_iconst (pc := 18) dX2_isOnRoll_18 rfl ?_
      refine j_icmp_eq (pc := 19) (tgt := 26) dX2_isOnRoll_19 (by decide) (by omega) (by decide) (fun c_19 => ?_) (fun c_19 => ?_)
      · refine j_iconst (pc := 26) dX2_isOnRoll_26 rfl ?_
        refine j_zret (pc := 27) rfl (Or.inl rfl) (hQ _ _ ?_) dX2_isOnRoll_27
        exact Or.inl ⟨by unfold t1; (repeat' split) <;> omega, by unfold bI; split <;> omega, rfl⟩
      · refine j_iconst (pc := 22) dX2_isOnRoll_22 rfl ?_
        refine j_goto (pc := 23) (tgt := 27) dX2_isOnRoll_23 (by decide) ?_
        refine j_zret (pc := 27) rfl (Or.inr rfl) (hQ _ _ ?_) dX2_isOnRoll_27
        exact Or.inl ⟨by unfold t1; (repeat' split) <;> omega, by unfold bI; split <;> omega, rfl⟩
  · have q_6_0 := bI_or ((0 ≤ p ∧ p ≤ σ.1 9 - 1))
    refine j_if_eq (pc := 9) (tgt := 26) dX2_isOnRoll_9 (by decide) (by decide) (fun c_9_1 => ?_) (fun c_9_1 => ?_)
    · refine j_iconst (pc := 26) dX2_isOnRoll_26 rfl ?_
      refine j_zret (pc := 27) rfl (Or.inl rfl) (hQ _ _ ?_) dX2_isOnRoll_27
      exact Or.inr ⟨by unfold t1; (repeat' split) <;> omega, rfl, by congr 1; unfold t1; (repeat' split) <;> omega⟩
    · exact absurd c_9_1 (by decide)

set_option maxHeartbeats 4000000 in
theorem m_stationOf {Γ : GG} {l : Launch} {o : Nat} {ad : Nat → Nat} (σ : MM) (p : Int) (hp : RR p) (hB : Bd σ) : Ct Γ (AM o ad) (RepM Γ o ad) l yX2_stationOf (ws_ yX2_stationOf cX2_stationOf 2 (some .int)) 4 0 0 [.ref o, IV p] σ (qI (fun (r : Int) (σ' : MM) => oEnd σ (t1 (isP σ p)) (σ.2 20 p.toNat) (σ0 σ) r σ')) X0 := by
  refine Ct.ofJ (own := RX2) (nm := "stationOf") (lo := [some (.ref o), some (IV p)]) pn_X2 rfl rfl (List.forall_mem_cons.mpr ⟨rfl, (List.forall_mem_cons.mpr ⟨rfl, (fun _ h => nomatch h)⟩)⟩) (Nat.le_of_ble_eq_true rfl) rfl ?_
  have hQ : ∀ (r : Int) (σ' : MM), (oEnd σ (t1 (isP σ p)) (σ.2 20 p.toNat) (σ0 σ) r σ') → (qI (fun (r : Int) (σ' : MM) => oEnd σ (t1 (isP σ p)) (σ.2 20 p.toNat) (σ0 σ) r σ')) (some (IV r)) σ' := fun r σ' h => ⟨r, rfl, h⟩
  generalize (qI (fun (r : Int) (σ' : MM) => oEnd σ (t1 (isP σ p)) (σ.2 20 p.toNat) (σ0 σ) r σ')) = QP at hQ ⊢
  have n6 : 0 ≤ σ.1 6 ∧ σ.1 6 ≤ 5 := hB.1 6
  have n9 : 0 ≤ σ.1 9 ∧ σ.1 9 ≤ 20 := hB.1 9
  have n0 : 0 ≤ σ.1 0 ∧ σ.1 0 ≤ 2100 := hB.1 0
  have n14 : 0 ≤ σ.1 14 ∧ σ.1 14 ≤ 5 := hB.1 14
  have n26 : 0 ≤ σ.1 26 ∧ σ.1 26 ≤ 60 := hB.1 26
  refine j_aload_n (pc := 0) dX2_stationOf_0 rfl ?_
  refine j_aload_n (pc := 1) dX2_stationOf_1 rfl ?_
  refine j_iload_n (pc := 2) dX2_stationOf_2 rfl ?_
  refine j_callV (pc := 3) (m_isPerson σ p (by omega) (show 0 ≤ σ.1 9 ∧ σ.1 9 ≤ 20 by omega)) (lw_V q1582 q1584 qs26 q48 q1585) rfl md_yX2_isPerson (RC.ofM _ rfl) (by decide) (by decide) rfl (Nat.le_of_ble_eq_true rfl) dX2_stationOf_3 (qI.k (fun r_3 s_3 q_3 => ?_))
  obtain ⟨e1q_3, e2q_3⟩ := q_3
  subst r_3
  subst s_3
  refine j_callV (pc := 6) (m_asked1 σ (bI (0 ≤ p ∧ p ≤ σ.1 9 - 1)) (bI_01 _)) (lw_V q1546 q1548 qs21 q48 q1549) rfl md_yX2_asked_2 (RC.ofM _ rfl) (by decide) (by decide) rfl (Nat.le_of_ble_eq_true rfl) dX2_stationOf_6 (qI.k (fun r_6 s_6 q_6 => ?_))
  rcases q_6 with ⟨q_6a, rfl, rfl⟩ | ⟨q_6a, rfl, rfl⟩
  · have q_6_0 := bI_or ((0 ≤ p ∧ p ≤ σ.1 9 - 1))
    refine j_if_eq (pc := 9) (tgt := 21) dX2_stationOf_9 (by decide) (by decide) (fun c_9 => ?_) (fun c_9 => ?_)
    · exact absurd c_9 (by decide)
    · refine j_aload_n (pc := 12) dX2_stationOf_12 rfl ?_
      refine m_getA (pc := 13) fa_X2_48_X2 (by decide) (by decide) dX2_stationOf_13 ?_
      refine j_iload_n (pc := 16) dX2_stationOf_16 rfl ?_
      refine m_ld (pc := 17) (v := σ.2 20 (p).toNat) (by decide) (by decide) rfl (by show 0 ≤ p ∧ p < ((20 : Nat) : Int); omega) rfl dX2_stationOf_17 ?_
      have n_1 : (-1) ≤ σ.2 20 (p).toNat ∧ σ.2 20 (p).toNat ≤ 4 := hB.2 20 ((p).toNat)
      refine j_goto (pc := 18) (tgt := 22) dX2_stationOf_18 (by decide) ?_
      refine j_iret (pc := 22) rfl (hQ _ _ ?_) dX2_stationOf_22
      exact Or.inl ⟨by unfold t1; (repeat' split) <;> omega, rfl, rfl⟩
  · have q_6_0 := bI_or ((0 ≤ p ∧ p ≤ σ.1 9 - 1))
    refine j_if_eq (pc := 9) (tgt := 21) dX2_stationOf_9 (by decide) (by decide) (fun c_9_1 => ?_) (fun c_9_1 => ?_)
    · refine j_iconst (pc := 21) dX2_stationOf_21 rfl ?_
      refine j_iret (pc := 22) rfl (hQ _ _ ?_) dX2_stationOf_22
      exact Or.inr ⟨by unfold t1; (repeat' split) <;> omega, rfl, by congr 1; unfold t1; (repeat' split) <;> omega⟩
    · exact absurd c_9_1 (by decide)

theorem md_yX2_isStation : MD yX2_isStation 1 := by decide +kernel
theorem fa_X2_51_X2 : FA RX2 51 1 21 := ⟨RX2, TX2, 44, "BallotFoundryModel", rfl, in_X2, by decide, q1409, Or.inl rfl⟩
set_option maxHeartbeats 4000000 in
theorem m_peopleOf {Γ : GG} {l : Launch} {o : Nat} {ad : Nat → Nat} (σ : MM) (p : Int) (hp : RR p) (hB : Bd σ) : Ct Γ (AM o ad) (RepM Γ o ad) l yX2_peopleOf (ws_ yX2_peopleOf cX2_peopleOf 2 (some .int)) 4 0 0 [.ref o, IV p] σ (qI (fun (r : Int) (σ' : MM) => oEnd σ (t1 (isS σ p)) (σ.2 21 p.toNat) (σ0 σ) r σ')) X0 := by
  refine Ct.ofJ (own := RX2) (nm := "peopleOf") (lo := [some (.ref o), some (IV p)]) pn_X2 rfl rfl (List.forall_mem_cons.mpr ⟨rfl, (List.forall_mem_cons.mpr ⟨rfl, (fun _ h => nomatch h)⟩)⟩) (Nat.le_of_ble_eq_true rfl) rfl ?_
  have hQ : ∀ (r : Int) (σ' : MM), (oEnd σ (t1 (isS σ p)) (σ.2 21 p.toNat) (σ0 σ) r σ') → (qI (fun (r : Int) (σ' : MM) => oEnd σ (t1 (isS σ p)) (σ.2 21 p.toNat) (σ0 σ) r σ')) (some (IV r)) σ' := fun r σ' h => ⟨r, rfl, h⟩
  generalize (qI (fun (r : Int) (σ' : MM) => oEnd σ (t1 (isS σ p)) (σ.2 21 p.toNat) (σ0 σ) r σ')) = QP at hQ ⊢
  have n6 : 0 ≤ σ.1 6 ∧ σ.1 6 ≤ 5 := hB.1 6
  have n9 : 0 ≤ σ.1 9 ∧ σ.1 9 ≤ 20 := hB.1 9
  have n0 : 0 ≤ σ.1 0 ∧ σ.1 0 ≤ 2100 := hB.1 0
  have n14 : 0 ≤ σ.1 14 ∧ σ.1 14 ≤ 5 := hB.1 14
  have n26 : 0 ≤ σ.1 26 ∧ σ.1 26 ≤ 60 := hB.1 26
  refine j_aload_n (pc := 0) dX2_peopleOf_0 rfl ?_
  refine j_aload_n (pc := 1) dX2_peopleOf_1 rfl ?_
  refine j_iload_n (pc := 2) dX2_peopleOf_2 rfl ?_
  refine j_callV (pc := 3) (m_isStation σ p (by omega) (show 0 ≤ σ.1 6 ∧ σ.1 6 ≤ 5 by omega)) (lw_V q1566 q1568 qs24 q48 q1569) rfl md_yX2_isStation (RC.ofM _ rfl) (by decide) (by decide) rfl (Nat.le_of_ble_eq_true rfl) dX2_peopleOf_3 (qI.k (fun r_3 s_3 q_3 => ?_))
  obtain ⟨e1q_3, e2q_3⟩ := q_3
  subst r_3
  subst s_3
  refine j_callV (pc := 6) (m_asked1 σ (bI (0 ≤ p ∧ p ≤ σ.1 6 - 1)) (bI_01 _)) (lw_V q1546 q1548 qs21 q48 q1549) rfl md_yX2_asked_2 (RC.ofM _ rfl) (by decide) (by decide) rfl (Nat.le_of_ble_eq_true rfl) dX2_peopleOf_6 (qI.k (fun r_6 s_6 q_6 => ?_))
  rcases q_6 with ⟨q_6a, rfl, rfl⟩ | ⟨q_6a, rfl, rfl⟩
  · have q_6_0 := bI_or ((0 ≤ p ∧ p ≤ σ.1 6 - 1))
    refine j_if_eq (pc := 9) (tgt := 21) dX2_peopleOf_9 (by decide) (by decide) (fun c_9 => ?_) (fun c_9 => ?_)
    · exact absurd c_9 (by decide)
    · refine j_aload_n (pc := 12) dX2_peopleOf_12 rfl ?_
      refine m_getA (pc := 13) fa_X2_51_X2 (by decide) (by decide) dX2_peopleOf_13 ?_
      refine j_iload_n (pc := 16) dX2_peopleOf_16 rfl ?_
      refine m_ld (pc := 17) (v := σ.2 21 (p).toNat) (by decide) (by decide) rfl (by show 0 ≤ p ∧ p < ((5 : Nat) : Int); omega) rfl dX2_peopleOf_17 ?_
      have n_1 : 0 ≤ σ.2 21 (p).toNat ∧ σ.2 21 (p).toNat ≤ 20 := hB.2 21 ((p).toNat)
      refine j_goto (pc := 18) (tgt := 22) dX2_peopleOf_18 (by decide) ?_
      refine j_iret (pc := 22) rfl (hQ _ _ ?_) dX2_peopleOf_22
      exact Or.inl ⟨by unfold t1; (repeat' split) <;> omega, rfl, rfl⟩
  · have q_6_0 := bI_or ((0 ≤ p ∧ p ≤ σ.1 6 - 1))
    refine j_if_eq (pc := 9) (tgt := 21) dX2_peopleOf_9 (by decide) (by decide) (fun c_9_1 => ?_) (fun c_9_1 => ?_)
    · refine j_iconst (pc := 21) dX2_peopleOf_21 rfl ?_
      refine j_iret (pc := 22) rfl (hQ _ _ ?_) dX2_peopleOf_22
      exact Or.inr ⟨by unfold t1; (repeat' split) <;> omega, rfl, by congr 1; unfold t1; (repeat' split) <;> omega⟩
    · exact absurd c_9_1 (by decide)

set_option maxHeartbeats 4000000 in
theorem m_ballots {Γ : GG} {l : Launch} {o : Nat} {ad : Nat → Nat} (σ : MM) (p : Int) (hp : RR p) (hB : Bd σ) : Ct Γ (AM o ad) (RepM Γ o ad) l yX2_ballots (ws_ yX2_ballots cX2_ballots 2 (some .int)) 4 0 0 [.ref o, IV p] σ (qI (fun (r : Int) (σ' : MM) => oEnd σ (t1 (isS σ p)) (σ.2 28 p.toNat) (σ0 σ) r σ')) X0 := by
  refine Ct.ofJ (own := RX2) (nm := "ballots") (lo := [some (.ref o), some (IV p)]) pn_X2 rfl rfl (List.forall_mem_cons.mpr ⟨rfl, (List.forall_mem_cons.mpr ⟨rfl, (fun _ h => nomatch h)⟩)⟩) (Nat.le_of_ble_eq_true rfl) rfl ?_
  have hQ : ∀ (r : Int) (σ' : MM), (oEnd σ (t1 (isS σ p)) (σ.2 28 p.toNat) (σ0 σ) r σ') → (qI (fun (r : Int) (σ' : MM) => oEnd σ (t1 (isS σ p)) (σ.2 28 p.toNat) (σ0 σ) r σ')) (some (IV r)) σ' := fun r σ' h => ⟨r, rfl, h⟩
  generalize (qI (fun (r : Int) (σ' : MM) => oEnd σ (t1 (isS σ p)) (σ.2 28 p.toNat) (σ0 σ) r σ')) = QP at hQ ⊢
  have n6 : 0 ≤ σ.1 6 ∧ σ.1 6 ≤ 5 := hB.1 6
  have n9 : 0 ≤ σ.1 9 ∧ σ.1 9 ≤ 20 := hB.1 9
  have n0 : 0 ≤ σ.1 0 ∧ σ.1 0 ≤ 2100 := hB.1 0
  have n14 : 0 ≤ σ.1 14 ∧ σ.1 14 ≤ 5 := hB.1 14
  have n26 : 0 ≤ σ.1 26 ∧ σ.1 26 ≤ 60 := hB.1 26
  refine j_aload_n (pc := 0) dX2_ballots_0 rfl ?_
  refine j_aload_n (pc := 1) dX2_ballots_1 rfl ?_
  refine j_iload_n (pc := 2) dX2_ballots_2 rfl ?_
  refine j_callV (pc := 3) (m_isStation σ p (by omega) (show 0 ≤ σ.1 6 ∧ σ.1 6 ≤ 5 by omega)) (lw_V q1566 q1568 qs24 q48 q1569) rfl md_yX2_isStation (RC.ofM _ rfl) (by decide) (by decide) rfl (Nat.le_of_ble_eq_true rfl) dX2_ballots_3 (qI.k (fun r_3 s_3 q_3 => ?_))
  obtain ⟨e1q_3, e2q_3⟩ := q_3
  subst r_3
  subst s_3
  refine j_callV (pc := 6) (m_asked1 σ (bI (0 ≤ p ∧ p ≤ σ.1 6 - 1)) (bI_01 _)) (lw_V q1546 q1548 qs21 q48 q1549) rfl md_yX2_asked_2 (RC.ofM _ rfl) (by decide) (by decide) rfl (Nat.le_of_ble_eq_true rfl) dX2_ballots_6 (qI.k (fun r_6 s_6 q_6 => ?_))
  rcases q_6 with ⟨q_6a, rfl, rfl⟩ | ⟨q_6a, rfl, rfl⟩
  · have q_6_0 := bI_or ((0 ≤ p ∧ p ≤ σ.1 6 - 1))
    refine j_if_eq (pc := 9) (tgt := 21) dX2_ballots_9 (by decide) (by decide) (fun c_9 => ?_) (fun c_9 => ?_)
    · exact absurd c_9 (by decide)
    · refine j_aload_n (pc := 12) dX2_ballots_12 rfl ?_
      refine m_getA (pc := 13) fa_X2_69_X2 (by decide) (by decide) dX2_ballots_13 ?_
      refine j_iload_n (pc := 16) dX2_ballots_16 rfl ?_
      refine m_ld (pc := 17) (v := σ.2 28 (p).toNat) (by decide) (by decide) rfl (by show 0 ≤ p ∧ p < ((5 : Nat) : Int); omega) rfl dX2_ballots_17 ?_
      have n_1 : 0 ≤ σ.2 28 (p).toNat ∧ σ.2 28 (p).toNat ≤ 20 := hB.2 28 ((p).toNat)
      refine j_goto (pc := 18) (tgt := 22) dX2_ballots_18 (by decide) ?_
      refine j_iret (pc := 22) rfl (hQ _ _ ?_) dX2_ballots_22
      exact Or.inl ⟨by unfold t1; (repeat' split) <;> omega, rfl, rfl⟩
  · have q_6_0 := bI_or ((0 ≤ p ∧ p ≤ σ.1 6 - 1))
    refine j_if_eq (pc := 9) (tgt := 21) dX2_ballots_9 (by decide) (by decide) (fun c_9_1 => ?_) (fun c_9_1 => ?_)
    · refine j_iconst (pc := 21) dX2_ballots_21 rfl ?_
      refine j_iret (pc := 22) rfl (hQ _ _ ?_) dX2_ballots_22
      exact Or.inr ⟨by unfold t1; (repeat' split) <;> omega, rfl, by congr 1; unfold t1; (repeat' split) <;> omega⟩
    · exact absurd c_9_1 (by decide)

set_option maxHeartbeats 4000000 in
theorem m_stateOf {Γ : GG} {l : Launch} {o : Nat} {ad : Nat → Nat} (σ : MM) (p : Int) (hp : RR p) (hB : Bd σ) : Ct Γ (AM o ad) (RepM Γ o ad) l yX2_stateOf (ws_ yX2_stateOf cX2_stateOf 2 (some .int)) 4 0 0 [.ref o, IV p] σ (qI (fun (r : Int) (σ' : MM) => oEnd σ (t1 (0 ≤ p ∧ p ≤ σ.1 26 - 1)) (σ.2 25 p.toNat) (σ0 σ) r σ')) X0 := by
  refine Ct.ofJ (own := RX2) (nm := "stateOf") (lo := [some (.ref o), some (IV p)]) pn_X2 rfl rfl (List.forall_mem_cons.mpr ⟨rfl, (List.forall_mem_cons.mpr ⟨rfl, (fun _ h => nomatch h)⟩)⟩) (Nat.le_of_ble_eq_true rfl) rfl ?_
  have hQ : ∀ (r : Int) (σ' : MM), (oEnd σ (t1 (0 ≤ p ∧ p ≤ σ.1 26 - 1)) (σ.2 25 p.toNat) (σ0 σ) r σ') → (qI (fun (r : Int) (σ' : MM) => oEnd σ (t1 (0 ≤ p ∧ p ≤ σ.1 26 - 1)) (σ.2 25 p.toNat) (σ0 σ) r σ')) (some (IV r)) σ' := fun r σ' h => ⟨r, rfl, h⟩
  generalize (qI (fun (r : Int) (σ' : MM) => oEnd σ (t1 (0 ≤ p ∧ p ≤ σ.1 26 - 1)) (σ.2 25 p.toNat) (σ0 σ) r σ')) = QP at hQ ⊢
  have n6 : 0 ≤ σ.1 6 ∧ σ.1 6 ≤ 5 := hB.1 6
  have n9 : 0 ≤ σ.1 9 ∧ σ.1 9 ≤ 20 := hB.1 9
  have n0 : 0 ≤ σ.1 0 ∧ σ.1 0 ≤ 2100 := hB.1 0
  have n14 : 0 ≤ σ.1 14 ∧ σ.1 14 ≤ 5 := hB.1 14
  have n26 : 0 ≤ σ.1 26 ∧ σ.1 26 ≤ 60 := hB.1 26
  refine j_aload_n (pc := 0) dX2_stateOf_0 rfl ?_
  refine j_iload_n (pc := 1) dX2_stateOf_1 rfl ?_
  refine j_iconst (pc := 2) dX2_stateOf_2 rfl ?_
  refine j_aload_n (pc := 3) dX2_stateOf_3 rfl ?_
  refine m_getI (pc := 4) (v := σ.1 26) fa_X2_165_X2 (by decide) rfl rfl dX2_stateOf_4 ?_
  have n_1 : 0 ≤ σ.1 26 ∧ σ.1 26 ≤ 60 := hB.1 26
  refine j_iconst (pc := 7) dX2_stateOf_7 rfl ?_
  refine j_isub (pc := 8) dX2_stateOf_8 ?_
  refine j_callS (pc := 9) (m_in σ p 0 ((σ.1 26) - 1) (by omega) (by decide) (by omega)) (lw_S q1532 q1533 q48 q1534) md_yX2_in (by decide) (by decide) rfl (Nat.le_of_ble_eq_true rfl) dX2_stateOf_9 (qI.k (fun r_9 s_9 q_9 => ?_))
  obtain ⟨e1q_9, e2q_9⟩ := q_9
  subst r_9
  subst s_9
  refine j_callV (pc := 12) (m_asked1 σ (bI (0 ≤ p ∧ p ≤ ((σ.1 26) - 1))) (bI_01 _)) (lw_V q1546 q1548 qs21 q48 q1549) rfl md_yX2_asked_2 (RC.ofM _ rfl) (by decide) (by decide) rfl (Nat.le_of_ble_eq_true rfl) dX2_stateOf_12 (qI.k (fun r_12 s_12 q_12 => ?_))
  rcases q_12 with ⟨q_12a, rfl, rfl⟩ | ⟨q_12a, rfl, rfl⟩
  · have q_12_0 := bI_or ((0 ≤ p ∧ p ≤ ((σ.1 26) - 1)))
    refine j_if_eq (pc := 15) (tgt := 27) dX2_stateOf_15 (by decide) (by decide) (fun c_15 => ?_) (fun c_15 => ?_)
    · exact absurd c_15 (by decide)
    · refine j_aload_n (pc := 18) dX2_stateOf_18 rfl ?_
      refine m_getA (pc := 19) fa_X2_63_X2 (by decide) (by decide) dX2_stateOf_19 ?_
      refine j_iload_n (pc := 22) dX2_stateOf_22 rfl ?_
      refine m_ld (pc := 23) (v := σ.2 25 (p).toNat) (by decide) (by decide) rfl (by show 0 ≤ p ∧ p < ((60 : Nat) : Int); omega) rfl dX2_stateOf_23 ?_
      have n_2 : 0 ≤ σ.2 25 (p).toNat ∧ σ.2 25 (p).toNat ≤ 2 := hB.2 25 ((p).toNat)
      refine j_goto (pc := 24) (tgt := 28) dX2_stateOf_24 (by decide) ?_
      refine j_iret (pc := 28) rfl (hQ _ _ ?_) dX2_stateOf_28
      exact Or.inl ⟨by unfold t1; (repeat' split) <;> omega, rfl, rfl⟩
  · have q_12_0 := bI_or ((0 ≤ p ∧ p ≤ ((σ.1 26) - 1)))
    refine j_if_eq (pc := 15) (tgt := 27) dX2_stateOf_15 (by decide) (by decide) (fun c_15_1 => ?_) (fun c_15_1 => ?_)
    · refine j_iconst (pc := 27) dX2_stateOf_27 rfl ?_
      refine j_iret (pc := 28) rfl (hQ _ _ ?_) dX2_stateOf_28
      exact Or.inr ⟨by unfold t1; (repeat' split) <;> omega, rfl, by congr 1; unfold t1; (repeat' split) <;> omega⟩
    · exact absurd c_15_1 (by decide)

set_option maxHeartbeats 4000000 in
theorem m_personOf {Γ : GG} {l : Launch} {o : Nat} {ad : Nat → Nat} (σ : MM) (p : Int) (hp : RR p) (hB : Bd σ) : Ct Γ (AM o ad) (RepM Γ o ad) l yX2_personOf (ws_ yX2_personOf cX2_personOf 2 (some .int)) 4 0 0 [.ref o, IV p] σ (qI (fun (r : Int) (σ' : MM) => oEnd σ (t1 (0 ≤ p ∧ p ≤ σ.1 26 - 1)) (σ.2 23 p.toNat) (σ0 σ) r σ')) X0 := by
  refine Ct.ofJ (own := RX2) (nm := "personOf") (lo := [some (.ref o), some (IV p)]) pn_X2 rfl rfl (List.forall_mem_cons.mpr ⟨rfl, (List.forall_mem_cons.mpr ⟨rfl, (fun _ h => nomatch h)⟩)⟩) (Nat.le_of_ble_eq_true rfl) rfl ?_
  have hQ : ∀ (r : Int) (σ' : MM), (oEnd σ (t1 (0 ≤ p ∧ p ≤ σ.1 26 - 1)) (σ.2 23 p.toNat) (σ0 σ) r σ') → (qI (fun (r : Int) (σ' : MM) => oEnd σ (t1 (0 ≤ p ∧ p ≤ σ.1 26 - 1)) (σ.2 23 p.toNat) (σ0 σ) r σ')) (some (IV r)) σ' := fun r σ' h => ⟨r, rfl, h⟩
  generalize (qI (fun (r : Int) (σ' : MM) => oEnd σ (t1 (0 ≤ p ∧ p ≤ σ.1 26 - 1)) (σ.2 23 p.toNat) (σ0 σ) r σ')) = QP at hQ ⊢
  have n6 : 0 ≤ σ.1 6 ∧ σ.1 6 ≤ 5 := hB.1 6
  have n9 : 0 ≤ σ.1 9 ∧ σ.1 9 ≤ 20 := hB.1 9
  have n0 : 0 ≤ σ.1 0 ∧ σ.1 0 ≤ 2100 := hB.1 0
  have n14 : 0 ≤ σ.1 14 ∧ σ.1 14 ≤ 5 := hB.1 14
  have n26 : 0 ≤ σ.1 26 ∧ σ.1 26 ≤ 60 := hB.1 26
  refine j_aload_n (pc := 0) dX2_personOf_0 rfl ?_
  refine j_iload_n (pc := 1) dX2_personOf_1 rfl ?_
  refine j_iconst (pc := 2) dX2_personOf_2 rfl ?_
  refine j_aload_n (pc := 3) dX2_personOf_3 rfl ?_
  refine m_getI (pc := 4) (v := σ.1 26) fa_X2_165_X2 (by decide) rfl rfl dX2_personOf_4 ?_
  have n_1 : 0 ≤ σ.1 26 ∧ σ.1 26 ≤ 60 := hB.1 26
  refine j_iconst (pc := 7) dX2_personOf_7 rfl ?_
  refine j_isub (pc := 8) dX2_personOf_8 ?_
  refine j_callS (pc := 9) (m_in σ p 0 ((σ.1 26) - 1) (by omega) (by decide) (by omega)) (lw_S q1532 q1533 q48 q1534) md_yX2_in (by decide) (by decide) rfl (Nat.le_of_ble_eq_true rfl) dX2_personOf_9 (qI.k (fun r_9 s_9 q_9 => ?_))
  obtain ⟨e1q_9, e2q_9⟩ := q_9
  subst r_9
  subst s_9
  refine j_callV (pc := 12) (m_asked1 σ (bI (0 ≤ p ∧ p ≤ ((σ.1 26) - 1))) (bI_01 _)) (lw_V q1546 q1548 qs21 q48 q1549) rfl md_yX2_asked_2 (RC.ofM _ rfl) (by decide) (by decide) rfl (Nat.le_of_ble_eq_true rfl) dX2_personOf_12 (qI.k (fun r_12 s_12 q_12 => ?_))
  rcases q_12 with ⟨q_12a, rfl, rfl⟩ | ⟨q_12a, rfl, rfl⟩
  · have q_12_0 := bI_or ((0 ≤ p ∧ p ≤ ((σ.1 26) - 1)))
    refine j_if_eq (pc := 15) (tgt := 27) dX2_personOf_15 (by decide) (by decide) (fun c_15 => ?_) (fun c_15 => ?_)
    · exact absurd c_15 (by decide)
    · refine j_aload_n (pc := 18) dX2_personOf_18 rfl ?_
      refine m_getA (pc := 19) fa_X2_57_X2 (by decide) (by decide) dX2_personOf_19 ?_
      refine j_iload_n (pc := 22) dX2_personOf_22 rfl ?_
      refine m_ld (pc := 23) (v := σ.2 23 (p).toNat) (by decide) (by decide) rfl (by show 0 ≤ p ∧ p < ((60 : Nat) : Int); omega) rfl dX2_personOf_23 ?_
      have n_2 : 0 ≤ σ.2 23 (p).toNat ∧ σ.2 23 (p).toNat ≤ 19 := hB.2 23 ((p).toNat)
      refine j_goto (pc := 24) (tgt := 28) dX2_personOf_24 (by decide) ?_
      refine j_iret (pc := 28) rfl (hQ _ _ ?_) dX2_personOf_28
      exact Or.inl ⟨by unfold t1; (repeat' split) <;> omega, rfl, rfl⟩
  · have q_12_0 := bI_or ((0 ≤ p ∧ p ≤ ((σ.1 26) - 1)))
    refine j_if_eq (pc := 15) (tgt := 27) dX2_personOf_15 (by decide) (by decide) (fun c_15_1 => ?_) (fun c_15_1 => ?_)
    · refine j_iconst (pc := 27) dX2_personOf_27 rfl ?_
      refine j_iret (pc := 28) rfl (hQ _ _ ?_) dX2_personOf_28
      exact Or.inr ⟨by unfold t1; (repeat' split) <;> omega, rfl, by congr 1; unfold t1; (repeat' split) <;> omega⟩
    · exact absurd c_15_1 (by decide)

theorem fa_X2_81_X2 : FA RX2 81 1 32 := ⟨RX2, TX2, 44, "BallotFoundryModel", rfl, in_X2, by decide, q1420, Or.inl rfl⟩
set_option maxHeartbeats 4000000 in
theorem m_isSettled {Γ : GG} {l : Launch} {o : Nat} {ad : Nat → Nat} (σ : MM) (p : Int) (hp : RR p) (hB : Bd σ) : Ct Γ (AM o ad) (RepM Γ o ad) l yX2_isSettled (ws_ yX2_isSettled cX2_isSettled 2 (some .boolean)) 4 0 0 [.ref o, IV p] σ (qI (fun (r : Int) (σ' : MM) => oEnd σ (t1 (isS σ p)) (bI (σ.2 32 p.toNat ≠ -1)) (σ0 σ) r σ')) X0 := by
  refine Ct.ofJ (own := RX2) (nm := "isSettled") (lo := [some (.ref o), some (IV p)]) pn_X2 rfl rfl (List.forall_mem_cons.mpr ⟨rfl, (List.forall_mem_cons.mpr ⟨rfl, (fun _ h => nomatch h)⟩)⟩) (Nat.le_of_ble_eq_true rfl) rfl ?_
  have hQ : ∀ (r : Int) (σ' : MM), (oEnd σ (t1 (isS σ p)) (bI (σ.2 32 p.toNat ≠ -1)) (σ0 σ) r σ') → (qI (fun (r : Int) (σ' : MM) => oEnd σ (t1 (isS σ p)) (bI (σ.2 32 p.toNat ≠ -1)) (σ0 σ) r σ')) (some (IV r)) σ' := fun r σ' h => ⟨r, rfl, h⟩
  generalize (qI (fun (r : Int) (σ' : MM) => oEnd σ (t1 (isS σ p)) (bI (σ.2 32 p.toNat ≠ -1)) (σ0 σ) r σ')) = QP at hQ ⊢
  have n6 : 0 ≤ σ.1 6 ∧ σ.1 6 ≤ 5 := hB.1 6
  have n9 : 0 ≤ σ.1 9 ∧ σ.1 9 ≤ 20 := hB.1 9
  have n0 : 0 ≤ σ.1 0 ∧ σ.1 0 ≤ 2100 := hB.1 0
  have n14 : 0 ≤ σ.1 14 ∧ σ.1 14 ≤ 5 := hB.1 14
  have n26 : 0 ≤ σ.1 26 ∧ σ.1 26 ≤ 60 := hB.1 26
  refine j_aload_n (pc := 0) dX2_isSettled_0 rfl ?_
  refine j_aload_n (pc := 1) dX2_isSettled_1 rfl ?_
  refine j_iload_n (pc := 2) dX2_isSettled_2 rfl ?_
  refine j_callV (pc := 3) (m_isStation σ p (by omega) (show 0 ≤ σ.1 6 ∧ σ.1 6 ≤ 5 by omega)) (lw_V q1566 q1568 qs24 q48 q1569) rfl md_yX2_isStation (RC.ofM _ rfl) (by decide) (by decide) rfl (Nat.le_of_ble_eq_true rfl) dX2_isSettled_3 (qI.k (fun r_3 s_3 q_3 => ?_))
  obtain ⟨e1q_3, e2q_3⟩ := q_3
  subst r_3
  subst s_3
  refine j_callV (pc := 6) (m_asked1 σ (bI (0 ≤ p ∧ p ≤ σ.1 6 - 1)) (bI_01 _)) (lw_V q1546 q1548 qs21 q48 q1549) rfl md_yX2_asked_2 (RC.ofM _ rfl) (by decide) (by decide) rfl (Nat.le_of_ble_eq_true rfl) dX2_isSettled_6 (qI.k (fun r_6 s_6 q_6 => ?_))
  rcases q_6 with ⟨q_6a, rfl, rfl⟩ | ⟨q_6a, rfl, rfl⟩
  · have q_6_0 := bI_or ((0 ≤ p ∧ p ≤ σ.1 6 - 1))
    refine j_if_eq (pc := 9) (tgt := 26) dX2_isSettled_9 (by decide) (by decide) (fun c_9 => ?_) (fun c_9 => ?_)
    · exact absurd c_9 (by decide)
    · refine j_aload_n (pc := 12) dX2_isSettled_12 rfl ?_
      refine m_getA (pc := 13) fa_X2_81_X2 (by decide) (by decide) dX2_isSettled_13 ?_
      refine j_iload_n (pc := 16) dX2_isSettled_16 rfl ?_
      refine m_ld (pc := 17) (v := σ.2 32 (p).toNat) (by decide) (by decide) rfl (by show 0 ≤ p ∧ p < ((5 : Nat) : Int); omega) rfl dX2_isSettled_17 ?_
      have n_1 : (-1) ≤ σ.2 32 (p).toNat ∧ σ.2 32 (p).toNat ≤ 39 := hB.2 32 ((p).toNat)
      refine j_iconst (pc := 18) dX2_isSettled_18 rfl ?_
      refine j_icmp_eq (pc := 19) (tgt := 26) dX2_isSettled_19 (by decide) (by omega) (by decide) (fun c_19 => ?_) (fun c_19 => ?_)
      · refine j_iconst (pc := 26) dX2_isSettled_26 rfl ?_
        refine j_zret (pc := 27) rfl (Or.inl rfl) (hQ _ _ ?_) dX2_isSettled_27
        exact Or.inl ⟨by unfold t1; (repeat' split) <;> omega, by unfold bI; split <;> omega, rfl⟩
      · refine j_iconst (pc := 22) dX2_isSettled_22 rfl ?_
        refine j_goto (pc := 23) (tgt := 27) dX2_isSettled_23 (by decide) ?_
        refine j_zret (pc := 27) rfl (Or.inr rfl) (hQ _ _ ?_) dX2_isSettled_27
        exact Or.inl ⟨by unfold t1; (repeat' split) <;> omega, by unfold bI; split <;> omega, rfl⟩
  · have q_6_0 := bI_or ((0 ≤ p ∧ p ≤ σ.1 6 - 1))
    refine j_if_eq (pc := 9) (tgt := 26) dX2_isSettled_9 (by decide) (by decide) (fun c_9_1 => ?_) (fun c_9_1 => ?_)
    · refine j_iconst (pc := 26) dX2_isSettled_26 rfl ?_
      refine j_zret (pc := 27) rfl (Or.inl rfl) (hQ _ _ ?_) dX2_isSettled_27
      exact Or.inr ⟨by unfold t1; (repeat' split) <;> omega, rfl, by congr 1; unfold t1; (repeat' split) <;> omega⟩
    · exact absurd c_9_1 (by decide)

theorem md_yX2_asked : MD yX2_asked 2 := by decide +kernel
theorem md_yX2_dwelt : MD yX2_dwelt 2 := by decide +kernel
set_option maxHeartbeats 4000000 in
theorem m_dwells {Γ : GG} {l : Launch} {o : Nat} {ad : Nat → Nat} (σ : MM) (p : Int) (t : Int) (hp : RR p) (ht : RR t) (hB : Bd σ) : Ct Γ (AM o ad) (RepM Γ o ad) l yX2_dwells (ws_ yX2_dwells cX2_dwells 3 (some .int)) 4 0 0 [.ref o, IV p, IV t] σ (qI (fun (r : Int) (σ' : MM) => oEnd σ (t2 (isP σ p) (0 ≤ t ∧ t ≤ σ.1 0)) (sDwelt (σ0 σ) p t (σ.1 13).toNat) (σ0 σ) r σ')) X0 := by
  refine Ct.ofJ (own := RX2) (nm := "dwells") (lo := [some (.ref o), some (IV p), some (IV t)]) pn_X2 rfl rfl (List.forall_mem_cons.mpr ⟨rfl, (List.forall_mem_cons.mpr ⟨rfl, (List.forall_mem_cons.mpr ⟨rfl, (fun _ h => nomatch h)⟩)⟩)⟩) (Nat.le_of_ble_eq_true rfl) rfl ?_
  have hQ : ∀ (r : Int) (σ' : MM), (oEnd σ (t2 (isP σ p) (0 ≤ t ∧ t ≤ σ.1 0)) (sDwelt (σ0 σ) p t (σ.1 13).toNat) (σ0 σ) r σ') → (qI (fun (r : Int) (σ' : MM) => oEnd σ (t2 (isP σ p) (0 ≤ t ∧ t ≤ σ.1 0)) (sDwelt (σ0 σ) p t (σ.1 13).toNat) (σ0 σ) r σ')) (some (IV r)) σ' := fun r σ' h => ⟨r, rfl, h⟩
  generalize (qI (fun (r : Int) (σ' : MM) => oEnd σ (t2 (isP σ p) (0 ≤ t ∧ t ≤ σ.1 0)) (sDwelt (σ0 σ) p t (σ.1 13).toNat) (σ0 σ) r σ')) = QP at hQ ⊢
  have n6 : 0 ≤ σ.1 6 ∧ σ.1 6 ≤ 5 := hB.1 6
  have n9 : 0 ≤ σ.1 9 ∧ σ.1 9 ≤ 20 := hB.1 9
  have n0 : 0 ≤ σ.1 0 ∧ σ.1 0 ≤ 2100 := hB.1 0
  have n14 : 0 ≤ σ.1 14 ∧ σ.1 14 ≤ 5 := hB.1 14
  have n26 : 0 ≤ σ.1 26 ∧ σ.1 26 ≤ 60 := hB.1 26
  refine j_aload_n (pc := 0) dX2_dwells_0 rfl ?_
  refine j_aload_n (pc := 1) dX2_dwells_1 rfl ?_
  refine j_iload_n (pc := 2) dX2_dwells_2 rfl ?_
  refine j_callV (pc := 3) (m_isPerson σ p (by omega) (show 0 ≤ σ.1 9 ∧ σ.1 9 ≤ 20 by omega)) (lw_V q1582 q1584 qs26 q48 q1585) rfl md_yX2_isPerson (RC.ofM _ rfl) (by decide) (by decide) rfl (Nat.le_of_ble_eq_true rfl) dX2_dwells_3 (qI.k (fun r_3 s_3 q_3 => ?_))
  obtain ⟨e1q_3, e2q_3⟩ := q_3
  subst r_3
  subst s_3
  refine j_iload_n (pc := 6) dX2_dwells_6 rfl ?_
  refine j_iconst (pc := 7) dX2_dwells_7 rfl ?_
  refine j_aload_n (pc := 8) dX2_dwells_8 rfl ?_
  refine m_getI (pc := 9) (v := σ.1 0) fa_X2_149_X2 (by decide) rfl rfl dX2_dwells_9 ?_
  have n_1 : 0 ≤ σ.1 0 ∧ σ.1 0 ≤ 2100 := hB.1 0
  refine j_callS (pc := 12) (m_in σ t 0 (σ.1 0) (by omega) (by decide) (by omega)) (lw_S q1532 q1533 q48 q1534) md_yX2_in (by decide) (by decide) rfl (Nat.le_of_ble_eq_true rfl) dX2_dwells_12 (qI.k (fun r_12 s_12 q_12 => ?_))
  obtain ⟨e1q_12, e2q_12⟩ := q_12
  subst r_12
  subst s_12
  refine j_callV (pc := 15) (m_asked2 σ (bI (0 ≤ p ∧ p ≤ σ.1 9 - 1)) (bI (0 ≤ t ∧ t ≤ (σ.1 0))) (bI_01 _) (bI_01 _)) (lw_V q1538 q1540 qs20 q48 q1541) rfl md_yX2_asked (RC.ofM _ rfl) (by decide) (by decide) rfl (Nat.le_of_ble_eq_true rfl) dX2_dwells_15 (qI.k (fun r_15 s_15 q_15 => ?_))
  rcases q_15 with ⟨q_15a, rfl, rfl⟩ | ⟨q_15a, rfl, rfl⟩
  · have q_15_0 := bI_or ((0 ≤ p ∧ p ≤ σ.1 9 - 1))
    have q_15_1 := bI_or ((0 ≤ t ∧ t ≤ (σ.1 0)))
    refine j_if_eq (pc := 18) (tgt := 30) dX2_dwells_18 (by decide) (by decide) (fun c_18 => ?_) (fun c_18 => ?_)
    · exact absurd c_18 (by decide)
    · refine j_aload_n (pc := 21) dX2_dwells_21 rfl ?_
      refine j_iload_n (pc := 22) dX2_dwells_22 rfl ?_
      refine j_iload_n (pc := 23) dX2_dwells_23 rfl ?_
      refine j_callV (pc := 24) (m_dwelt (setI σ 43 0) p t (by omega) (by omega) (Bd.i hB (by show 0 ≤ 0 ∧ 0 ≤ (3 : Int); omega))) (lw_V q1586 q1588 qs27 q48 q1589) rfl md_yX2_dwelt (RC.ofM _ rfl) (by decide) (by decide) rfl (Nat.le_of_ble_eq_true rfl) dX2_dwells_24 (qI.k (fun r_24 s_24 q_24 => ?_))
      obtain ⟨e1q_24, e2q_24⟩ := q_24
      subst r_24
      subst s_24
      refine j_goto (pc := 27) (tgt := 31) dX2_dwells_27 (by decide) ?_
      refine j_iret (pc := 31) rfl (hQ _ _ ?_) dX2_dwells_31
      exact Or.inl ⟨by unfold t2; (repeat' split) <;> omega, rfl, rfl⟩
  · have q_15_0 := bI_or ((0 ≤ p ∧ p ≤ σ.1 9 - 1))
    have q_15_1 := bI_or ((0 ≤ t ∧ t ≤ (σ.1 0)))
    refine j_if_eq (pc := 18) (tgt := 30) dX2_dwells_18 (by decide) (by decide) (fun c_18_1 => ?_) (fun c_18_1 => ?_)
    · refine j_iconst (pc := 30) dX2_dwells_30 rfl ?_
      refine j_iret (pc := 31) rfl (hQ _ _ ?_) dX2_dwells_31
      exact Or.inr ⟨by unfold t2; (repeat' split) <;> omega, rfl, by congr 1; unfold t2; (repeat' split) <;> omega⟩
    · exact absurd c_18_1 (by decide)

theorem fa_X2_84_X2 : FA RX2 84 1 33 := ⟨RX2, TX2, 44, "BallotFoundryModel", rfl, in_X2, by decide, q1421, Or.inl rfl⟩
set_option maxHeartbeats 4000000 in
theorem m_setSlip {Γ : GG} {l : Launch} {o : Nat} {ad : Nat → Nat} (σ : MM) (c : Int) (v : Int) (hc : RR c) (hv : RR v) (hB : Bd σ) : Ct Γ (AM o ad) (RepM Γ o ad) l yX2_setSlip (ws_ yX2_setSlip cX2_setSlip 4 (some .int)) 4 0 0 [.ref o, IV c, IV v] σ (qI (fun (r : Int) (σ' : MM) => oEnd σ (t2 (0 ≤ c ∧ c ≤ 3) (v = 0 ∨ (2 ≤ v ∧ v ≤ 20))) (σ.2 33 c.toNat) (setA (σ0 σ) 33 c.toNat v) r σ')) X0 := by
  refine Ct.ofJ (own := RX2) (nm := "setSlip") (lo := [some (.ref o), some (IV c), some (IV v), none]) pn_X2 rfl rfl (List.forall_mem_cons.mpr ⟨rfl, (List.forall_mem_cons.mpr ⟨rfl, (List.forall_mem_cons.mpr ⟨rfl, (fun _ h => nomatch h)⟩)⟩)⟩) (Nat.le_of_ble_eq_true rfl) rfl ?_
  have hQ : ∀ (r : Int) (σ' : MM), (oEnd σ (t2 (0 ≤ c ∧ c ≤ 3) (v = 0 ∨ (2 ≤ v ∧ v ≤ 20))) (σ.2 33 c.toNat) (setA (σ0 σ) 33 c.toNat v) r σ') → (qI (fun (r : Int) (σ' : MM) => oEnd σ (t2 (0 ≤ c ∧ c ≤ 3) (v = 0 ∨ (2 ≤ v ∧ v ≤ 20))) (σ.2 33 c.toNat) (setA (σ0 σ) 33 c.toNat v) r σ')) (some (IV r)) σ' := fun r σ' h => ⟨r, rfl, h⟩
  generalize (qI (fun (r : Int) (σ' : MM) => oEnd σ (t2 (0 ≤ c ∧ c ≤ 3) (v = 0 ∨ (2 ≤ v ∧ v ≤ 20))) (σ.2 33 c.toNat) (setA (σ0 σ) 33 c.toNat v) r σ')) = QP at hQ ⊢
  have n6 : 0 ≤ σ.1 6 ∧ σ.1 6 ≤ 5 := hB.1 6
  have n9 : 0 ≤ σ.1 9 ∧ σ.1 9 ≤ 20 := hB.1 9
  have n0 : 0 ≤ σ.1 0 ∧ σ.1 0 ≤ 2100 := hB.1 0
  have n14 : 0 ≤ σ.1 14 ∧ σ.1 14 ≤ 5 := hB.1 14
  have n26 : 0 ≤ σ.1 26 ∧ σ.1 26 ≤ 60 := hB.1 26
  refine j_aload_n (pc := 0) dX2_setSlip_0 rfl ?_
  refine j_iload_n (pc := 1) dX2_setSlip_1 rfl ?_
  refine j_iconst (pc := 2) dX2_setSlip_2 rfl ?_
  refine j_iconst (pc := 3) dX2_setSlip_3 rfl ?_
  refine j_callS (pc := 4) (m_in σ c 0 3 (by omega) (by decide) (by decide)) (lw_S q1532 q1533 q48 q1534) md_yX2_in (by decide) (by decide) rfl (Nat.le_of_ble_eq_true rfl) dX2_setSlip_4 (qI.k (fun r_4 s_4 q_4 => ?_))
  obtain ⟨e1q_4, e2q_4⟩ := q_4
  subst r_4
  subst s_4
  refine j_iload_n (pc := 7) dX2_setSlip_7 rfl ?_
  refine j_if_eq (pc := 8) (tgt := 21) dX2_setSlip_8 (by decide) (by omega) (fun c_8 => ?_) (fun c_8 => ?_)
  · refine j_iconst (pc := 21) dX2_setSlip_21 rfl ?_
    refine j_goto (pc := 22) (tgt := 26) dX2_setSlip_22 (by decide) ?_
    refine j_callV (pc := 26) (m_asked2 σ (bI (0 ≤ c ∧ c ≤ 3)) 1 (bI_01 _) (Or.inr rfl)) (lw_V q1538 q1540 qs20 q48 q1541) rfl md_yX2_asked (RC.ofM _ rfl) (by decide) (by decide) rfl (Nat.le_of_ble_eq_true rfl) dX2_setSlip_26 (qI.k (fun r_26 s_26 q_26 => ?_))
    rcases q_26 with ⟨q_26a, rfl, rfl⟩ | ⟨q_26a, rfl, rfl⟩
    · have q_26_0 := bI_or ((0 ≤ c ∧ c ≤ 3))
      refine j_if_ne (pc := 29) (tgt := 34) dX2_setSlip_29 (by decide) (by decide) (fun c_29 => ?_) (fun c_29 => ?_)
      · refine j_aload_n (pc := 34) dX2_setSlip_34 rfl ?_
        refine m_getA (pc := 35) fa_X2_84_X2 (by decide) (by decide) dX2_setSlip_35 ?_
        refine j_iload_n (pc := 38) dX2_setSlip_38 rfl ?_
        refine m_ld (pc := 39) (v := σ.2 33 (c).toNat) (by decide) (by decide) rfl (by show 0 ≤ c ∧ c < ((4 : Nat) : Int); omega) rfl dX2_setSlip_39 ?_
        have n_1 : 0 ≤ σ.2 33 (c).toNat ∧ σ.2 33 (c).toNat ≤ 20 := hB.2 33 ((c).toNat)
        refine j_istore_n (pc := 40) dX2_setSlip_40 (by decide) (lo' := [some (.ref o), some (IV c), some (IV v), some (IV (σ.2 33 (c).toNat))]) rfl ?_
        refine j_aload_n (pc := 41) dX2_setSlip_41 rfl ?_
        refine m_getA (pc := 42) fa_X2_84_X2 (by decide) (by decide) dX2_setSlip_42 ?_
        refine j_iload_n (pc := 45) dX2_setSlip_45 rfl ?_
        refine j_iload_n (pc := 46) dX2_setSlip_46 rfl ?_
        refine m_st (pc := 47) (by decide) (by decide) rfl (by show 0 ≤ c ∧ c < ((4 : Nat) : Int); omega) dX2_setSlip_47 ?_
        refine j_iload_n (pc := 48) dX2_setSlip_48 rfl ?_
        refine j_iret (pc := 49) rfl (hQ _ _ ?_) dX2_setSlip_49
        exact Or.inl ⟨by unfold t2; (repeat' split) <;> omega, rfl, rfl⟩
      · exact absurd c_29 (by decide)
    · have q_26_0 := bI_or ((0 ≤ c ∧ c ≤ 3))
      refine j_if_ne (pc := 29) (tgt := 34) dX2_setSlip_29 (by decide) (by decide) (fun c_29_1 => ?_) (fun c_29_1 => ?_)
      · exact absurd c_29_1 (by decide)
      · refine j_iconst (pc := 32) dX2_setSlip_32 rfl ?_
        refine j_iret (pc := 33) rfl (hQ _ _ ?_) dX2_setSlip_33
        exact Or.inr ⟨by unfold t2; (repeat' split) <;> omega, rfl, by congr 1; unfold t2; (repeat' split) <;> omega⟩
  · refine j_iload_n (pc := 11) dX2_setSlip_11 rfl ?_
    refine j_iconst (pc := 12) dX2_setSlip_12 rfl ?_
    refine j_bipush (pc := 13) (a := 20) dX2_setSlip_13 (by decide) ?_
    refine j_callS (pc := 15) (m_in σ v 2 20 (by omega) (by decide) (by decide)) (lw_S q1532 q1533 q48 q1534) md_yX2_in (by decide) (by decide) rfl (Nat.le_of_ble_eq_true rfl) dX2_setSlip_15 (qI.k (fun r_15 s_15 q_15 => ?_))
    obtain ⟨e1q_15, e2q_15⟩ := q_15
    subst r_15
    subst s_15
    refine j_ifb_eq (pc := 18) (tgt := 25) dX2_setSlip_18 (by decide) (fun c_18 => ?_) (fun c_18 => ?_)
    · refine j_iconst (pc := 25) dX2_setSlip_25 rfl ?_
      refine j_callV (pc := 26) (m_asked2 σ (bI (0 ≤ c ∧ c ≤ 3)) 0 (bI_01 _) (Or.inl rfl)) (lw_V q1538 q1540 qs20 q48 q1541) rfl md_yX2_asked (RC.ofM _ rfl) (by decide) (by decide) rfl (Nat.le_of_ble_eq_true rfl) dX2_setSlip_26 (qI.k (fun r_26_1 s_26_1 q_26_1 => ?_))
      rcases q_26_1 with ⟨q_26_1a, rfl, rfl⟩ | ⟨q_26_1a, rfl, rfl⟩
      · exact absurd q_26_1a (by simp)
      · have q_26_1_0 := bI_or ((0 ≤ c ∧ c ≤ 3))
        refine j_if_ne (pc := 29) (tgt := 34) dX2_setSlip_29 (by decide) (by decide) (fun c_29_1 => ?_) (fun c_29_1 => ?_)
        · exact absurd c_29_1 (by decide)
        · refine j_iconst (pc := 32) dX2_setSlip_32 rfl ?_
          refine j_iret (pc := 33) rfl (hQ _ _ ?_) dX2_setSlip_33
          exact Or.inr ⟨by unfold t2; (repeat' split) <;> omega, rfl, by congr 1; unfold t2; (repeat' split) <;> omega⟩
    · refine j_iconst (pc := 21) dX2_setSlip_21 rfl ?_
      refine j_goto (pc := 22) (tgt := 26) dX2_setSlip_22 (by decide) ?_
      refine j_callV (pc := 26) (m_asked2 σ (bI (0 ≤ c ∧ c ≤ 3)) 1 (bI_01 _) (Or.inr rfl)) (lw_V q1538 q1540 qs20 q48 q1541) rfl md_yX2_asked (RC.ofM _ rfl) (by decide) (by decide) rfl (Nat.le_of_ble_eq_true rfl) dX2_setSlip_26 (qI.k (fun r_26_1 s_26_1 q_26_1 => ?_))
      rcases q_26_1 with ⟨q_26_1a, rfl, rfl⟩ | ⟨q_26_1a, rfl, rfl⟩
      · have q_26_1_0 := bI_or ((0 ≤ c ∧ c ≤ 3))
        refine j_if_ne (pc := 29) (tgt := 34) dX2_setSlip_29 (by decide) (by decide) (fun c_29_1 => ?_) (fun c_29_1 => ?_)
        · refine j_aload_n (pc := 34) dX2_setSlip_34 rfl ?_
          refine m_getA (pc := 35) fa_X2_84_X2 (by decide) (by decide) dX2_setSlip_35 ?_
          refine j_iload_n (pc := 38) dX2_setSlip_38 rfl ?_
          refine m_ld (pc := 39) (v := σ.2 33 (c).toNat) (by decide) (by decide) rfl (by show 0 ≤ c ∧ c < ((4 : Nat) : Int); omega) rfl dX2_setSlip_39 ?_
          have n_2 : 0 ≤ σ.2 33 (c).toNat ∧ σ.2 33 (c).toNat ≤ 20 := hB.2 33 ((c).toNat)
          refine j_istore_n (pc := 40) dX2_setSlip_40 (by decide) (lo' := [some (.ref o), some (IV c), some (IV v), some (IV (σ.2 33 (c).toNat))]) rfl ?_
          refine j_aload_n (pc := 41) dX2_setSlip_41 rfl ?_
          refine m_getA (pc := 42) fa_X2_84_X2 (by decide) (by decide) dX2_setSlip_42 ?_
          refine j_iload_n (pc := 45) dX2_setSlip_45 rfl ?_
          refine j_iload_n (pc := 46) dX2_setSlip_46 rfl ?_
          refine m_st (pc := 47) (by decide) (by decide) rfl (by show 0 ≤ c ∧ c < ((4 : Nat) : Int); omega) dX2_setSlip_47 ?_
          refine j_iload_n (pc := 48) dX2_setSlip_48 rfl ?_
          refine j_iret (pc := 49) rfl (hQ _ _ ?_) dX2_setSlip_49
          exact Or.inl ⟨by unfold t2; (repeat' split) <;> omega, rfl, rfl⟩
        · exact absurd c_29_1 (by decide)
      · have q_26_1_0 := bI_or ((0 ≤ c ∧ c ≤ 3))
        refine j_if_ne (pc := 29) (tgt := 34) dX2_setSlip_29 (by decide) (by decide) (fun c_29_1 => ?_) (fun c_29_1 => ?_)
        · exact absurd c_29_1 (by decide)
        · refine j_iconst (pc := 32) dX2_setSlip_32 rfl ?_
          refine j_iret (pc := 33) rfl (hQ _ _ ?_) dX2_setSlip_33
          exact Or.inr ⟨by unfold t2; (repeat' split) <;> omega, rfl, by congr 1; unfold t2; (repeat' split) <;> omega⟩

theorem fa_X2_23_X2 : FA RX2 23 1 5 := ⟨RX2, TX2, 44, "BallotFoundryModel", rfl, in_X2, by decide, q1393, Or.inl rfl⟩
set_option maxHeartbeats 4000000 in
theorem m_setSeats {Γ : GG} {l : Launch} {o : Nat} {ad : Nat → Nat} (σ : MM) (s : Int) (v : Int) (hs : RR s) (hv : RR v) (hB : Bd σ) : Ct Γ (AM o ad) (RepM Γ o ad) l yX2_setSeats (ws_ yX2_setSeats cX2_setSeats 4 (some .int)) 4 0 0 [.ref o, IV s, IV v] σ (qI (fun (r : Int) (σ' : MM) => oEnd σ (t2 (isS σ s) (0 ≤ v ∧ v ≤ 20)) (σ.2 5 s.toNat) (setA (σ0 σ) 5 s.toNat v) r σ')) X0 := by
  refine Ct.ofJ (own := RX2) (nm := "setSeats") (lo := [some (.ref o), some (IV s), some (IV v), none]) pn_X2 rfl rfl (List.forall_mem_cons.mpr ⟨rfl, (List.forall_mem_cons.mpr ⟨rfl, (List.forall_mem_cons.mpr ⟨rfl, (fun _ h => nomatch h)⟩)⟩)⟩) (Nat.le_of_ble_eq_true rfl) rfl ?_
  have hQ : ∀ (r : Int) (σ' : MM), (oEnd σ (t2 (isS σ s) (0 ≤ v ∧ v ≤ 20)) (σ.2 5 s.toNat) (setA (σ0 σ) 5 s.toNat v) r σ') → (qI (fun (r : Int) (σ' : MM) => oEnd σ (t2 (isS σ s) (0 ≤ v ∧ v ≤ 20)) (σ.2 5 s.toNat) (setA (σ0 σ) 5 s.toNat v) r σ')) (some (IV r)) σ' := fun r σ' h => ⟨r, rfl, h⟩
  generalize (qI (fun (r : Int) (σ' : MM) => oEnd σ (t2 (isS σ s) (0 ≤ v ∧ v ≤ 20)) (σ.2 5 s.toNat) (setA (σ0 σ) 5 s.toNat v) r σ')) = QP at hQ ⊢
  have n6 : 0 ≤ σ.1 6 ∧ σ.1 6 ≤ 5 := hB.1 6
  have n9 : 0 ≤ σ.1 9 ∧ σ.1 9 ≤ 20 := hB.1 9
  have n0 : 0 ≤ σ.1 0 ∧ σ.1 0 ≤ 2100 := hB.1 0
  have n14 : 0 ≤ σ.1 14 ∧ σ.1 14 ≤ 5 := hB.1 14
  have n26 : 0 ≤ σ.1 26 ∧ σ.1 26 ≤ 60 := hB.1 26
  refine j_aload_n (pc := 0) dX2_setSeats_0 rfl ?_
  refine j_aload_n (pc := 1) dX2_setSeats_1 rfl ?_
  refine j_iload_n (pc := 2) dX2_setSeats_2 rfl ?_
  refine j_callV (pc := 3) (m_isStation σ s (by omega) (show 0 ≤ σ.1 6 ∧ σ.1 6 ≤ 5 by omega)) (lw_V q1566 q1568 qs24 q48 q1569) rfl md_yX2_isStation (RC.ofM _ rfl) (by decide) (by decide) rfl (Nat.le_of_ble_eq_true rfl) dX2_setSeats_3 (qI.k (fun r_3 s_3 q_3 => ?_))
  obtain ⟨e1q_3, e2q_3⟩ := q_3
  subst r_3
  subst s_3
  refine j_iload_n (pc := 6) dX2_setSeats_6 rfl ?_
  refine j_iconst (pc := 7) dX2_setSeats_7 rfl ?_
  refine j_bipush (pc := 8) (a := 20) dX2_setSeats_8 (by decide) ?_
  refine j_callS (pc := 10) (m_in σ v 0 20 (by omega) (by decide) (by decide)) (lw_S q1532 q1533 q48 q1534) md_yX2_in (by decide) (by decide) rfl (Nat.le_of_ble_eq_true rfl) dX2_setSeats_10 (qI.k (fun r_10 s_10 q_10 => ?_))
  obtain ⟨e1q_10, e2q_10⟩ := q_10
  subst r_10
  subst s_10
  refine j_callV (pc := 13) (m_asked2 σ (bI (0 ≤ s ∧ s ≤ σ.1 6 - 1)) (bI (0 ≤ v ∧ v ≤ 20)) (bI_01 _) (bI_01 _)) (lw_V q1538 q1540 qs20 q48 q1541) rfl md_yX2_asked (RC.ofM _ rfl) (by decide) (by decide) rfl (Nat.le_of_ble_eq_true rfl) dX2_setSeats_13 (qI.k (fun r_13 s_13 q_13 => ?_))
  rcases q_13 with ⟨q_13a, rfl, rfl⟩ | ⟨q_13a, rfl, rfl⟩
  · have q_13_0 := bI_or ((0 ≤ s ∧ s ≤ σ.1 6 - 1))
    have q_13_1 := bI_or ((0 ≤ v ∧ v ≤ 20))
    refine j_if_ne (pc := 16) (tgt := 21) dX2_setSeats_16 (by decide) (by decide) (fun c_16 => ?_) (fun c_16 => ?_)
    · refine j_aload_n (pc := 21) dX2_setSeats_21 rfl ?_
      refine m_getA (pc := 22) fa_X2_23_X2 (by decide) (by decide) dX2_setSeats_22 ?_
      refine j_iload_n (pc := 25) dX2_setSeats_25 rfl ?_
      refine m_ld (pc := 26) (v := σ.2 5 (s).toNat) (by decide) (by decide) rfl (by show 0 ≤ s ∧ s < ((5 : Nat) : Int); omega) rfl dX2_setSeats_26 ?_
      have n_1 : 0 ≤ σ.2 5 (s).toNat ∧ σ.2 5 (s).toNat ≤ 20 := hB.2 5 ((s).toNat)
      refine j_istore_n (pc := 27) dX2_setSeats_27 (by decide) (lo' := [some (.ref o), some (IV s), some (IV v), some (IV (σ.2 5 (s).toNat))]) rfl ?_
      refine j_aload_n (pc := 28) dX2_setSeats_28 rfl ?_
      refine m_getA (pc := 29) fa_X2_23_X2 (by decide) (by decide) dX2_setSeats_29 ?_
      refine j_iload_n (pc := 32) dX2_setSeats_32 rfl ?_
      refine j_iload_n (pc := 33) dX2_setSeats_33 rfl ?_
      refine m_st (pc := 34) (by decide) (by decide) rfl (by show 0 ≤ s ∧ s < ((5 : Nat) : Int); omega) dX2_setSeats_34 ?_
      refine j_iload_n (pc := 35) dX2_setSeats_35 rfl ?_
      refine j_iret (pc := 36) rfl (hQ _ _ ?_) dX2_setSeats_36
      exact Or.inl ⟨by unfold t2; (repeat' split) <;> omega, rfl, rfl⟩
    · exact absurd c_16 (by decide)
  · have q_13_0 := bI_or ((0 ≤ s ∧ s ≤ σ.1 6 - 1))
    have q_13_1 := bI_or ((0 ≤ v ∧ v ≤ 20))
    refine j_if_ne (pc := 16) (tgt := 21) dX2_setSeats_16 (by decide) (by decide) (fun c_16_1 => ?_) (fun c_16_1 => ?_)
    · exact absurd c_16_1 (by decide)
    · refine j_iconst (pc := 19) dX2_setSeats_19 rfl ?_
      refine j_iret (pc := 20) rfl (hQ _ _ ?_) dX2_setSeats_20
      exact Or.inr ⟨by unfold t2; (repeat' split) <;> omega, rfl, by congr 1; unfold t2; (repeat' split) <;> omega⟩

theorem md_yX2_isCrossing : MD yX2_isCrossing 1 := by decide +kernel
theorem md_yX2_asked_3 : MD yX2_asked_3 3 := by decide +kernel
theorem fa_X2_20_X2 : FA RX2 20 1 4 := ⟨RX2, TX2, 44, "BallotFoundryModel", rfl, in_X2, by decide, q1392, Or.inl rfl⟩
theorem fp_X2_115_X2 : FP RX2 115 1 6 (.int) false := ⟨RX2, TX2, 44, "BallotFoundryModel", tyX2, rfl, in_X2, by decide, q1394, Or.inl rfl, tyX2_ok, nmX2, rfl, rfl, fun h => nomatch h⟩
set_option maxHeartbeats 4000000 in
theorem m_station {Γ : GG} {l : Launch} {o : Nat} {ad : Nat → Nat} (σ : MM) (c : Int) (v : Int) (hc : RR c) (hv : RR v) (hB : Bd σ) : Ct Γ (AM o ad) (RepM Γ o ad) l yX2_station (ws_ yX2_station cX2_station 3 (some .int)) 4 0 0 [.ref o, IV c, IV v] σ (qI (fun (r : Int) (σ' : MM) => oEnd σ (t3 (isC c) (0 ≤ v ∧ v ≤ 20) (σ.1 6 < 5)) (σ.1 6) (setI (setA (setA (σ0 σ) 4 (σ.1 6).toNat c) 5 (σ.1 6).toNat v) 6 (σ.1 6 + 1)) r σ')) X0 := by
  refine Ct.ofJ (own := RX2) (nm := "station") (lo := [some (.ref o), some (IV c), some (IV v)]) pn_X2 rfl rfl (List.forall_mem_cons.mpr ⟨rfl, (List.forall_mem_cons.mpr ⟨rfl, (List.forall_mem_cons.mpr ⟨rfl, (fun _ h => nomatch h)⟩)⟩)⟩) (Nat.le_of_ble_eq_true rfl) rfl ?_
  have hQ : ∀ (r : Int) (σ' : MM), (oEnd σ (t3 (isC c) (0 ≤ v ∧ v ≤ 20) (σ.1 6 < 5)) (σ.1 6) (setI (setA (setA (σ0 σ) 4 (σ.1 6).toNat c) 5 (σ.1 6).toNat v) 6 (σ.1 6 + 1)) r σ') → (qI (fun (r : Int) (σ' : MM) => oEnd σ (t3 (isC c) (0 ≤ v ∧ v ≤ 20) (σ.1 6 < 5)) (σ.1 6) (setI (setA (setA (σ0 σ) 4 (σ.1 6).toNat c) 5 (σ.1 6).toNat v) 6 (σ.1 6 + 1)) r σ')) (some (IV r)) σ' := fun r σ' h => ⟨r, rfl, h⟩
  generalize (qI (fun (r : Int) (σ' : MM) => oEnd σ (t3 (isC c) (0 ≤ v ∧ v ≤ 20) (σ.1 6 < 5)) (σ.1 6) (setI (setA (setA (σ0 σ) 4 (σ.1 6).toNat c) 5 (σ.1 6).toNat v) 6 (σ.1 6 + 1)) r σ')) = QP at hQ ⊢
  have n6 : 0 ≤ σ.1 6 ∧ σ.1 6 ≤ 5 := hB.1 6
  have n9 : 0 ≤ σ.1 9 ∧ σ.1 9 ≤ 20 := hB.1 9
  have n0 : 0 ≤ σ.1 0 ∧ σ.1 0 ≤ 2100 := hB.1 0
  have n14 : 0 ≤ σ.1 14 ∧ σ.1 14 ≤ 5 := hB.1 14
  have n26 : 0 ≤ σ.1 26 ∧ σ.1 26 ≤ 60 := hB.1 26
  refine j_aload_n (pc := 0) dX2_station_0 rfl ?_
  refine j_iload_n (pc := 1) dX2_station_1 rfl ?_
  refine j_callS (pc := 2) (m_isCrossing σ c (by omega)) (lw_S q1529 q1530 q48 q1531) md_yX2_isCrossing (by decide) (by decide) rfl (Nat.le_of_ble_eq_true rfl) dX2_station_2 (qI.k (fun r_2 s_2 q_2 => ?_))
  obtain ⟨e1q_2, e2q_2⟩ := q_2
  subst r_2
  subst s_2
  refine j_iload_n (pc := 5) dX2_station_5 rfl ?_
  refine j_iconst (pc := 6) dX2_station_6 rfl ?_
  refine j_bipush (pc := 7) (a := 20) dX2_station_7 (by decide) ?_
  refine j_callS (pc := 9) (m_in σ v 0 20 (by omega) (by decide) (by decide)) (lw_S q1532 q1533 q48 q1534) md_yX2_in (by decide) (by decide) rfl (Nat.le_of_ble_eq_true rfl) dX2_station_9 (qI.k (fun r_9 s_9 q_9 => ?_))
  obtain ⟨e1q_9, e2q_9⟩ := q_9
  subst r_9
  subst s_9
  refine j_aload_n (pc := 12) dX2_station_12 rfl ?_
  refine m_getI (pc := 13) (v := σ.1 6) fa_X2_115_X2 (by decide) rfl rfl dX2_station_13 ?_
  have n_1 : 0 ≤ σ.1 6 ∧ σ.1 6 ≤ 5 := hB.1 6
  refine j_iconst (pc := 16) dX2_station_16 rfl ?_
  refine j_icmp_ge (pc := 17) (tgt := 24) dX2_station_17 (by decide) (by omega) (by decide) (fun c_17 => ?_) (fun c_17 => ?_)
  · refine j_iconst (pc := 24) dX2_station_24 rfl ?_
    refine j_callV (pc := 25) (m_asked3 σ (bI (0 ≤ c ∧ c ≤ 35)) (bI (0 ≤ v ∧ v ≤ 20)) 0 (bI_01 _) (bI_01 _) (Or.inl rfl)) (lw_V q1558 q1560 qs23 q48 q1561) rfl md_yX2_asked_3 (RC.ofM _ rfl) (by decide) (by decide) rfl (Nat.le_of_ble_eq_true rfl) dX2_station_25 (qI.k (fun r_25 s_25 q_25 => ?_))
    rcases q_25 with ⟨q_25a, rfl, rfl⟩ | ⟨q_25a, rfl, rfl⟩
    · exact absurd q_25a (by simp)
    · have q_25_0 := bI_or ((0 ≤ c ∧ c ≤ 35))
      have q_25_1 := bI_or ((0 ≤ v ∧ v ≤ 20))
      refine j_if_ne (pc := 28) (tgt := 33) dX2_station_28 (by decide) (by decide) (fun c_28 => ?_) (fun c_28 => ?_)
      · exact absurd c_28 (by decide)
      · refine j_iconst (pc := 31) dX2_station_31 rfl ?_
        refine j_iret (pc := 32) rfl (hQ _ _ ?_) dX2_station_32
        exact Or.inr ⟨by unfold t3; (repeat' split) <;> omega, rfl, by congr 1; unfold t3; (repeat' split) <;> omega⟩
  · refine j_iconst (pc := 20) dX2_station_20 rfl ?_
    refine j_goto (pc := 21) (tgt := 25) dX2_station_21 (by decide) ?_
    refine j_callV (pc := 25) (m_asked3 σ (bI (0 ≤ c ∧ c ≤ 35)) (bI (0 ≤ v ∧ v ≤ 20)) 1 (bI_01 _) (bI_01 _) (Or.inr rfl)) (lw_V q1558 q1560 qs23 q48 q1561) rfl md_yX2_asked_3 (RC.ofM _ rfl) (by decide) (by decide) rfl (Nat.le_of_ble_eq_true rfl) dX2_station_25 (qI.k (fun r_25_1 s_25_1 q_25_1 => ?_))
    rcases q_25_1 with ⟨q_25_1a, rfl, rfl⟩ | ⟨q_25_1a, rfl, rfl⟩
    · have q_25_1_0 := bI_or ((0 ≤ c ∧ c ≤ 35))
      have q_25_1_1 := bI_or ((0 ≤ v ∧ v ≤ 20))
      refine j_if_ne (pc := 28) (tgt := 33) dX2_station_28 (by decide) (by decide) (fun c_28_1 => ?_) (fun c_28_1 => ?_)
      · refine j_aload_n (pc := 33) dX2_station_33 rfl ?_
        refine m_getA (pc := 34) fa_X2_20_X2 (by decide) (by decide) dX2_station_34 ?_
        refine j_aload_n (pc := 37) dX2_station_37 rfl ?_
        refine m_getI (pc := 38) (v := σ.1 6) fa_X2_115_X2 (by decide) rfl rfl dX2_station_38 ?_
        refine j_iload_n (pc := 41) dX2_station_41 rfl ?_
        refine m_st (pc := 42) (by decide) (by decide) rfl (by show 0 ≤ σ.1 6 ∧ σ.1 6 < ((5 : Nat) : Int); omega) dX2_station_42 ?_
        refine j_aload_n (pc := 43) dX2_station_43 rfl ?_
        refine m_getA (pc := 44) fa_X2_23_X2 (by decide) (by decide) dX2_station_44 ?_
        refine j_aload_n (pc := 47) dX2_station_47 rfl ?_
        refine m_getI (pc := 48) (v := σ.1 6) fa_X2_115_X2 (by decide) rfl rfl dX2_station_48 ?_
        refine j_iload_n (pc := 51) dX2_station_51 rfl ?_
        refine m_st (pc := 52) (by decide) (by decide) rfl (by show 0 ≤ σ.1 6 ∧ σ.1 6 < ((5 : Nat) : Int); omega) dX2_station_52 ?_
        refine j_aload_n (pc := 53) dX2_station_53 rfl ?_
        refine j_dup (pc := 54) dX2_station_54 rfl ?_
        refine m_getI (pc := 55) (v := σ.1 6) fa_X2_115_X2 (by decide) rfl rfl dX2_station_55 ?_
        refine j_iconst (pc := 58) dX2_station_58 rfl ?_
        refine j_iadd (pc := 59) dX2_station_59 ?_
        refine m_putI (pc := 60) fp_X2_115_X2 (by decide) rfl dX2_station_60 ?_
        refine j_aload_n (pc := 63) dX2_station_63 rfl ?_
        refine m_getI (pc := 64) (v := (σ.1 6) + 1) fa_X2_115_X2 (by decide) rfl rfl dX2_station_64 ?_
        refine j_iconst (pc := 67) dX2_station_67 rfl ?_
        refine j_isub (pc := 68) dX2_station_68 ?_
        refine j_iret (pc := 69) rfl (hQ _ _ ?_) dX2_station_69
        exact Or.inl ⟨by unfold t3; (repeat' split) <;> omega, by omega, rfl⟩
      · exact absurd c_28_1 (by decide)
    · have q_25_1_0 := bI_or ((0 ≤ c ∧ c ≤ 35))
      have q_25_1_1 := bI_or ((0 ≤ v ∧ v ≤ 20))
      refine j_if_ne (pc := 28) (tgt := 33) dX2_station_28 (by decide) (by decide) (fun c_28_1 => ?_) (fun c_28_1 => ?_)
      · exact absurd c_28_1 (by decide)
      · refine j_iconst (pc := 31) dX2_station_31 rfl ?_
        refine j_iret (pc := 32) rfl (hQ _ _ ?_) dX2_station_32
        exact Or.inr ⟨by unfold t3; (repeat' split) <;> omega, rfl, by congr 1; unfold t3; (repeat' split) <;> omega⟩

theorem fa_X2_26_X2 : FA RX2 26 1 7 := ⟨RX2, TX2, 44, "BallotFoundryModel", rfl, in_X2, by decide, q1395, Or.inl rfl⟩
theorem fp_X2_118_X2 : FP RX2 118 1 9 (.int) false := ⟨RX2, TX2, 44, "BallotFoundryModel", tyX2, rfl, in_X2, by decide, q1397, Or.inl rfl, tyX2_ok, nmX2, rfl, rfl, fun h => nomatch h⟩
theorem md_yX2_comes : MD yX2_comes 2 := by decide +kernel
set_option maxHeartbeats 4000000 in
theorem m_person {Γ : GG} {l : Launch} {o : Nat} {ad : Nat → Nat} (σ : MM) (c : Int) (v : Int) (hc : RR c) (hv : RR v) (hm : σ.1 13 < 540) (hB : Bd σ) : Ct Γ (AM o ad) (RepM Γ o ad) l yX2_person (ws_ yX2_person cX2_person 3 (some .int)) 4 0 0 [.ref o, IV c, IV v] σ (qI (fun (r : Int) (σ' : MM) => oEnd σ (t3 (isC c) (0 ≤ v ∧ v ≤ 2000) (σ.1 9 < 20)) (σ.1 9) (sComes (setI (setA (σ0 σ) 7 (σ.1 9).toNat v) 9 (σ.1 9 + 1)) (σ.1 9) c) r σ')) X0 := by
  refine Ct.ofJ (own := RX2) (nm := "person") (lo := [some (.ref o), some (IV c), some (IV v)]) pn_X2 rfl rfl (List.forall_mem_cons.mpr ⟨rfl, (List.forall_mem_cons.mpr ⟨rfl, (List.forall_mem_cons.mpr ⟨rfl, (fun _ h => nomatch h)⟩)⟩)⟩) (Nat.le_of_ble_eq_true rfl) rfl ?_
  have hQ : ∀ (r : Int) (σ' : MM), (oEnd σ (t3 (isC c) (0 ≤ v ∧ v ≤ 2000) (σ.1 9 < 20)) (σ.1 9) (sComes (setI (setA (σ0 σ) 7 (σ.1 9).toNat v) 9 (σ.1 9 + 1)) (σ.1 9) c) r σ') → (qI (fun (r : Int) (σ' : MM) => oEnd σ (t3 (isC c) (0 ≤ v ∧ v ≤ 2000) (σ.1 9 < 20)) (σ.1 9) (sComes (setI (setA (σ0 σ) 7 (σ.1 9).toNat v) 9 (σ.1 9 + 1)) (σ.1 9) c) r σ')) (some (IV r)) σ' := fun r σ' h => ⟨r, rfl, h⟩
  generalize (qI (fun (r : Int) (σ' : MM) => oEnd σ (t3 (isC c) (0 ≤ v ∧ v ≤ 2000) (σ.1 9 < 20)) (σ.1 9) (sComes (setI (setA (σ0 σ) 7 (σ.1 9).toNat v) 9 (σ.1 9 + 1)) (σ.1 9) c) r σ')) = QP at hQ ⊢
  have n6 : 0 ≤ σ.1 6 ∧ σ.1 6 ≤ 5 := hB.1 6
  have n9 : 0 ≤ σ.1 9 ∧ σ.1 9 ≤ 20 := hB.1 9
  have n0 : 0 ≤ σ.1 0 ∧ σ.1 0 ≤ 2100 := hB.1 0
  have n14 : 0 ≤ σ.1 14 ∧ σ.1 14 ≤ 5 := hB.1 14
  have n26 : 0 ≤ σ.1 26 ∧ σ.1 26 ≤ 60 := hB.1 26
  have n13 : 0 ≤ σ.1 13 := (hB.1 13).1
  refine j_aload_n (pc := 0) dX2_person_0 rfl ?_
  refine j_iload_n (pc := 1) dX2_person_1 rfl ?_
  refine j_callS (pc := 2) (m_isCrossing σ c (by omega)) (lw_S q1529 q1530 q48 q1531) md_yX2_isCrossing (by decide) (by decide) rfl (Nat.le_of_ble_eq_true rfl) dX2_person_2 (qI.k (fun r_2 s_2 q_2 => ?_))
  obtain ⟨e1q_2, e2q_2⟩ := q_2
  subst r_2
  subst s_2
  refine j_iload_n (pc := 5) dX2_person_5 rfl ?_
  refine j_iconst (pc := 6) dX2_person_6 rfl ?_
  refine j_sipush (pc := 7) (a := 2000) dX2_person_7 (by decide) ?_
  refine j_callS (pc := 10) (m_in σ v 0 2000 (by omega) (by decide) (by decide)) (lw_S q1532 q1533 q48 q1534) md_yX2_in (by decide) (by decide) rfl (Nat.le_of_ble_eq_true rfl) dX2_person_10 (qI.k (fun r_10 s_10 q_10 => ?_))
  obtain ⟨e1q_10, e2q_10⟩ := q_10
  subst r_10
  subst s_10
  refine j_aload_n (pc := 13) dX2_person_13 rfl ?_
  refine m_getI (pc := 14) (v := σ.1 9) fa_X2_118_X2 (by decide) rfl rfl dX2_person_14 ?_
  have n_1 : 0 ≤ σ.1 9 ∧ σ.1 9 ≤ 20 := hB.1 9
  refine j_bipush (pc := 17) (a := 20) dX2_person_17 (by decide) ?_
  refine j_icmp_ge (pc := 19) (tgt := 26) dX2_person_19 (by decide) (by omega) (by decide) (fun c_19 => ?_) (fun c_19 => ?_)
  · refine j_iconst (pc := 26) dX2_person_26 rfl ?_
    refine j_callV (pc := 27) (m_asked3 σ (bI (0 ≤ c ∧ c ≤ 35)) (bI (0 ≤ v ∧ v ≤ 2000)) 0 (bI_01 _) (bI_01 _) (Or.inl rfl)) (lw_V q1558 q1560 qs23 q48 q1561) rfl md_yX2_asked_3 (RC.ofM _ rfl) (by decide) (by decide) rfl (Nat.le_of_ble_eq_true rfl) dX2_person_27 (qI.k (fun r_27 s_27 q_27 => ?_))
    rcases q_27 with ⟨q_27a, rfl, rfl⟩ | ⟨q_27a, rfl, rfl⟩
    · exact absurd q_27a (by simp)
    · have q_27_0 := bI_or ((0 ≤ c ∧ c ≤ 35))
      have q_27_1 := bI_or ((0 ≤ v ∧ v ≤ 2000))
      refine j_if_ne (pc := 30) (tgt := 35) dX2_person_30 (by decide) (by decide) (fun c_30 => ?_) (fun c_30 => ?_)
      · exact absurd c_30 (by decide)
      · refine j_iconst (pc := 33) dX2_person_33 rfl ?_
        refine j_iret (pc := 34) rfl (hQ _ _ ?_) dX2_person_34
        exact Or.inr ⟨by unfold t3; (repeat' split) <;> omega, rfl, by congr 1; unfold t3; (repeat' split) <;> omega⟩
  · refine j_iconst (pc := 22) dX2_person_22 rfl ?_
    refine j_goto (pc := 23) (tgt := 27) dX2_person_23 (by decide) ?_
    refine j_callV (pc := 27) (m_asked3 σ (bI (0 ≤ c ∧ c ≤ 35)) (bI (0 ≤ v ∧ v ≤ 2000)) 1 (bI_01 _) (bI_01 _) (Or.inr rfl)) (lw_V q1558 q1560 qs23 q48 q1561) rfl md_yX2_asked_3 (RC.ofM _ rfl) (by decide) (by decide) rfl (Nat.le_of_ble_eq_true rfl) dX2_person_27 (qI.k (fun r_27_1 s_27_1 q_27_1 => ?_))
    rcases q_27_1 with ⟨q_27_1a, rfl, rfl⟩ | ⟨q_27_1a, rfl, rfl⟩
    · have q_27_1_0 := bI_or ((0 ≤ c ∧ c ≤ 35))
      have q_27_1_1 := bI_or ((0 ≤ v ∧ v ≤ 2000))
      refine j_if_ne (pc := 30) (tgt := 35) dX2_person_30 (by decide) (by decide) (fun c_30_1 => ?_) (fun c_30_1 => ?_)
      · refine j_aload_n (pc := 35) dX2_person_35 rfl ?_
        refine m_getA (pc := 36) fa_X2_26_X2 (by decide) (by decide) dX2_person_36 ?_
        refine j_aload_n (pc := 39) dX2_person_39 rfl ?_
        refine m_getI (pc := 40) (v := σ.1 9) fa_X2_118_X2 (by decide) rfl rfl dX2_person_40 ?_
        refine j_iload_n (pc := 43) dX2_person_43 rfl ?_
        refine m_st (pc := 44) (by decide) (by decide) rfl (by show 0 ≤ σ.1 9 ∧ σ.1 9 < ((20 : Nat) : Int); omega) dX2_person_44 ?_
        refine j_aload_n (pc := 45) dX2_person_45 rfl ?_
        refine j_dup (pc := 46) dX2_person_46 rfl ?_
        refine m_getI (pc := 47) (v := σ.1 9) fa_X2_118_X2 (by decide) rfl rfl dX2_person_47 ?_
        refine j_iconst (pc := 50) dX2_person_50 rfl ?_
        refine j_iadd (pc := 51) dX2_person_51 ?_
        refine m_putI (pc := 52) fp_X2_118_X2 (by decide) rfl dX2_person_52 ?_
        refine j_aload_n (pc := 55) dX2_person_55 rfl ?_
        refine j_aload_n (pc := 56) dX2_person_56 rfl ?_
        refine m_getI (pc := 57) (v := (σ.1 9) + 1) fa_X2_118_X2 (by decide) rfl rfl dX2_person_57 ?_
        refine j_iconst (pc := 60) dX2_person_60 rfl ?_
        refine j_isub (pc := 61) dX2_person_61 ?_
        refine j_iload_n (pc := 62) dX2_person_62 rfl ?_
        refine j_callV (pc := 63) (m_comes (setI (setA (setI σ 43 0) 7 (σ.1 9).toNat v) 9 ((σ.1 9) + 1)) (((σ.1 9) + 1) - 1) c (show 0 ≤ σ.1 13 ∧ σ.1 13 < 540 by omega)) (lw_V q1574 q1576 qs25 q48 q1577) rfl md_yX2_comes (RC.ofM _ rfl) (by decide) (by decide) rfl (Nat.le_of_ble_eq_true rfl) dX2_person_63 (qV.k (fun s_63 q_63 => ?_))
        obtain rfl := q_63
        refine j_aload_n (pc := 66) dX2_person_66 rfl ?_
        refine m_getI (pc := 67) (v := (σ.1 9) + 1) fa_X2_118_X2 (by decide) rfl rfl dX2_person_67 ?_
        refine j_iconst (pc := 70) dX2_person_70 rfl ?_
        refine j_isub (pc := 71) dX2_person_71 ?_
        refine j_iret (pc := 72) rfl (hQ _ _ ?_) dX2_person_72
        exact Or.inl ⟨by unfold t3; (repeat' split) <;> omega, by omega, by rw [Int.add_sub_cancel]⟩
      · exact absurd c_30_1 (by decide)
    · have q_27_1_0 := bI_or ((0 ≤ c ∧ c ≤ 35))
      have q_27_1_1 := bI_or ((0 ≤ v ∧ v ≤ 2000))
      refine j_if_ne (pc := 30) (tgt := 35) dX2_person_30 (by decide) (by decide) (fun c_30_1 => ?_) (fun c_30_1 => ?_)
      · exact absurd c_30_1 (by decide)
      · refine j_iconst (pc := 33) dX2_person_33 rfl ?_
        refine j_iret (pc := 34) rfl (hQ _ _ ?_) dX2_person_34
        exact Or.inr ⟨by unfold t3; (repeat' split) <;> omega, rfl, by congr 1; unfold t3; (repeat' split) <;> omega⟩

set_option maxHeartbeats 4000000 in
theorem m_move {Γ : GG} {l : Launch} {o : Nat} {ad : Nat → Nat} (σ : MM) (p : Int) (c : Int) (hp : RR p) (hc : RR c) (hm : σ.1 13 < 540) (hB : Bd σ) : Ct Γ (AM o ad) (RepM Γ o ad) l yX2_move (ws_ yX2_move cX2_move 5 (some .int)) 4 0 0 [.ref o, IV p, IV c] σ (qI (fun (r : Int) (σ' : MM) => oEnd σ (t2 (isP σ p ∧ isC c) (σ.2 8 p.toNat = 0)) (sDwelt (σ0 σ) p (σ.1 0) (σ.1 13).toNat) (sComes (σ0 σ) p c) r σ')) X0 := by
  refine Ct.ofJ (own := RX2) (nm := "move") (lo := [some (.ref o), some (IV p), some (IV c), none, none]) pn_X2 rfl rfl (List.forall_mem_cons.mpr ⟨rfl, (List.forall_mem_cons.mpr ⟨rfl, (List.forall_mem_cons.mpr ⟨rfl, (fun _ h => nomatch h)⟩)⟩)⟩) (Nat.le_of_ble_eq_true rfl) rfl ?_
  have hQ : ∀ (r : Int) (σ' : MM), (oEnd σ (t2 (isP σ p ∧ isC c) (σ.2 8 p.toNat = 0)) (sDwelt (σ0 σ) p (σ.1 0) (σ.1 13).toNat) (sComes (σ0 σ) p c) r σ') → (qI (fun (r : Int) (σ' : MM) => oEnd σ (t2 (isP σ p ∧ isC c) (σ.2 8 p.toNat = 0)) (sDwelt (σ0 σ) p (σ.1 0) (σ.1 13).toNat) (sComes (σ0 σ) p c) r σ')) (some (IV r)) σ' := fun r σ' h => ⟨r, rfl, h⟩
  generalize (qI (fun (r : Int) (σ' : MM) => oEnd σ (t2 (isP σ p ∧ isC c) (σ.2 8 p.toNat = 0)) (sDwelt (σ0 σ) p (σ.1 0) (σ.1 13).toNat) (sComes (σ0 σ) p c) r σ')) = QP at hQ ⊢
  have n6 : 0 ≤ σ.1 6 ∧ σ.1 6 ≤ 5 := hB.1 6
  have n9 : 0 ≤ σ.1 9 ∧ σ.1 9 ≤ 20 := hB.1 9
  have n0 : 0 ≤ σ.1 0 ∧ σ.1 0 ≤ 2100 := hB.1 0
  have n14 : 0 ≤ σ.1 14 ∧ σ.1 14 ≤ 5 := hB.1 14
  have n26 : 0 ≤ σ.1 26 ∧ σ.1 26 ≤ 60 := hB.1 26
  have n13 : 0 ≤ σ.1 13 := (hB.1 13).1
  refine j_aload_n (pc := 0) dX2_move_0 rfl ?_
  refine j_iload_n (pc := 1) dX2_move_1 rfl ?_
  refine j_callV (pc := 2) (m_isPerson σ p (by omega) (show 0 ≤ σ.1 9 ∧ σ.1 9 ≤ 20 by omega)) (lw_V q1582 q1584 qs26 q48 q1585) rfl md_yX2_isPerson (RC.ofM _ rfl) (by decide) (by decide) rfl (Nat.le_of_ble_eq_true rfl) dX2_move_2 (qI.k (fun r_2 s_2 q_2 => ?_))
  obtain ⟨e1q_2, e2q_2⟩ := q_2
  subst r_2
  subst s_2
  refine j_ifb_eq (pc := 5) (tgt := 19) dX2_move_5 (by decide) (fun c_5 => ?_) (fun c_5 => ?_)
  · refine j_iconst (pc := 19) dX2_move_19 rfl ?_
    refine j_istore_n (pc := 20) dX2_move_20 (by decide) (lo' := [some (.ref o), some (IV p), some (IV c), some (IV 0), none]) rfl ?_
    refine j_aload_n (pc := 21) dX2_move_21 rfl ?_
    refine j_iload_n (pc := 22) dX2_move_22 rfl ?_
    refine j_iload_n (pc := 23) dX2_move_23 rfl ?_
    refine j_if_eq (pc := 24) (tgt := 40) dX2_move_24 (by decide) (by decide) (fun c_24 => ?_) (fun c_24 => ?_)
    · refine j_iconst (pc := 40) dX2_move_40 rfl ?_
      refine j_callV (pc := 41) (m_asked2 σ 0 0 (Or.inl rfl) (Or.inl rfl)) (lw_V q1538 q1540 qs20 q48 q1541) rfl md_yX2_asked (RC.ofM _ rfl) (by decide) (by decide) rfl (Nat.le_of_ble_eq_true rfl) dX2_move_41 (qI.k (fun r_41 s_41 q_41 => ?_))
      rcases q_41 with ⟨q_41a, rfl, rfl⟩ | ⟨q_41a, rfl, rfl⟩
      · exact absurd q_41a (by simp)
      · have q_41b := q_41a
        refine j_if_ne (pc := 44) (tgt := 49) dX2_move_44 (by decide) (by decide) (fun c_44 => ?_) (fun c_44 => ?_)
        · exact absurd c_44 (by decide)
        · refine j_iconst (pc := 47) dX2_move_47 rfl ?_
          refine j_iret (pc := 48) rfl (hQ _ _ ?_) dX2_move_48
          exact Or.inr ⟨by unfold t2; (repeat' split) <;> omega, rfl, by congr 1; unfold t2; (repeat' split) <;> omega⟩
    · exact absurd c_24 (by decide)
  · refine j_iload_n (pc := 8) dX2_move_8 rfl ?_
    refine j_callS (pc := 9) (m_isCrossing σ c (by omega)) (lw_S q1529 q1530 q48 q1531) md_yX2_isCrossing (by decide) (by decide) rfl (Nat.le_of_ble_eq_true rfl) dX2_move_9 (qI.k (fun r_9 s_9 q_9 => ?_))
    obtain ⟨e1q_9, e2q_9⟩ := q_9
    subst r_9
    subst s_9
    refine j_ifb_eq (pc := 12) (tgt := 19) dX2_move_12 (by decide) (fun c_12 => ?_) (fun c_12 => ?_)
    · refine j_iconst (pc := 19) dX2_move_19 rfl ?_
      refine j_istore_n (pc := 20) dX2_move_20 (by decide) (lo' := [some (.ref o), some (IV p), some (IV c), some (IV 0), none]) rfl ?_
      refine j_aload_n (pc := 21) dX2_move_21 rfl ?_
      refine j_iload_n (pc := 22) dX2_move_22 rfl ?_
      refine j_iload_n (pc := 23) dX2_move_23 rfl ?_
      refine j_if_eq (pc := 24) (tgt := 40) dX2_move_24 (by decide) (by decide) (fun c_24_1 => ?_) (fun c_24_1 => ?_)
      · refine j_iconst (pc := 40) dX2_move_40 rfl ?_
        refine j_callV (pc := 41) (m_asked2 σ 0 0 (Or.inl rfl) (Or.inl rfl)) (lw_V q1538 q1540 qs20 q48 q1541) rfl md_yX2_asked (RC.ofM _ rfl) (by decide) (by decide) rfl (Nat.le_of_ble_eq_true rfl) dX2_move_41 (qI.k (fun r_41_1 s_41_1 q_41_1 => ?_))
        rcases q_41_1 with ⟨q_41_1a, rfl, rfl⟩ | ⟨q_41_1a, rfl, rfl⟩
        · exact absurd q_41_1a (by simp)
        · have q_41_1b := q_41_1a
          refine j_if_ne (pc := 44) (tgt := 49) dX2_move_44 (by decide) (by decide) (fun c_44_1 => ?_) (fun c_44_1 => ?_)
          · exact absurd c_44_1 (by decide)
          · refine j_iconst (pc := 47) dX2_move_47 rfl ?_
            refine j_iret (pc := 48) rfl (hQ _ _ ?_) dX2_move_48
            exact Or.inr ⟨by unfold t2; (repeat' split) <;> omega, rfl, by congr 1; unfold t2; (repeat' split) <;> omega⟩
      · exact absurd c_24_1 (by decide)
    · refine j_iconst (pc := 15) dX2_move_15 rfl ?_
      refine j_goto (pc := 16) (tgt := 20) dX2_move_16 (by decide) ?_
      refine j_istore_n (pc := 20) dX2_move_20 (by decide) (lo' := [some (.ref o), some (IV p), some (IV c), some (IV 1), none]) rfl ?_
      refine j_aload_n (pc := 21) dX2_move_21 rfl ?_
      refine j_iload_n (pc := 22) dX2_move_22 rfl ?_
      refine j_iload_n (pc := 23) dX2_move_23 rfl ?_
      refine j_if_eq (pc := 24) (tgt := 40) dX2_move_24 (by decide) (by decide) (fun c_24_1 => ?_) (fun c_24_1 => ?_)
      · exact absurd c_24_1 (by decide)
      · refine j_aload_n (pc := 27) dX2_move_27 rfl ?_
        refine m_getA (pc := 28) fa_X2_29_X2 (by decide) (by decide) dX2_move_28 ?_
        refine j_iload_n (pc := 31) dX2_move_31 rfl ?_
        refine m_zld (pc := 32) (v := σ.2 8 (p).toNat) (by decide) (by decide) rfl (by show 0 ≤ p ∧ p < ((20 : Nat) : Int); omega) rfl dX2_move_32 ?_
        have n_1 : 0 ≤ σ.2 8 (p).toNat ∧ σ.2 8 (p).toNat ≤ 1 := hB.2 8 ((p).toNat)
        refine j_if_ne (pc := 33) (tgt := 40) dX2_move_33 (by decide) (by omega) (fun c_33 => ?_) (fun c_33 => ?_)
        · refine j_iconst (pc := 40) dX2_move_40 rfl ?_
          refine j_callV (pc := 41) (m_asked2 σ 1 0 (Or.inr rfl) (Or.inl rfl)) (lw_V q1538 q1540 qs20 q48 q1541) rfl md_yX2_asked (RC.ofM _ rfl) (by decide) (by decide) rfl (Nat.le_of_ble_eq_true rfl) dX2_move_41 (qI.k (fun r_41_1 s_41_1 q_41_1 => ?_))
          rcases q_41_1 with ⟨q_41_1a, rfl, rfl⟩ | ⟨q_41_1a, rfl, rfl⟩
          · exact absurd q_41_1a (by simp)
          · have q_41_1b := q_41_1a
            refine j_if_ne (pc := 44) (tgt := 49) dX2_move_44 (by decide) (by decide) (fun c_44_1 => ?_) (fun c_44_1 => ?_)
            · exact absurd c_44_1 (by decide)
            · refine j_iconst (pc := 47) dX2_move_47 rfl ?_
              refine j_iret (pc := 48) rfl (hQ _ _ ?_) dX2_move_48
              exact Or.inr ⟨by unfold t2; (repeat' split) <;> omega, rfl, by congr 1; unfold t2; (repeat' split) <;> omega⟩
        · refine j_iconst (pc := 36) dX2_move_36 rfl ?_
          refine j_goto (pc := 37) (tgt := 41) dX2_move_37 (by decide) ?_
          refine j_callV (pc := 41) (m_asked2 σ 1 1 (Or.inr rfl) (Or.inr rfl)) (lw_V q1538 q1540 qs20 q48 q1541) rfl md_yX2_asked (RC.ofM _ rfl) (by decide) (by decide) rfl (Nat.le_of_ble_eq_true rfl) dX2_move_41 (qI.k (fun r_41_1 s_41_1 q_41_1 => ?_))
          rcases q_41_1 with ⟨q_41_1a, rfl, rfl⟩ | ⟨q_41_1a, rfl, rfl⟩
          · have q_41_1b := q_41_1a
            refine j_if_ne (pc := 44) (tgt := 49) dX2_move_44 (by decide) (by decide) (fun c_44_1 => ?_) (fun c_44_1 => ?_)
            · refine j_aload_n (pc := 49) dX2_move_49 rfl ?_
              refine j_iload_n (pc := 50) dX2_move_50 rfl ?_
              refine j_aload_n (pc := 51) dX2_move_51 rfl ?_
              refine m_getI (pc := 52) (v := σ.1 0) fa_X2_149_X2 (by decide) rfl rfl dX2_move_52 ?_
              have n_2 : 0 ≤ σ.1 0 ∧ σ.1 0 ≤ 2100 := hB.1 0
              refine j_callV (pc := 55) (m_dwelt (setI σ 43 0) p (σ.1 0) (by omega) (by omega) (Bd.i hB (by show 0 ≤ 0 ∧ 0 ≤ (3 : Int); omega))) (lw_V q1586 q1588 qs27 q48 q1589) rfl md_yX2_dwelt (RC.ofM _ rfl) (by decide) (by decide) rfl (Nat.le_of_ble_eq_true rfl) dX2_move_55 (qI.k (fun r_55 s_55 q_55 => ?_))
              obtain ⟨e1q_55, e2q_55⟩ := q_55
              subst r_55
              subst s_55
              refine j_istore (pc := 58) dX2_move_58 (by decide) (lo' := [some (.ref o), some (IV p), some (IV c), some (IV 1), some (IV (sDwelt (setI σ 43 0) p (σ.1 0) ((setI σ 43 0).1 13).toNat))]) rfl ?_
              refine j_aload_n (pc := 60) dX2_move_60 rfl ?_
              refine j_iload_n (pc := 61) dX2_move_61 rfl ?_
              refine j_iload_n (pc := 62) dX2_move_62 rfl ?_
              refine j_callV (pc := 63) (m_comes (setI σ 43 0) p c (show 0 ≤ σ.1 13 ∧ σ.1 13 < 540 by omega)) (lw_V q1574 q1576 qs25 q48 q1577) rfl md_yX2_comes (RC.ofM _ rfl) (by decide) (by decide) rfl (Nat.le_of_ble_eq_true rfl) dX2_move_63 (qV.k (fun s_63 q_63 => ?_))
              obtain rfl := q_63
              refine j_iload (pc := 66) dX2_move_66 rfl ?_
              refine j_iret (pc := 68) rfl (hQ _ _ ?_) dX2_move_68
              exact Or.inl ⟨by unfold t2; (repeat' split) <;> omega, rfl, rfl⟩
            · exact absurd c_44_1 (by decide)
          · exact absurd (by simp) q_41_1a

theorem md_yX2_voids : MD yX2_voids 1 := by decide +kernel
set_option maxHeartbeats 4000000 in
theorem m_die {Γ : GG} {l : Launch} {o : Nat} {ad : Nat → Nat} (σ : MM) (p : Int) (hp : RR p) (hn : σ.1 42 < 1000) (hB : Bd σ) : Ct Γ (AM o ad) (RepM Γ o ad) l yX2_die (ws_ yX2_die cX2_die 3 (some .boolean)) 4 0 0 [.ref o, IV p] σ (qI (fun (r : Int) (σ' : MM) => oEnd σ (t2 (isP σ p) (σ.2 8 p.toNat = 0)) (bI (sSealed (setA (σ0 σ) 8 p.toNat 1) p (σ.1 26).toNat ≠ -1)) (sVoids (setA (σ0 σ) 8 p.toNat 1) p) r σ')) X0 := by
  refine Ct.ofJ (own := RX2) (nm := "die") (lo := [some (.ref o), some (IV p), none]) pn_X2 rfl rfl (List.forall_mem_cons.mpr ⟨rfl, (List.forall_mem_cons.mpr ⟨rfl, (fun _ h => nomatch h)⟩)⟩) (Nat.le_of_ble_eq_true rfl) rfl ?_
  have hQ : ∀ (r : Int) (σ' : MM), (oEnd σ (t2 (isP σ p) (σ.2 8 p.toNat = 0)) (bI (sSealed (setA (σ0 σ) 8 p.toNat 1) p (σ.1 26).toNat ≠ -1)) (sVoids (setA (σ0 σ) 8 p.toNat 1) p) r σ') → (qI (fun (r : Int) (σ' : MM) => oEnd σ (t2 (isP σ p) (σ.2 8 p.toNat = 0)) (bI (sSealed (setA (σ0 σ) 8 p.toNat 1) p (σ.1 26).toNat ≠ -1)) (sVoids (setA (σ0 σ) 8 p.toNat 1) p) r σ')) (some (IV r)) σ' := fun r σ' h => ⟨r, rfl, h⟩
  generalize (qI (fun (r : Int) (σ' : MM) => oEnd σ (t2 (isP σ p) (σ.2 8 p.toNat = 0)) (bI (sSealed (setA (σ0 σ) 8 p.toNat 1) p (σ.1 26).toNat ≠ -1)) (sVoids (setA (σ0 σ) 8 p.toNat 1) p) r σ')) = QP at hQ ⊢
  have n6 : 0 ≤ σ.1 6 ∧ σ.1 6 ≤ 5 := hB.1 6
  have n9 : 0 ≤ σ.1 9 ∧ σ.1 9 ≤ 20 := hB.1 9
  have n0 : 0 ≤ σ.1 0 ∧ σ.1 0 ≤ 2100 := hB.1 0
  have n14 : 0 ≤ σ.1 14 ∧ σ.1 14 ≤ 5 := hB.1 14
  have n26 : 0 ≤ σ.1 26 ∧ σ.1 26 ≤ 60 := hB.1 26
  refine j_aload_n (pc := 0) dX2_die_0 rfl ?_
  refine j_iload_n (pc := 1) dX2_die_1 rfl ?_
  refine j_callV (pc := 2) (m_isPerson σ p (by omega) (show 0 ≤ σ.1 9 ∧ σ.1 9 ≤ 20 by omega)) (lw_V q1582 q1584 qs26 q48 q1585) rfl md_yX2_isPerson (RC.ofM _ rfl) (by decide) (by decide) rfl (Nat.le_of_ble_eq_true rfl) dX2_die_2 (qI.k (fun r_2 s_2 q_2 => ?_))
  obtain ⟨e1q_2, e2q_2⟩ := q_2
  subst r_2
  subst s_2
  refine j_istore_n (pc := 5) dX2_die_5 (by decide) (lo' := [some (.ref o), some (IV p), some (IV (bI (0 ≤ p ∧ p ≤ σ.1 9 - 1)))]) rfl ?_
  refine j_aload_n (pc := 6) dX2_die_6 rfl ?_
  refine j_iload_n (pc := 7) dX2_die_7 rfl ?_
  refine j_iload_n (pc := 8) dX2_die_8 rfl ?_
  refine j_ifb_eq (pc := 9) (tgt := 25) dX2_die_9 (by decide) (fun c_9 => ?_) (fun c_9 => ?_)
  · refine j_iconst (pc := 25) dX2_die_25 rfl ?_
    refine j_callV (pc := 26) (m_asked2 σ (bI (0 ≤ p ∧ p ≤ σ.1 9 - 1)) 0 (bI_01 _) (Or.inl rfl)) (lw_V q1538 q1540 qs20 q48 q1541) rfl md_yX2_asked (RC.ofM _ rfl) (by decide) (by decide) rfl (Nat.le_of_ble_eq_true rfl) dX2_die_26 (qI.k (fun r_26 s_26 q_26 => ?_))
    rcases q_26 with ⟨q_26a, rfl, rfl⟩ | ⟨q_26a, rfl, rfl⟩
    · exact absurd q_26a (by simp)
    · have q_26_0 := bI_or ((0 ≤ p ∧ p ≤ σ.1 9 - 1))
      refine j_if_ne (pc := 29) (tgt := 34) dX2_die_29 (by decide) (by decide) (fun c_29 => ?_) (fun c_29 => ?_)
      · exact absurd c_29 (by decide)
      · refine j_iconst (pc := 32) dX2_die_32 rfl ?_
        refine j_zret (pc := 33) rfl (Or.inl rfl) (hQ _ _ ?_) dX2_die_33
        exact Or.inr ⟨by unfold t2; (repeat' split) <;> omega, rfl, by congr 1; unfold t2; (repeat' split) <;> omega⟩
  · refine j_aload_n (pc := 12) dX2_die_12 rfl ?_
    refine m_getA (pc := 13) fa_X2_29_X2 (by decide) (by decide) dX2_die_13 ?_
    refine j_iload_n (pc := 16) dX2_die_16 rfl ?_
    refine m_zld (pc := 17) (v := σ.2 8 (p).toNat) (by decide) (by decide) rfl (by show 0 ≤ p ∧ p < ((20 : Nat) : Int); omega) rfl dX2_die_17 ?_
    have n_1 : 0 ≤ σ.2 8 (p).toNat ∧ σ.2 8 (p).toNat ≤ 1 := hB.2 8 ((p).toNat)
    refine j_if_ne (pc := 18) (tgt := 25) dX2_die_18 (by decide) (by omega) (fun c_18 => ?_) (fun c_18 => ?_)
    · refine j_iconst (pc := 25) dX2_die_25 rfl ?_
      refine j_callV (pc := 26) (m_asked2 σ (bI (0 ≤ p ∧ p ≤ σ.1 9 - 1)) 0 (bI_01 _) (Or.inl rfl)) (lw_V q1538 q1540 qs20 q48 q1541) rfl md_yX2_asked (RC.ofM _ rfl) (by decide) (by decide) rfl (Nat.le_of_ble_eq_true rfl) dX2_die_26 (qI.k (fun r_26_1 s_26_1 q_26_1 => ?_))
      rcases q_26_1 with ⟨q_26_1a, rfl, rfl⟩ | ⟨q_26_1a, rfl, rfl⟩
      · exact absurd q_26_1a (by simp)
      · have q_26_1_0 := bI_or ((0 ≤ p ∧ p ≤ σ.1 9 - 1))
        refine j_if_ne (pc := 29) (tgt := 34) dX2_die_29 (by decide) (by decide) (fun c_29_1 => ?_) (fun c_29_1 => ?_)
        · exact absurd c_29_1 (by decide)
        · refine j_iconst (pc := 32) dX2_die_32 rfl ?_
          refine j_zret (pc := 33) rfl (Or.inl rfl) (hQ _ _ ?_) dX2_die_33
          exact Or.inr ⟨by unfold t2; (repeat' split) <;> omega, rfl, by congr 1; unfold t2; (repeat' split) <;> omega⟩
    · refine j_iconst (pc := 21) dX2_die_21 rfl ?_
      refine j_goto (pc := 22) (tgt := 26) dX2_die_22 (by decide) ?_
      refine j_callV (pc := 26) (m_asked2 σ (bI (0 ≤ p ∧ p ≤ σ.1 9 - 1)) 1 (bI_01 _) (Or.inr rfl)) (lw_V q1538 q1540 qs20 q48 q1541) rfl md_yX2_asked (RC.ofM _ rfl) (by decide) (by decide) rfl (Nat.le_of_ble_eq_true rfl) dX2_die_26 (qI.k (fun r_26_1 s_26_1 q_26_1 => ?_))
      rcases q_26_1 with ⟨q_26_1a, rfl, rfl⟩ | ⟨q_26_1a, rfl, rfl⟩
      · have q_26_1_0 := bI_or ((0 ≤ p ∧ p ≤ σ.1 9 - 1))
        refine j_if_ne (pc := 29) (tgt := 34) dX2_die_29 (by decide) (by decide) (fun c_29_1 => ?_) (fun c_29_1 => ?_)
        · refine j_aload_n (pc := 34) dX2_die_34 rfl ?_
          refine m_getA (pc := 35) fa_X2_29_X2 (by decide) (by decide) dX2_die_35 ?_
          refine j_iload_n (pc := 38) dX2_die_38 rfl ?_
          refine j_iconst (pc := 39) dX2_die_39 rfl ?_
          refine m_zst (pc := 40) (by decide) (by decide) rfl (by show 0 ≤ p ∧ p < ((20 : Nat) : Int); omega) (Or.inr rfl) dX2_die_40 ?_
          refine j_aload_n (pc := 41) dX2_die_41 rfl ?_
          refine j_iload_n (pc := 42) dX2_die_42 rfl ?_
          refine j_callV (pc := 43) (m_voids (setA (setI σ 43 0) 8 (p).toNat 1) p (by omega) (Bd.a (Bd.i hB (by show 0 ≤ 0 ∧ 0 ≤ (3 : Int); omega)) (by show (0 : Int) ≤ 1 ∧ 1 ≤ (1 : Int); omega)) (by exact hn)) (lw_V q1594 q1596 qs28 q48 q1597) rfl md_yX2_voids (RC.ofM _ rfl) (by decide) (by decide) rfl (Nat.le_of_ble_eq_true rfl) dX2_die_43 (qI.k (fun r_43 s_43 q_43 => ?_))
          obtain ⟨e1q_43, e2q_43⟩ := q_43
          subst r_43
          subst s_43
          refine j_zret (pc := 46) rfl (bI_01 _) (hQ _ _ ?_) dX2_die_46
          exact Or.inl ⟨by unfold t2; (repeat' split) <;> omega, rfl, rfl⟩
        · exact absurd c_29_1 (by decide)
      · have q_26_1_0 := bI_or ((0 ≤ p ∧ p ≤ σ.1 9 - 1))
        refine j_if_ne (pc := 29) (tgt := 34) dX2_die_29 (by decide) (by decide) (fun c_29_1 => ?_) (fun c_29_1 => ?_)
        · exact absurd c_29_1 (by decide)
        · refine j_iconst (pc := 32) dX2_die_32 rfl ?_
          refine j_zret (pc := 33) rfl (Or.inl rfl) (hQ _ _ ?_) dX2_die_33
          exact Or.inr ⟨by unfold t2; (repeat' split) <;> omega, rfl, by congr 1; unfold t2; (repeat' split) <;> omega⟩

theorem fa_X2_45_X2 : FA RX2 45 1 18 := ⟨RX2, TX2, 44, "BallotFoundryModel", rfl, in_X2, by decide, q1406, Or.inl rfl⟩
set_option maxHeartbeats 4000000 in
theorem m_seed {Γ : GG} {l : Launch} {o : Nat} {ad : Nat → Nat} (σ : MM) (p : Int) (v : Int) (hp : RR p) (hv : RR v) (hB : Bd σ) : Ct Γ (AM o ad) (RepM Γ o ad) l yX2_seed (ws_ yX2_seed cX2_seed 5 (some .int)) 4 0 0 [.ref o, IV p, IV v] σ (qI (fun (r : Int) (σ' : MM) => oEnd σ (t3 (0 ≤ p ∧ p ≤ 4) (0 ≤ v ∧ v ≤ 9999) (σ.1 14 = 1 ∨ σ.1 14 = 2)) (σ.2 18 p.toNat) (setA (σ0 σ) 18 p.toNat v) r σ')) X0 := by
  refine Ct.ofJ (own := RX2) (nm := "seed") (lo := [some (.ref o), some (IV p), some (IV v), none, none]) pn_X2 rfl rfl (List.forall_mem_cons.mpr ⟨rfl, (List.forall_mem_cons.mpr ⟨rfl, (List.forall_mem_cons.mpr ⟨rfl, (fun _ h => nomatch h)⟩)⟩)⟩) (Nat.le_of_ble_eq_true rfl) rfl ?_
  have hQ : ∀ (r : Int) (σ' : MM), (oEnd σ (t3 (0 ≤ p ∧ p ≤ 4) (0 ≤ v ∧ v ≤ 9999) (σ.1 14 = 1 ∨ σ.1 14 = 2)) (σ.2 18 p.toNat) (setA (σ0 σ) 18 p.toNat v) r σ') → (qI (fun (r : Int) (σ' : MM) => oEnd σ (t3 (0 ≤ p ∧ p ≤ 4) (0 ≤ v ∧ v ≤ 9999) (σ.1 14 = 1 ∨ σ.1 14 = 2)) (σ.2 18 p.toNat) (setA (σ0 σ) 18 p.toNat v) r σ')) (some (IV r)) σ' := fun r σ' h => ⟨r, rfl, h⟩
  generalize (qI (fun (r : Int) (σ' : MM) => oEnd σ (t3 (0 ≤ p ∧ p ≤ 4) (0 ≤ v ∧ v ≤ 9999) (σ.1 14 = 1 ∨ σ.1 14 = 2)) (σ.2 18 p.toNat) (setA (σ0 σ) 18 p.toNat v) r σ')) = QP at hQ ⊢
  have n6 : 0 ≤ σ.1 6 ∧ σ.1 6 ≤ 5 := hB.1 6
  have n9 : 0 ≤ σ.1 9 ∧ σ.1 9 ≤ 20 := hB.1 9
  have n0 : 0 ≤ σ.1 0 ∧ σ.1 0 ≤ 2100 := hB.1 0
  have n14 : 0 ≤ σ.1 14 ∧ σ.1 14 ≤ 5 := hB.1 14
  have n26 : 0 ≤ σ.1 26 ∧ σ.1 26 ≤ 60 := hB.1 26
  refine j_iload_n (pc := 0) dX2_seed_0 rfl ?_
  refine j_iconst (pc := 1) dX2_seed_1 rfl ?_
  refine j_iconst (pc := 2) dX2_seed_2 rfl ?_
  refine j_callS (pc := 3) (m_in σ p 0 4 (by omega) (by decide) (by decide)) (lw_S q1532 q1533 q48 q1534) md_yX2_in (by decide) (by decide) rfl (Nat.le_of_ble_eq_true rfl) dX2_seed_3 (qI.k (fun r_3 s_3 q_3 => ?_))
  obtain ⟨e1q_3, e2q_3⟩ := q_3
  subst r_3
  subst s_3
  refine j_istore_n (pc := 6) dX2_seed_6 (by decide) (lo' := [some (.ref o), some (IV p), some (IV v), some (IV (bI (0 ≤ p ∧ p ≤ 4))), none]) rfl ?_
  refine j_aload_n (pc := 7) dX2_seed_7 rfl ?_
  refine j_iload_n (pc := 8) dX2_seed_8 rfl ?_
  refine j_iload_n (pc := 9) dX2_seed_9 rfl ?_
  refine j_iconst (pc := 10) dX2_seed_10 rfl ?_
  refine j_sipush (pc := 11) (a := 9999) dX2_seed_11 (by decide) ?_
  refine j_callS (pc := 14) (m_in σ v 0 9999 (by omega) (by decide) (by decide)) (lw_S q1532 q1533 q48 q1534) md_yX2_in (by decide) (by decide) rfl (Nat.le_of_ble_eq_true rfl) dX2_seed_14 (qI.k (fun r_14 s_14 q_14 => ?_))
  obtain ⟨e1q_14, e2q_14⟩ := q_14
  subst r_14
  subst s_14
  refine j_aload_n (pc := 17) dX2_seed_17 rfl ?_
  refine m_getI (pc := 18) (v := σ.1 14) fa_X2_41_X2 (by decide) rfl rfl dX2_seed_18 ?_
  have n_1 : 0 ≤ σ.1 14 ∧ σ.1 14 ≤ 5 := hB.1 14
  refine j_iconst (pc := 21) dX2_seed_21 rfl ?_
  refine j_icmp_eq (pc := 22) (tgt := 33) dX2_seed_22 (by decide) (by omega) (by decide) (fun c_22 => ?_) (fun c_22 => ?_)
  · refine j_iconst (pc := 33) dX2_seed_33 rfl ?_
    refine j_goto (pc := 34) (tgt := 38) dX2_seed_34 (by decide) ?_
    refine j_callV (pc := 38) (m_asked3 σ (bI (0 ≤ p ∧ p ≤ 4)) (bI (0 ≤ v ∧ v ≤ 9999)) 1 (bI_01 _) (bI_01 _) (Or.inr rfl)) (lw_V q1558 q1560 qs23 q48 q1561) rfl md_yX2_asked_3 (RC.ofM _ rfl) (by decide) (by decide) rfl (Nat.le_of_ble_eq_true rfl) dX2_seed_38 (qI.k (fun r_38 s_38 q_38 => ?_))
    rcases q_38 with ⟨q_38a, rfl, rfl⟩ | ⟨q_38a, rfl, rfl⟩
    · have q_38_0 := bI_or ((0 ≤ p ∧ p ≤ 4))
      have q_38_1 := bI_or ((0 ≤ v ∧ v ≤ 9999))
      refine j_if_ne (pc := 41) (tgt := 46) dX2_seed_41 (by decide) (by decide) (fun c_41 => ?_) (fun c_41 => ?_)
      · refine j_aload_n (pc := 46) dX2_seed_46 rfl ?_
        refine m_getA (pc := 47) fa_X2_45_X2 (by decide) (by decide) dX2_seed_47 ?_
        refine j_iload_n (pc := 50) dX2_seed_50 rfl ?_
        refine m_ld (pc := 51) (v := σ.2 18 (p).toNat) (by decide) (by decide) rfl (by show 0 ≤ p ∧ p < ((5 : Nat) : Int); omega) rfl dX2_seed_51 ?_
        have n_2 : 0 ≤ σ.2 18 (p).toNat ∧ σ.2 18 (p).toNat ≤ 9999 := hB.2 18 ((p).toNat)
        refine j_istore (pc := 52) dX2_seed_52 (by decide) (lo' := [some (.ref o), some (IV p), some (IV v), some (IV (bI (0 ≤ p ∧ p ≤ 4))), some (IV (σ.2 18 (p).toNat))]) rfl ?_
        refine j_aload_n (pc := 54) dX2_seed_54 rfl ?_
        refine m_getA (pc := 55) fa_X2_45_X2 (by decide) (by decide) dX2_seed_55 ?_
        refine j_iload_n (pc := 58) dX2_seed_58 rfl ?_
        refine j_iload_n (pc := 59) dX2_seed_59 rfl ?_
        refine m_st (pc := 60) (by decide) (by decide) rfl (by show 0 ≤ p ∧ p < ((5 : Nat) : Int); omega) dX2_seed_60 ?_
        refine j_iload (pc := 61) dX2_seed_61 rfl ?_
        refine j_iret (pc := 63) rfl (hQ _ _ ?_) dX2_seed_63
        exact Or.inl ⟨by unfold t3; (repeat' split) <;> omega, rfl, rfl⟩
      · exact absurd c_41 (by decide)
    · have q_38_0 := bI_or ((0 ≤ p ∧ p ≤ 4))
      have q_38_1 := bI_or ((0 ≤ v ∧ v ≤ 9999))
      refine j_if_ne (pc := 41) (tgt := 46) dX2_seed_41 (by decide) (by decide) (fun c_41_1 => ?_) (fun c_41_1 => ?_)
      · exact absurd c_41_1 (by decide)
      · refine j_iconst (pc := 44) dX2_seed_44 rfl ?_
        refine j_iret (pc := 45) rfl (hQ _ _ ?_) dX2_seed_45
        exact Or.inr ⟨by unfold t3; (repeat' split) <;> omega, rfl, by congr 1; unfold t3; (repeat' split) <;> omega⟩
  · refine j_aload_n (pc := 25) dX2_seed_25 rfl ?_
    refine m_getI (pc := 26) (v := σ.1 14) fa_X2_41_X2 (by decide) rfl rfl dX2_seed_26 ?_
    refine j_iconst (pc := 29) dX2_seed_29 rfl ?_
    refine j_icmp_ne (pc := 30) (tgt := 37) dX2_seed_30 (by decide) (by omega) (by decide) (fun c_30 => ?_) (fun c_30 => ?_)
    · refine j_iconst (pc := 37) dX2_seed_37 rfl ?_
      refine j_callV (pc := 38) (m_asked3 σ (bI (0 ≤ p ∧ p ≤ 4)) (bI (0 ≤ v ∧ v ≤ 9999)) 0 (bI_01 _) (bI_01 _) (Or.inl rfl)) (lw_V q1558 q1560 qs23 q48 q1561) rfl md_yX2_asked_3 (RC.ofM _ rfl) (by decide) (by decide) rfl (Nat.le_of_ble_eq_true rfl) dX2_seed_38 (qI.k (fun r_38_1 s_38_1 q_38_1 => ?_))
      rcases q_38_1 with ⟨q_38_1a, rfl, rfl⟩ | ⟨q_38_1a, rfl, rfl⟩
      · exact absurd q_38_1a (by simp)
      · have q_38_1_0 := bI_or ((0 ≤ p ∧ p ≤ 4))
        have q_38_1_1 := bI_or ((0 ≤ v ∧ v ≤ 9999))
        refine j_if_ne (pc := 41) (tgt := 46) dX2_seed_41 (by decide) (by decide) (fun c_41_1 => ?_) (fun c_41_1 => ?_)
        · exact absurd c_41_1 (by decide)
        · refine j_iconst (pc := 44) dX2_seed_44 rfl ?_
          refine j_iret (pc := 45) rfl (hQ _ _ ?_) dX2_seed_45
          exact Or.inr ⟨by unfold t3; (repeat' split) <;> omega, rfl, by congr 1; unfold t3; (repeat' split) <;> omega⟩
    · refine j_iconst (pc := 33) dX2_seed_33 rfl ?_
      refine j_goto (pc := 34) (tgt := 38) dX2_seed_34 (by decide) ?_
      refine j_callV (pc := 38) (m_asked3 σ (bI (0 ≤ p ∧ p ≤ 4)) (bI (0 ≤ v ∧ v ≤ 9999)) 1 (bI_01 _) (bI_01 _) (Or.inr rfl)) (lw_V q1558 q1560 qs23 q48 q1561) rfl md_yX2_asked_3 (RC.ofM _ rfl) (by decide) (by decide) rfl (Nat.le_of_ble_eq_true rfl) dX2_seed_38 (qI.k (fun r_38_1 s_38_1 q_38_1 => ?_))
      rcases q_38_1 with ⟨q_38_1a, rfl, rfl⟩ | ⟨q_38_1a, rfl, rfl⟩
      · have q_38_1_0 := bI_or ((0 ≤ p ∧ p ≤ 4))
        have q_38_1_1 := bI_or ((0 ≤ v ∧ v ≤ 9999))
        refine j_if_ne (pc := 41) (tgt := 46) dX2_seed_41 (by decide) (by decide) (fun c_41_1 => ?_) (fun c_41_1 => ?_)
        · refine j_aload_n (pc := 46) dX2_seed_46 rfl ?_
          refine m_getA (pc := 47) fa_X2_45_X2 (by decide) (by decide) dX2_seed_47 ?_
          refine j_iload_n (pc := 50) dX2_seed_50 rfl ?_
          refine m_ld (pc := 51) (v := σ.2 18 (p).toNat) (by decide) (by decide) rfl (by show 0 ≤ p ∧ p < ((5 : Nat) : Int); omega) rfl dX2_seed_51 ?_
          have n_3 : 0 ≤ σ.2 18 (p).toNat ∧ σ.2 18 (p).toNat ≤ 9999 := hB.2 18 ((p).toNat)
          refine j_istore (pc := 52) dX2_seed_52 (by decide) (lo' := [some (.ref o), some (IV p), some (IV v), some (IV (bI (0 ≤ p ∧ p ≤ 4))), some (IV (σ.2 18 (p).toNat))]) rfl ?_
          refine j_aload_n (pc := 54) dX2_seed_54 rfl ?_
          refine m_getA (pc := 55) fa_X2_45_X2 (by decide) (by decide) dX2_seed_55 ?_
          refine j_iload_n (pc := 58) dX2_seed_58 rfl ?_
          refine j_iload_n (pc := 59) dX2_seed_59 rfl ?_
          refine m_st (pc := 60) (by decide) (by decide) rfl (by show 0 ≤ p ∧ p < ((5 : Nat) : Int); omega) dX2_seed_60 ?_
          refine j_iload (pc := 61) dX2_seed_61 rfl ?_
          refine j_iret (pc := 63) rfl (hQ _ _ ?_) dX2_seed_63
          exact Or.inl ⟨by unfold t3; (repeat' split) <;> omega, rfl, rfl⟩
        · exact absurd c_41_1 (by decide)
      · have q_38_1_0 := bI_or ((0 ≤ p ∧ p ≤ 4))
        have q_38_1_1 := bI_or ((0 ≤ v ∧ v ≤ 9999))
        refine j_if_ne (pc := 41) (tgt := 46) dX2_seed_41 (by decide) (by decide) (fun c_41_1 => ?_) (fun c_41_1 => ?_)
        · exact absurd c_41_1 (by decide)
        · refine j_iconst (pc := 44) dX2_seed_44 rfl ?_
          refine j_iret (pc := 45) rfl (hQ _ _ ?_) dX2_seed_45
          exact Or.inr ⟨by unfold t3; (repeat' split) <;> omega, rfl, by congr 1; unfold t3; (repeat' split) <;> omega⟩

theorem fa_X2_78_X2 : FA RX2 78 1 31 := ⟨RX2, TX2, 44, "BallotFoundryModel", rfl, in_X2, by decide, q1419, Or.inl rfl⟩
set_option maxHeartbeats 4000000 in
theorem m_recount {Γ : GG} {l : Launch} {o : Nat} {ad : Nat → Nat} (σ : MM) (s : Int) (hs : RR s) (hB : Bd σ) : Ct Γ (AM o ad) (RepM Γ o ad) l yX2_recount (ws_ yX2_recount cX2_recount 4 (some .int)) 4 0 0 [.ref o, IV s] σ (qI (fun (r : Int) (σ' : MM) => oEnd σ (t2 (isS σ s) (σ.1 14 = 4)) (σ.2 31 s.toNat) (setA (setA (σ0 σ) 31 s.toNat 0) 32 s.toNat (-1)) r σ')) X0 := by
  refine Ct.ofJ (own := RX2) (nm := "recount") (lo := [some (.ref o), some (IV s), none, none]) pn_X2 rfl rfl (List.forall_mem_cons.mpr ⟨rfl, (List.forall_mem_cons.mpr ⟨rfl, (fun _ h => nomatch h)⟩)⟩) (Nat.le_of_ble_eq_true rfl) rfl ?_
  have hQ : ∀ (r : Int) (σ' : MM), (oEnd σ (t2 (isS σ s) (σ.1 14 = 4)) (σ.2 31 s.toNat) (setA (setA (σ0 σ) 31 s.toNat 0) 32 s.toNat (-1)) r σ') → (qI (fun (r : Int) (σ' : MM) => oEnd σ (t2 (isS σ s) (σ.1 14 = 4)) (σ.2 31 s.toNat) (setA (setA (σ0 σ) 31 s.toNat 0) 32 s.toNat (-1)) r σ')) (some (IV r)) σ' := fun r σ' h => ⟨r, rfl, h⟩
  generalize (qI (fun (r : Int) (σ' : MM) => oEnd σ (t2 (isS σ s) (σ.1 14 = 4)) (σ.2 31 s.toNat) (setA (setA (σ0 σ) 31 s.toNat 0) 32 s.toNat (-1)) r σ')) = QP at hQ ⊢
  have n6 : 0 ≤ σ.1 6 ∧ σ.1 6 ≤ 5 := hB.1 6
  have n9 : 0 ≤ σ.1 9 ∧ σ.1 9 ≤ 20 := hB.1 9
  have n0 : 0 ≤ σ.1 0 ∧ σ.1 0 ≤ 2100 := hB.1 0
  have n14 : 0 ≤ σ.1 14 ∧ σ.1 14 ≤ 5 := hB.1 14
  have n26 : 0 ≤ σ.1 26 ∧ σ.1 26 ≤ 60 := hB.1 26
  refine j_aload_n (pc := 0) dX2_recount_0 rfl ?_
  refine j_iload_n (pc := 1) dX2_recount_1 rfl ?_
  refine j_callV (pc := 2) (m_isStation σ s (by omega) (show 0 ≤ σ.1 6 ∧ σ.1 6 ≤ 5 by omega)) (lw_V q1566 q1568 qs24 q48 q1569) rfl md_yX2_isStation (RC.ofM _ rfl) (by decide) (by decide) rfl (Nat.le_of_ble_eq_true rfl) dX2_recount_2 (qI.k (fun r_2 s_2 q_2 => ?_))
  obtain ⟨e1q_2, e2q_2⟩ := q_2
  subst r_2
  subst s_2
  refine j_istore_n (pc := 5) dX2_recount_5 (by decide) (lo' := [some (.ref o), some (IV s), some (IV (bI (0 ≤ s ∧ s ≤ σ.1 6 - 1))), none]) rfl ?_
  refine j_aload_n (pc := 6) dX2_recount_6 rfl ?_
  refine j_iload_n (pc := 7) dX2_recount_7 rfl ?_
  refine j_aload_n (pc := 8) dX2_recount_8 rfl ?_
  refine m_getI (pc := 9) (v := σ.1 14) fa_X2_41_X2 (by decide) rfl rfl dX2_recount_9 ?_
  have n_1 : 0 ≤ σ.1 14 ∧ σ.1 14 ≤ 5 := hB.1 14
  refine j_iconst (pc := 12) dX2_recount_12 rfl ?_
  refine j_icmp_ne (pc := 13) (tgt := 20) dX2_recount_13 (by decide) (by omega) (by decide) (fun c_13 => ?_) (fun c_13 => ?_)
  · refine j_iconst (pc := 20) dX2_recount_20 rfl ?_
    refine j_callV (pc := 21) (m_asked2 σ (bI (0 ≤ s ∧ s ≤ σ.1 6 - 1)) 0 (bI_01 _) (Or.inl rfl)) (lw_V q1538 q1540 qs20 q48 q1541) rfl md_yX2_asked (RC.ofM _ rfl) (by decide) (by decide) rfl (Nat.le_of_ble_eq_true rfl) dX2_recount_21 (qI.k (fun r_21 s_21 q_21 => ?_))
    rcases q_21 with ⟨q_21a, rfl, rfl⟩ | ⟨q_21a, rfl, rfl⟩
    · exact absurd q_21a (by simp)
    · have q_21_0 := bI_or ((0 ≤ s ∧ s ≤ σ.1 6 - 1))
      refine j_if_ne (pc := 24) (tgt := 29) dX2_recount_24 (by decide) (by decide) (fun c_24 => ?_) (fun c_24 => ?_)
      · exact absurd c_24 (by decide)
      · refine j_iconst (pc := 27) dX2_recount_27 rfl ?_
        refine j_iret (pc := 28) rfl (hQ _ _ ?_) dX2_recount_28
        exact Or.inr ⟨by unfold t2; (repeat' split) <;> omega, rfl, by congr 1; unfold t2; (repeat' split) <;> omega⟩
  · refine j_iconst (pc := 16) dX2_recount_16 rfl ?_
    refine j_goto (pc := 17) (tgt := 21) dX2_recount_17 (by decide) ?_
    refine j_callV (pc := 21) (m_asked2 σ (bI (0 ≤ s ∧ s ≤ σ.1 6 - 1)) 1 (bI_01 _) (Or.inr rfl)) (lw_V q1538 q1540 qs20 q48 q1541) rfl md_yX2_asked (RC.ofM _ rfl) (by decide) (by decide) rfl (Nat.le_of_ble_eq_true rfl) dX2_recount_21 (qI.k (fun r_21_1 s_21_1 q_21_1 => ?_))
    rcases q_21_1 with ⟨q_21_1a, rfl, rfl⟩ | ⟨q_21_1a, rfl, rfl⟩
    · have q_21_1_0 := bI_or ((0 ≤ s ∧ s ≤ σ.1 6 - 1))
      refine j_if_ne (pc := 24) (tgt := 29) dX2_recount_24 (by decide) (by decide) (fun c_24_1 => ?_) (fun c_24_1 => ?_)
      · refine j_aload_n (pc := 29) dX2_recount_29 rfl ?_
        refine m_getA (pc := 30) fa_X2_78_X2 (by decide) (by decide) dX2_recount_30 ?_
        refine j_iload_n (pc := 33) dX2_recount_33 rfl ?_
        refine m_ld (pc := 34) (v := σ.2 31 (s).toNat) (by decide) (by decide) rfl (by show 0 ≤ s ∧ s < ((5 : Nat) : Int); omega) rfl dX2_recount_34 ?_
        have n_2 : 0 ≤ σ.2 31 (s).toNat ∧ σ.2 31 (s).toNat ≤ 8 := hB.2 31 ((s).toNat)
        refine j_istore_n (pc := 35) dX2_recount_35 (by decide) (lo' := [some (.ref o), some (IV s), some (IV (bI (0 ≤ s ∧ s ≤ σ.1 6 - 1))), some (IV (σ.2 31 (s).toNat))]) rfl ?_
        refine j_aload_n (pc := 36) dX2_recount_36 rfl ?_
        refine m_getA (pc := 37) fa_X2_78_X2 (by decide) (by decide) dX2_recount_37 ?_
        refine j_iload_n (pc := 40) dX2_recount_40 rfl ?_
        refine j_iconst (pc := 41) dX2_recount_41 rfl ?_
        refine m_st (pc := 42) (by decide) (by decide) rfl (by show 0 ≤ s ∧ s < ((5 : Nat) : Int); omega) dX2_recount_42 ?_
        refine j_aload_n (pc := 43) dX2_recount_43 rfl ?_
        refine m_getA (pc := 44) fa_X2_81_X2 (by decide) (by decide) dX2_recount_44 ?_
        refine j_iload_n (pc := 47) dX2_recount_47 rfl ?_
        refine j_iconst (pc := 48) dX2_recount_48 rfl ?_
        refine m_st (pc := 49) (by decide) (by decide) rfl (by show 0 ≤ s ∧ s < ((5 : Nat) : Int); omega) dX2_recount_49 ?_
        refine j_iload_n (pc := 50) dX2_recount_50 rfl ?_
        refine j_iret (pc := 51) rfl (hQ _ _ ?_) dX2_recount_51
        exact Or.inl ⟨by unfold t2; (repeat' split) <;> omega, rfl, rfl⟩
      · exact absurd c_24_1 (by decide)
    · have q_21_1_0 := bI_or ((0 ≤ s ∧ s ≤ σ.1 6 - 1))
      refine j_if_ne (pc := 24) (tgt := 29) dX2_recount_24 (by decide) (by decide) (fun c_24_1 => ?_) (fun c_24_1 => ?_)
      · exact absurd c_24_1 (by decide)
      · refine j_iconst (pc := 27) dX2_recount_27 rfl ?_
        refine j_iret (pc := 28) rfl (hQ _ _ ?_) dX2_recount_28
        exact Or.inr ⟨by unfold t2; (repeat' split) <;> omega, rfl, by congr 1; unfold t2; (repeat' split) <;> omega⟩

